/-! THE SYSTEM: a world copied -/
set_option maxRecDepth 100000
theorem xnot2 {a b e : Nat} {M : xM} (h : e ∉ xad M) (ha : a ∈ xad M) (hb : b ∈ xad M) : e ≠ a ∧ e ≠ b := ⟨fun q => h (q ▸ ha), fun q => h (q ▸ hb)⟩
theorem xnone : ∀ i v, (fun _ : Nat => (none : Option Nat)) i = some v → False := fun _ _ q => by cases q
theorem xadm {M : xM} {k a : Nat} {c : rv_C} (h : M[k]? = some (a, c)) : a ∈ xad M := List.mem_of_getElem? (xad_at h)
/-- an own list made of 2 cells, full as far as it goes -/
theorem xAL.of {G : rv_G} {a ed cap : Nat} {mc : Int32} {es : List Nat} {f : Nat → Option Nat} (h1 : 0 < cap ∧ cap < 10000) (h2 : es.length ≤ cap) (h3 : lsf es f) (h4 : ∀ i v, es.length ≤ i → f i = some v → False) : xAL G a es [(a, lO mc ed es.length), (ed, cR cap f)] := ⟨mc, ed, Or.inl ⟨cap, f, rfl, h1, h2, h3, h4⟩⟩
theorem x_copy {G : rv_G} (hG : rv_GK G) {d wd n m : Nat} (hd : 6 ≤ d) {rel ta st tg ru de fi sk : Nat} {tgd rn dn now : Int32} {es1 es2 es3 es4 es5 es6 : List Nat} {F : xF} {h : rv_H} (hW : xr G F wd (cW rel ta st tg tgd ru de rn dn fi sk now)) (h1 : xLs G (xr G F) rel es1) (h2 : xLs G (xr G F) ta es2) (h3 : xLs G (xr G F) ru es3) (h4 : xLs G (xr G F) de es4) (h5 : xLs G (xr G F) fi es5) (h6 : xLs G (xr G F) sk es6) (e1 : es1.length ≤ 8 ∧ ∀ e, e ∈ es1 → xElm G F e) (e2 : es2.length ≤ 60 ∧ ∀ e, e ∈ es2 → xElm G F e) (e3 : es3.length ≤ 10 ∧ ∀ e, e ∈ es3 → xElm G F e) (e4 : es4.length ≤ 6 ∧ ∀ e, e ∈ es4 → xElm G F e) (e5 : es5.length ≤ 300 ∧ ∀ e, e ∈ es5 → xElm G F e) (e6 : es6.length ≤ 8 ∧ ∀ e, e ∈ es6 → xElm G F e) (hn : 30 ≤ n) (hm : 1400 ≤ m) (hH : xH G F [] n m h) : rv_Call G d yX2_copy wX2_copy [.ref wd] h (xN (fun u h' => ∃ (nx rel1 ta1 ru1 de1 fi1 sk1 : Nat) (N1 N2 N3 N4 N5 N6 : xM), u = some (.ref nx) ∧ (xAL G rel1 es1 N1 ∧ xAL G ta1 es2 N2 ∧ xAL G ru1 es3 N3 ∧ xAL G de1 es4 N4 ∧ xAL G fi1 es5 N5 ∧ xAL G sk1 es6 N6) ∧ xS G F h [] ((nx, cW rel1 ta1 st tg tgd ru1 de1 rn dn fi1 sk1 now) :: (N1 ++ (N2 ++ (N3 ++ (N4 ++ (N6 ++ N5)))))) (n - 30) (m - 1400) h')) := by
  refine rv_start hG (by decide +kernel) (L := [some (.ref wd), none]) rfl (Nat.le_of_ble_eq_true rfl) (fun X hX1 hX hE => ?_)
  subst hX1
  have hS := hH.start
  obtain ⟨u1, v1, w1, p1, q1, -⟩ := id h1
  obtain ⟨u2, v2, w2, p2, q2, -⟩ := id h2
  obtain ⟨u3, v3, w3, p3, q3, -⟩ := id h3
  obtain ⟨u4, v4, w4, p4, q4, -⟩ := id h4
  obtain ⟨u5, v5, w5, p5, q5, -⟩ := id h5
  obtain ⟨u6, v6, w6, p6, q6, -⟩ := id h6
  refine xv_new hX hS nX2_15 (by omega) (show 12 ≤ _ by omega) dX2_copy_0 (fun a_0 h_0 hS => ?_)
  have hS := hS.bud (Nat.le_refl _) (show _ - 12 ≤ _ from Nat.le_refl _)
  refine rv_dup hX dX2_copy_3 rfl ?_
  refine rv_invI hX iX2_47 mdX2_init rfl (x_worldInit hG (d := d - 1) (by omega) (by omega) (by omega) (hS.cpre0 [] 1 rfl rfl rfl)) (by omega) rfl rfl (Nat.le_of_ble_eq_true rfl) dX2_copy_4 (fun v h' hq => ?_) (fun E h' hq => by first | exact hq.elim | cases hq.2 | cases hq.1)
  obtain ⟨rel1, r2, ta1, t2, st1, sn, sr, tg1, ru1, b2, de1, d2, fi1, ed, sk1, k2, hu, ⟨ho, hz⟩, hQ⟩ := hq
  have hS := hS.cpost0 [] 1 rfl rfl rfl hQ
  cases hu
  refine rv_astore_n hX dX2_copy_7 (rv_st_1 rfl) ?_
  refine rv_aload_n hX dX2_copy_8 rfl ?_
  refine rv_getfR hX gX2_14_X2 (hS.mc (k := 0) rfl) rfl dX2_copy_9 ?_
  refine rv_aload_n hX dX2_copy_12 rfl ?_
  refine rv_getfR hX gX2_14_X2 (hS.f hW) rfl dX2_copy_13 ?_
  refine rv_invVR hX iX2_48 mdJ2_addAll (hS.mc (k := 1) rfl) ⟨TJ2, 3, rv_c17⟩ (j_addAllC hG (d := d - 1) (by omega) e1.1 (by decide) (h1.mono (fun _ _ => hS.f)) (xnot2 (xown_ne hS.1 q1) (xadm (k := 1) rfl) (xadm (k := 2) rfl)) (xlel_of e1.2 hS.1) xnone (fun e he => xnot2 ((e1.2 e he).ne hS.1) (xadm (k := 1) rfl) (xadm (k := 2) rfl)) (by omega) (by omega) (hS.cpre0 [0,1,1] 0 rfl rfl rfl)) (by omega) rfl rfl (Nat.le_of_ble_eq_true rfl) dX2_copy_16 (fun v h' hq => ?_) (fun E h' hq => by first | exact hq.elim | cases hq.2 | cases hq.1)
  obtain ⟨mc1, g1, hu, hl1, ho1, hQ⟩ := hq
  have hS := hS.cpost0 [0,1,1] 0 rfl rfl rfl hQ
  cases hu
  refine rv_pop hX dX2_copy_19 rfl ?_
  refine rv_aload_n hX dX2_copy_20 rfl ?_
  refine rv_getfR hX gX2_20_X2 (hS.mc (k := 0) rfl) rfl dX2_copy_21 ?_
  refine rv_aload_n hX dX2_copy_24 rfl ?_
  refine rv_getfR hX gX2_20_X2 (hS.f hW) rfl dX2_copy_25 ?_
  refine rv_invVR hX iX2_48 mdJ2_addAll (hS.mc (k := 3) rfl) ⟨TJ2, 3, rv_c17⟩ (j_addAllC hG (d := d - 1) (by omega) e2.1 (by decide) (h2.mono (fun _ _ => hS.f)) (xnot2 (xown_ne hS.1 q2) (xadm (k := 3) rfl) (xadm (k := 4) rfl)) (xlel_of e2.2 hS.1) xnone (fun e he => xnot2 ((e2.2 e he).ne hS.1) (xadm (k := 3) rfl) (xadm (k := 4) rfl)) (by omega) (by omega) (hS.cpre0 [0,0,0,1,1] 0 rfl rfl rfl)) (by omega) rfl rfl (Nat.le_of_ble_eq_true rfl) dX2_copy_28 (fun v h' hq => ?_) (fun E h' hq => by first | exact hq.elim | cases hq.2 | cases hq.1)
  obtain ⟨mc2, g2, hu, hl2, ho2, hQ⟩ := hq
  have hS := hS.cpost0 [0,0,0,1,1] 0 rfl rfl rfl hQ
  cases hu
  refine rv_pop hX dX2_copy_31 rfl ?_
  refine rv_aload_n hX dX2_copy_32 rfl ?_
  refine rv_aload_n hX dX2_copy_33 rfl ?_
  refine rv_getfR hX gX2_26_X2 (hS.f hW) rfl dX2_copy_34 ?_
  refine xv_putf hX hS (k := 0) rfl pX2_26_X2 (fun q => by cases q) rfl rfl rfl dX2_copy_37 (fun h_37 hS => ?_)
  refine rv_aload_n hX dX2_copy_40 rfl ?_
  refine rv_aload_n hX dX2_copy_41 rfl ?_
  refine rv_getfR hX gX2_30_X2 (hS.f hW) rfl dX2_copy_42 ?_
  refine xv_putf hX hS (k := 0) rfl pX2_30_X2 (fun q => by cases q) rfl rfl rfl dX2_copy_45 (fun h_45 hS => ?_)
  refine rv_aload_n hX dX2_copy_48 rfl ?_
  refine rv_aload_n hX dX2_copy_49 rfl ?_
  refine rv_getfR hX gX2_52_X2 (hS.f hW) rfl dX2_copy_50 ?_
  refine xv_putf hX hS (k := 0) rfl pX2_52_X2 (fun q => by cases q) rfl rfl rfl dX2_copy_53 (fun h_53 hS => ?_)
  refine rv_aload_n hX dX2_copy_56 rfl ?_
  refine rv_getfR hX gX2_34_X2 (hS.mc (k := 0) rfl) rfl dX2_copy_57 ?_
  refine rv_aload_n hX dX2_copy_60 rfl ?_
  refine rv_getfR hX gX2_34_X2 (hS.f hW) rfl dX2_copy_61 ?_
  refine rv_invVR hX iX2_48 mdJ2_addAll (hS.mc (k := 9) rfl) ⟨TJ2, 3, rv_c17⟩ (j_addAllC hG (d := d - 1) (by omega) e3.1 (by decide) (h3.mono (fun _ _ => hS.f)) (xnot2 (xown_ne hS.1 q3) (xadm (k := 9) rfl) (xadm (k := 10) rfl)) (xlel_of e3.2 hS.1) xnone (fun e he => xnot2 ((e3.2 e he).ne hS.1) (xadm (k := 9) rfl) (xadm (k := 10) rfl)) (by omega) (by omega) (hS.cpre0 [0,0,0,0,0,0,0,0,0,1,1] 0 rfl rfl rfl)) (by omega) rfl rfl (Nat.le_of_ble_eq_true rfl) dX2_copy_64 (fun v h' hq => ?_) (fun E h' hq => by first | exact hq.elim | cases hq.2 | cases hq.1)
  obtain ⟨mc3, g3, hu, hl3, ho3, hQ⟩ := hq
  have hS := hS.cpost0 [0,0,0,0,0,0,0,0,0,1,1] 0 rfl rfl rfl hQ
  cases hu
  refine rv_pop hX dX2_copy_67 rfl ?_
  refine rv_aload_n hX dX2_copy_68 rfl ?_
  refine rv_getfR hX gX2_37_X2 (hS.mc (k := 0) rfl) rfl dX2_copy_69 ?_
  refine rv_aload_n hX dX2_copy_72 rfl ?_
  refine rv_getfR hX gX2_37_X2 (hS.f hW) rfl dX2_copy_73 ?_
  refine rv_invVR hX iX2_48 mdJ2_addAll (hS.mc (k := 11) rfl) ⟨TJ2, 3, rv_c17⟩ (j_addAllC hG (d := d - 1) (by omega) e4.1 (by decide) (h4.mono (fun _ _ => hS.f)) (xnot2 (xown_ne hS.1 q4) (xadm (k := 11) rfl) (xadm (k := 12) rfl)) (xlel_of e4.2 hS.1) xnone (fun e he => xnot2 ((e4.2 e he).ne hS.1) (xadm (k := 11) rfl) (xadm (k := 12) rfl)) (by omega) (by omega) (hS.cpre0 [0,0,0,0,0,0,0,0,0,0,0,1,1] 0 rfl rfl rfl)) (by omega) rfl rfl (Nat.le_of_ble_eq_true rfl) dX2_copy_76 (fun v h' hq => ?_) (fun E h' hq => by first | exact hq.elim | cases hq.2 | cases hq.1)
  obtain ⟨mc4, g4, hu, hl4, ho4, hQ⟩ := hq
  have hS := hS.cpost0 [0,0,0,0,0,0,0,0,0,0,0,1,1] 0 rfl rfl rfl hQ
  cases hu
  refine rv_pop hX dX2_copy_79 rfl ?_
  refine rv_aload_n hX dX2_copy_80 rfl ?_
  refine rv_aload_n hX dX2_copy_81 rfl ?_
  refine rv_getfR hX gX2_56_X2 (hS.f hW) rfl dX2_copy_82 ?_
  refine xv_putf hX hS (k := 0) rfl pX2_56_X2 (fun q => by cases q) rfl rfl rfl dX2_copy_85 (fun h_85 hS => ?_)
  refine rv_aload_n hX dX2_copy_88 rfl ?_
  refine rv_aload_n hX dX2_copy_89 rfl ?_
  refine rv_getfR hX gX2_59_X2 (hS.f hW) rfl dX2_copy_90 ?_
  refine xv_putf hX hS (k := 0) rfl pX2_59_X2 (fun q => by cases q) rfl rfl rfl dX2_copy_93 (fun h_93 hS => ?_)
  have hS := hS.reo 16 [0, 1, 2, 3, 4, 5, 6, 7, 8, 9, 10, 11, 12, 14, 15, 13] rfl (by decide) rfl
  have hS9 : xS X.1 F h [] ([(fi1, lO (nI 0) ed 0)] ++ [(a_0, cW rel1 ta1 st tg tgd ru1 de1 rn dn fi1 sk1 0), (rel1, lO mc1 r2 es1.length), (r2, cR 8 g1), (ta1, lO mc2 t2 es2.length), (t2, cR 60 g2), (st1, cO 2 [.ref sn, .ref sr, .int (nI 0)]), (sn, cI 60 (fun _ => 0)), (sr, cI 60 (fun _ => 0)), (tg1, cI 60 (fun _ => 0)), (ru1, lO mc3 b2 es3.length), (b2, cR 10 g3), (de1, lO mc4 d2 es4.length), (d2, cR 6 g4), (sk1, lO (nI 0) k2 0), (k2, cR 8 (fun _ => none))]) _ _ _ := hS.reo 16 [15, 0, 1, 2, 3, 4, 5, 6, 7, 8, 9, 10, 11, 12, 13, 14] rfl (by decide) rfl
  refine rv_aload_n hX dX2_copy_96 rfl ?_
  refine rv_getfR hX gX2_41_X2 (hS.mc (k := 0) rfl) rfl dX2_copy_97 ?_
  refine rv_aload_n hX dX2_copy_100 rfl ?_
  refine rv_getfR hX gX2_41_X2 (hS.f hW) rfl dX2_copy_101 ?_
  refine rv_invVR hX iX2_48 mdJ2_addAll (hS.mc (k := 15) rfl) ⟨TJ2, 3, rv_c17⟩ (j_addAll0 hG (d := d - 1) (by omega) (by omega) hz ho (h5.mono (fun _ _ => hS.f)) (fun q => xown_ne hS.1 q5 (q ▸ xadm (k := 15) rfl)) (xlel_of e5.2 hS.1) (fun e he q => (e5.2 e he).ne hS.1 (q ▸ xadm (k := 15) rfl)) (by omega) (by omega) hS9.foc.1) (by omega) rfl rfl (Nat.le_of_ble_eq_true rfl) dX2_copy_104 (fun v h' hq => ?_) (fun E h' hq => by first | exact hq.elim | cases hq.2 | cases hq.1)
  obtain ⟨N5, hu, hN5, hQ⟩ := hq
  cases hu
  have hS := (hS9.unf0 hQ).perm List.perm_append_comm
  refine rv_pop hX dX2_copy_107 rfl ?_
  refine rv_aload_n hX dX2_copy_108 rfl ?_
  refine rv_getfR hX gX2_44_X2 (hS.mc (k := 0) rfl) rfl dX2_copy_109 ?_
  refine rv_aload_n hX dX2_copy_112 rfl ?_
  refine rv_getfR hX gX2_44_X2 (hS.f hW) rfl dX2_copy_113 ?_
  refine rv_invVR hX iX2_48 mdJ2_addAll (hS.mc (k := 13) rfl) ⟨TJ2, 3, rv_c17⟩ (j_addAllC hG (d := d - 1) (by omega) e6.1 (by decide) (h6.mono (fun _ _ => hS.f)) (xnot2 (xown_ne hS.1 q6) (xadm (k := 13) rfl) (xadm (k := 14) rfl)) (xlel_of e6.2 hS.1) xnone (fun e he => xnot2 ((e6.2 e he).ne hS.1) (xadm (k := 13) rfl) (xadm (k := 14) rfl)) (by omega) (by omega) (hS.cpre0 [0,0,0,0,0,0,0,0,0,0,0,0,0,1,1] 0 rfl rfl rfl)) (by omega) rfl rfl (Nat.le_of_ble_eq_true rfl) dX2_copy_116 (fun v h' hq => ?_) (fun E h' hq => by first | exact hq.elim | cases hq.2 | cases hq.1)
  obtain ⟨mc6, g6, hu, hl6, ho6, hQ⟩ := hq
  have hS := hS.cpost0 [0,0,0,0,0,0,0,0,0,0,0,0,0,1,1] 0 rfl rfl rfl hQ
  cases hu
  refine rv_pop hX dX2_copy_119 rfl ?_
  refine rv_aload_n hX dX2_copy_120 rfl ?_
  refine rv_aload_n hX dX2_copy_121 rfl ?_
  refine rv_getfR hX gX2_62_X2 (hS.f hW) rfl dX2_copy_122 ?_
  refine xv_putf hX hS (k := 0) rfl pX2_62_X2 (fun q => by cases q) rfl rfl rfl dX2_copy_125 (fun h_125 hS => ?_)
  refine rv_aload_n hX dX2_copy_128 rfl ?_
  refine rv_areturn hX hE (Or.inl ⟨_, rfl⟩) (Or.inr ⟨_, rfl⟩) ?_ dX2_copy_129
  refine ⟨a_0, rel1, ta1, ru1, de1, fi1, sk1, _, _, _, _, N5, _, rfl, ⟨xAL.of (mc := mc1) (ed := r2) (by decide) e1.1 hl1 ho1, xAL.of (mc := mc2) (ed := t2) (by decide) e2.1 hl2 ho2, xAL.of (mc := mc3) (ed := b2) (by decide) e3.1 hl3 ho3, xAL.of (mc := mc4) (ed := d2) (by decide) e4.1 hl4 ho4, hN5, xAL.of (mc := mc6) (ed := k2) (by decide) e6.1 hl6 ho6⟩, ?_⟩
  have hS9 : xS X.1 F h [] ([(a_0, cW rel1 ta1 st tg tgd ru1 de1 rn dn fi1 sk1 now), (rel1, lO mc1 r2 es1.length), (r2, cR 8 g1), (ta1, lO mc2 t2 es2.length), (t2, cR 60 g2), (st1, cO 2 [.ref sn, .ref sr, .int (nI 0)]), (sn, cI 60 (fun _ => 0)), (sr, cI 60 (fun _ => 0)), (tg1, cI 60 (fun _ => 0)), (ru1, lO mc3 b2 es3.length), (b2, cR 10 g3), (de1, lO mc4 d2 es4.length), (d2, cR 6 g4), (sk1, lO mc6 k2 es6.length), (k2, cR 8 g6)] ++ N5) _ _ _ := hS
  refine (hS9.drop ?_).bud (by omega) (by omega)
  refine List.Sublist.append (l₁ := [(a_0, cW rel1 ta1 st tg tgd ru1 de1 rn dn fi1 sk1 now), (rel1, lO mc1 r2 es1.length), (r2, cR 8 g1), (ta1, lO mc2 t2 es2.length), (t2, cR 60 g2), (ru1, lO mc3 b2 es3.length), (b2, cR 10 g3), (de1, lO mc4 d2 es4.length), (d2, cR 6 g4), (sk1, lO mc6 k2 es6.length), (k2, cR 8 g6)]) ?_ (List.Sublist.refl _)
  exact ((((((((((((((((List.Sublist.refl _).cons₂ _).cons₂ _).cons₂ _).cons₂ _).cons₂ _).cons₂ _)).cons _).cons _).cons _).cons _).cons₂ _).cons₂ _).cons₂ _).cons₂ _).cons₂ _
