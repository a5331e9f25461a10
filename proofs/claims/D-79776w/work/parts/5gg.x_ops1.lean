/-! THE SYSTEM: relations, the focus -/
set_option maxRecDepth 100000
theorem xW.pub {G : rv_G} (hG : rv_GK G) {F1 : xF} {nx : Nat} {w : wW} {rel ta st tg ru de fi sk : Nat} {tf : Nat → Int32} {r : Nat → Nat} {ps : List (Nat × Nat × Nat × Nat)} {es1 es2 es3 es4 es5 es6 : List Nat} {N1 N2 N3 N4 N5 N6 Zs : xM} (hsub : ∀ q, q ∈ [[(nx, cW rel ta st tg (nI w.g) ru de (nI w.nr) (nI w.nd) fi sk (nI w.now))], N1, N2, N3, N4, N6, N5].flatten → q ∈ Zs) (hZ : ∀ a c, (a, c) ∈ Zs → xr G F1 a c) (hb : ∀ q, q ∈ Zs → rv_b G ≤ q.1) (hN : xAL G rel es1 N1 ∧ xAL G ta es2 N2 ∧ xAL G ru es3 N3 ∧ xAL G de es4 N4 ∧ xAL G fi es5 N5 ∧ xAL G sk es6 N6) (hE : xEs (xr G F1) (xBx G) es1 w.S ∧ xEs (xr G F1) (xTd G) es2 w.T ∧ xEs (xr G F1) (xCl G false) es3 w.R ∧ xEs (xr G F1) (xCl G true) es4 w.D ∧ xEs (xr G F1) (xFi G) es5 ps ∧ xEs (xr G F1) (xBx G) es6 w.K) (hst : xFc (xr G F1) st w.F r) (htg : xr G F1 tg (cI 60 tf) ∧ ∀ k t, w.A[k]? = some t → tf k = nI t) (hfr : xFr w.A w.E ps) : xW G (xr G F1) nx w := by
  obtain ⟨n1, n2, n3, n4, n5, n6⟩ := hN
  obtain ⟨e1, e2, e3, e4, e5, e6⟩ := hE
  have fz : ∀ {a : Nat} {es : List Nat} {N : xM} (j : Nat), xAL G a es N → [[(nx, cW rel ta st tg (nI w.g) ru de (nI w.nr) (nI w.nd) fi sk (nI w.now))], N1, N2, N3, N4, N6, N5][j]? = some N → xLs G (xr G F1) a es := fun j hal hj => hal.frz hG (fun b c q => hZ b c (hsub _ (xflat_mem hj _ q))) (fun q hq => hb q (hsub _ (xflat_mem hj _ hq)))
  exact ⟨rel, ta, st, tg, ru, de, fi, sk, tf, r, ps, hZ _ _ (hsub _ (List.Mem.head _)), ⟨es1, fz 1 n1 rfl, e1⟩, ⟨es2, fz 2 n2 rfl, e2⟩, hst, htg, ⟨es3, fz 3 n3 rfl, e3⟩, ⟨es4, fz 4 n4 rfl, e4⟩, ⟨es5, fz 6 n5 rfl, e5⟩, hfr, ⟨es6, fz 5 n6 rfl, e6⟩⟩
theorem xDi.app {S : List Nat} {k i : Nat} {it : sp_I} {N : xM} (hr : it.1 ≤ 1 → it.2.1 < S.length) (h : xDi S i it N) : xDi (S ++ [k]) i it N := by
  have e : sp_tof (S ++ [k]) it = sp_tof S it := by
    unfold sp_tof
    split
    · rename_i q
      rw [List.getD_eq_getElem?_getD, List.getD_eq_getElem?_getD, List.getElem?_append_left (hr q)]
    · rfl
  unfold xDi
  rw [e]
  exact h
theorem xDr.app {S : List Nat} {k : Nat} {d : wDr} {dv : Value} {Nd : xM} (hw : wfD S d) (h : xDr S d dv Nd) : xDr (S ++ [k]) d dv Nd := by
  rcases h with h | ⟨h0, cl, hi, ht, bo, ba, nm, gk, md, sal, mc, tl, hf, bf, es, Ni, h1, h2, h3, h4, h5, h6, h7, h8⟩
  · exact Or.inl h
  · have hD := hw.2.2.2 h0
    have hpre := hD.2.2.2.2.2.2.2.1
    refine Or.inr ⟨h0, cl, hi, ht, bo, ba, nm, gk, md, sal, mc, tl, hf, bf, es, Ni, h1, ?_, h3, h4, h5, h6, h7, fun j i it N q1 q2 q3 => (h8 j i it N q1 q2 q3).app (hpre it (List.mem_of_getElem? q2)).2.1⟩
    rw [h2, List.getD_eq_getElem?_getD, List.getD_eq_getElem?_getD, List.getElem?_append_left hD.1]
theorem x_relation {G : rv_G} (hG : rv_GK G) {d xo n m N : Nat} {s : wS} {M : xM} {k : Int32} {F : xF} {h : rv_H} (hd : 12 ≤ d) (hN : N ≤ 24) (hSt : xSt G F xo s M) (hw : wfS N s) (hn : 40000 ≤ n) (hm : 200000 ≤ m) (hH : xH G F M n m h) : rv_Call G d yX1_relation wX1_relation [.ref xo, .int k] h (xOq G F xo (xad M) n m h [RJ6, RJ18] false (o_relation s k)) := by
  refine rv_start hG (by decide +kernel) (L := [some (.ref xo), some (.int k), none]) rfl (Nat.le_of_ble_eq_true rfl) (fun X hX1 hX hE => ?_)
  subst hX1
  obtain ⟨wd, bg, dv, rv, rw1, lv, lf, Nb, Nd, rfl, hW, hDr, hnew⟩ := hSt.world
  have hS0 : xS X.1 F h (xo :: xad (Nb ++ Nd)) ([(xo, cO 0 [.ref wd, dv, .ref bg, rv, rw1, lv, .int lf])] ++ (Nb ++ Nd)) n m h := hH.start
  have hS : xS X.1 F h [xo] [(xo, cO 0 [.ref wd, dv, .ref bg, rv, rw1, lv, .int lf])] n m h := hS0.foc
  obtain ⟨rel, ta, st, tg, ru, de, fi, sk, tf, r, ps, es1, es2, es3, es4, es5, es6, w1, ⟨a1, a2, a3, a4, a5, a6⟩, ⟨b1, b2, b3, b4, b5, b6⟩, ⟨e1, e2, e3, e4, e5, e6⟩, w4, w5, w9⟩ := hW.parts hw.1 hN
  obtain ⟨lm, led, lcap, lf9, l1, l2⟩ := id a1
  have hS8 := hw.1.S
  by_cases hrng : w_rng 1 3 k
  · obtain ⟨j, hj1, hj3, rfl, hjc⟩ := w_rng_nat (by decide) (by decide) hrng
    by_cases h8 : s.w.S.length = 8
    · have ho : o_relation s (nI j) = (2, 0, s) := by
        unfold o_relation
        rw [if_neg (fun q => q hrng), if_pos h8]
      refine rv_iload_n hX dX1_relation_0 rfl ?_
      refine nv_iconst hX (m := 1) (by decide) dX1_relation_1 ?_
      refine nv_icmp_lt hX 14 (by omega) (by omega) dX1_relation_2 (by decide) (fun q => absurd q (by omega)) (fun c_2 => ?_)
      refine rv_iload_n hX dX1_relation_5 rfl ?_
      refine nv_iconst hX (m := 3) (by decide) dX1_relation_6 ?_
      refine nv_icmp_gt hX 14 (by omega) (by omega) dX1_relation_7 (by decide) (fun q => absurd q (by omega)) (fun c_7 => ?_)
      refine nv_iconst hX (m := 1) (by decide) dX1_relation_10 ?_
      refine rv_goto hX 15 dX1_relation_11 (by decide) ?_
      refine rv_invS hX iX1_85 mdX1_checkArgument (x_checkArgument hG (b := true) (d := d - 1) (by omega) (by omega) (by omega) (hS.cpre0 [] 0 rfl rfl rfl)) (by omega) rfl rfl (Nat.le_of_ble_eq_true rfl) dX1_relation_15 (fun v h' hq => ?_) (fun E h' hq => by exact absurd hq.2.1 (by decide))
      obtain ⟨-, rfl, rfl⟩ := hq
      refine rv_aload_n hX dX1_relation_18 rfl ?_
      refine rv_getfR hX gX1_21_X1 (hS.mc (k := 0) rfl) rfl dX1_relation_19 ?_
      refine rv_getfR hX gX1_55_X2 (hS.f w1) rfl dX1_relation_22 ?_
      refine rv_invVR hX iX1_58 mdJ2_size (hS.f l1) ⟨TJ2, 3, rv_c17⟩ (j_size hG (d := d - 1) (a1.mono (fun _ _ => hS.f)).L) (by omega) rfl rfl (Nat.le_of_ble_eq_true rfl) dX1_relation_25 (fun v h' hq => ?_) (fun E h' hq => by first | exact hq.elim | cases hq.2 | cases hq.1)
      obtain ⟨rfl, hq⟩ := hq
      cases hq
      rw [b1.1]
      refine nv_bipush hX (m := 8) (by decide) dX1_relation_28 ?_
      refine nv_icmp_ge hX 37 (by omega) (by omega) dX1_relation_30 (by decide) (fun c_30 => ?_) (fun q => absurd q (by omega))
      refine nv_iconst hX (m := 0) (by decide) dX1_relation_37 ?_
      refine rv_invS hX iX1_114 mdX1_checkState (x_checkState hG (b := false) (d := d - 1) (by omega) (by omega) (by omega) (hS.cpre0 [] 0 rfl rfl rfl)) (by omega) rfl rfl (Nat.le_of_ble_eq_true rfl) dX1_relation_38 (fun v h' hq => ?_) (fun E h' hq => by exact rv_out hX hE (fun x hx => by cases hx) (xOq.thr (i := 1) (by rw [ho]; exact ⟨rfl, rfl⟩) (by rw [hq.1]; rfl) hSt (hS0.unf0 (hS.cpost0 [] 0 rfl rfl rfl hq.2.2)) (by omega) (by omega)))
      obtain ⟨hb, rfl, rfl⟩ := hq
      exact absurd hb (by decide)
    · have ho : o_relation s (nI j) = (0, nI s.w.S.length, s.setw (s.w.setS (s.w.S ++ [j]))) := by
        unfold o_relation
        rw [if_neg (fun q => q hrng), if_neg h8, nI_clamp (by omega)]
      refine rv_iload_n hX dX1_relation_0 rfl ?_
      refine nv_iconst hX (m := 1) (by decide) dX1_relation_1 ?_
      refine nv_icmp_lt hX 14 (by omega) (by omega) dX1_relation_2 (by decide) (fun q => absurd q (by omega)) (fun c_2 => ?_)
      refine rv_iload_n hX dX1_relation_5 rfl ?_
      refine nv_iconst hX (m := 3) (by decide) dX1_relation_6 ?_
      refine nv_icmp_gt hX 14 (by omega) (by omega) dX1_relation_7 (by decide) (fun q => absurd q (by omega)) (fun c_7 => ?_)
      refine nv_iconst hX (m := 1) (by decide) dX1_relation_10 ?_
      refine rv_goto hX 15 dX1_relation_11 (by decide) ?_
      refine rv_invS hX iX1_85 mdX1_checkArgument (x_checkArgument hG (b := true) (d := d - 1) (by omega) (by omega) (by omega) (hS.cpre0 [] 0 rfl rfl rfl)) (by omega) rfl rfl (Nat.le_of_ble_eq_true rfl) dX1_relation_15 (fun v h' hq => ?_) (fun E h' hq => by exact absurd hq.2.1 (by decide))
      obtain ⟨-, rfl, rfl⟩ := hq
      refine rv_aload_n hX dX1_relation_18 rfl ?_
      refine rv_getfR hX gX1_21_X1 (hS.mc (k := 0) rfl) rfl dX1_relation_19 ?_
      refine rv_getfR hX gX1_55_X2 (hS.f w1) rfl dX1_relation_22 ?_
      refine rv_invVR hX iX1_58 mdJ2_size (hS.f l1) ⟨TJ2, 3, rv_c17⟩ (j_size hG (d := d - 1) (a1.mono (fun _ _ => hS.f)).L) (by omega) rfl rfl (Nat.le_of_ble_eq_true rfl) dX1_relation_25 (fun v h' hq => ?_) (fun E h' hq => by first | exact hq.elim | cases hq.2 | cases hq.1)
      obtain ⟨rfl, hq⟩ := hq
      cases hq
      rw [b1.1]
      refine nv_bipush hX (m := 8) (by decide) dX1_relation_28 ?_
      refine nv_icmp_ge hX 37 (by omega) (by omega) dX1_relation_30 (by decide) (fun q => absurd q (by omega)) (fun c_30 => ?_)
      refine nv_iconst hX (m := 1) (by decide) dX1_relation_33 ?_
      refine rv_goto hX 38 dX1_relation_34 (by decide) ?_
      refine rv_invS hX iX1_114 mdX1_checkState (x_checkState hG (b := true) (d := d - 1) (by omega) (by omega) (by omega) (hS.cpre0 [] 0 rfl rfl rfl)) (by omega) rfl rfl (Nat.le_of_ble_eq_true rfl) dX1_relation_38 (fun v h' hq => ?_) (fun E h' hq => by exact absurd hq.2.1 (by decide))
      obtain ⟨-, rfl, rfl⟩ := hq
      refine rv_aload_n hX dX1_relation_41 rfl ?_
      refine rv_getfR hX gX1_21_X1 (hS.mc (k := 0) rfl) rfl dX1_relation_42 ?_
      refine rv_invVR hX iX1_117 mdX2_copy (hS.f w1) ⟨TX2, 12, rv_c1⟩ (x_copy hG (d := d - 1) (by omega) w1 a1 a2 a3 a4 a5 a6 e1 e2 e3 e4 e5 e6 (by omega) (by omega) (hS.cpre0 [0] 0 rfl rfl rfl)) (by omega) rfl rfl (Nat.le_of_ble_eq_true rfl) dX1_relation_45 (fun v h' hq => ?_) (fun E h' hq => by first | exact hq.elim | cases hq.2 | cases hq.1)
      obtain ⟨nx, rel1, ta1, ru1, de1, fi1, sk1, N1, N2, N3, N4, N5, N6, hu, ⟨hN1, hN2, hN3, hN4, hN5, hN6⟩, hQ⟩ := hq
      have hS := hS.cpost0 [0] 0 rfl rfl rfl hQ
      cases hu
      have hS : xS X.1 F _ [xo] ([[(xo, cO 0 [.ref wd, dv, .ref bg, rv, rw1, lv, .int lf])], [(nx, cW rel1 ta1 st tg (nI s.w.g) ru1 de1 (nI s.w.nr) (nI s.w.nd) fi1 sk1 (nI s.w.now))], N1, N2, N3, N4, N6, N5].flatten) _ _ _ := hS.perm (by simp [xRe, xRa])
      have hl9 := hN1.rd hG hS.1 (xflat_mem (j := 2) rfl)
      obtain ⟨m9, e9, c9, f9, l9, -⟩ := id hl9
      refine rv_astore_n hX dX1_relation_48 (rv_st_2 rfl) ?_
      refine rv_aload_n hX dX1_relation_49 rfl ?_
      refine rv_getfR hX gX1_55_X2 (hS.mc (k := 1) rfl) rfl dX1_relation_50 ?_
      refine rv_iload_n hX dX1_relation_53 rfl ?_
      refine rv_invS hX iX1_37 mdJ17_valueOf (j_valueOf hG (n := j) (d := d - 1) (by omega)) (by omega) rfl rfl (Nat.le_of_ble_eq_true rfl) dX1_relation_54 (fun v h' hq => ?_) (fun E h' hq => by obtain ⟨-, _, e, -⟩ := hq; cases e)
      obtain ⟨rfl, a9, hu, hbx⟩ := hq
      cases hu
      refine rv_invVR hX iX1_42 mdJ2_add l9 ⟨TJ2, 3, rv_c17⟩ (j_addG hG (d := d - 1) (by omega) hN1 (by omega) (xlel_of e1.2 hS.1) ((xElm.bx hbx).el hS.1) ((xElm.bx hbx).ne (hS.pick (j := 2) rfl).1) (fun e he => (e1.2 e he).ne (hS.pick (j := 2) rfl).1) (by omega) (by omega) (hS.pick (j := 2) rfl).1) (by omega) rfl rfl (Nat.le_of_ble_eq_true rfl) dX1_relation_57 (fun v h' hq => ?_) (fun E h' hq => by first | exact hq.elim | cases hq.2 | cases hq.1)
      obtain ⟨N1', hu, hN1', hQ⟩ := hq
      cases hu
      have hS := (hS.pick (j := 2) rfl).2 _ _ _ _ hQ
      refine rv_pop hX dX1_relation_60 rfl ?_
      refine rv_aload_n hX dX1_relation_61 rfl ?_
      refine rv_aload_n hX dX1_relation_62 rfl ?_
      refine xv_putf hX hS (k := 0) rfl pX1_21_X1 (fun q => by cases q) rfl rfl rfl dX1_relation_63 (fun h_63 hS => ?_)
      have hS : xS X.1 F _ [xo] ([[(xo, cO 0 [.ref nx, dv, .ref bg, rv, rw1, lv, .int lf])], [(nx, cW rel1 ta1 st tg (nI s.w.g) ru1 de1 (nI s.w.nr) (nI s.w.nd) fi1 sk1 (nI s.w.now))], N1', N2, N3, N4, N6, N5].flatten) _ _ _ := hS
      have hl10 := hN1'.rd hG hS.1 (xflat_mem (j := 2) rfl)
      obtain ⟨m10, e10, c10, f10, l10, -⟩ := id hl10
      refine rv_aload_n hX dX1_relation_66 rfl ?_
      refine rv_getfR hX gX1_55_X2 (hS.mc (k := 1) rfl) rfl dX1_relation_67 ?_
      refine rv_invVR hX iX1_58 mdJ2_size l10 ⟨TJ2, 3, rv_c17⟩ (j_size hG (d := d - 1) hl10.L) (by omega) rfl rfl (Nat.le_of_ble_eq_true rfl) dX1_relation_70 (fun v h' hq => ?_) (fun E h' hq => by first | exact hq.elim | cases hq.2 | cases hq.1)
      obtain ⟨rfl, hq⟩ := hq
      cases hq
      rw [List.length_append, List.length_singleton, b1.1]
      refine nv_iconst hX (m := 1) (by decide) dX1_relation_73 ?_
      first | refine nv_isub hX (by omega) dX1_relation_74 ?_ | refine rv_isub hX dX1_relation_74 ?_
      refine rv_ireturn hX hE rfl ?_ dX1_relation_75
      obtain ⟨F1, k1, k2, k3⟩ := hnew _ (fun _ _ q => q) nx (s.w.setS (s.w.S ++ [j])) ([[(nx, cW rel1 ta1 st tg (nI s.w.g) ru1 de1 (nI s.w.nr) (nI s.w.nd) fi1 sk1 (nI s.w.now))], N1', N2, N3, N4, N6, N5].flatten) _ _ _ _ _ (hS0.unf0 hS) (List.Mem.head _) (fun F1 hmn hZ hb => xW.pub hG (w := s.w.setS (s.w.S ++ [j])) (fun q hq => hq) hZ hb ⟨hN1', hN2, hN3, hN4, hN5, hN6⟩ ⟨(b1.mono (fun _ _ q => q)).snoc hbx, b2.mono (fun _ _ q => q.mono hmn), b3.mono (fun _ _ q => q.mono hmn), b4.mono (fun _ _ q => q.mono hmn), b5.mono (fun _ _ q => q.mono hmn), b6.mono (fun _ _ q => q)⟩ (w4.mono2 hmn) ⟨hmn _ _ w5.1, w5.2⟩ w9) (hDr.app hw.2.1)
      refine ⟨F1, _, k1, ?_, k3.bud (by omega) (by omega), by rw [ho], ?_⟩
      · rw [ho]
        exact k2
      · rw [ho]
        show some (Value.int (nI (s.w.S.length + 1 - 1))) = _
        rw [Nat.add_sub_cancel]
        rfl
  · have ho : o_relation s k = (1, 0, s) := by
      unfold o_relation
      rw [if_pos hrng]
    refine rv_iload_n hX dX1_relation_0 rfl ?_
    refine nv_iconst hX (m := 1) (by decide) dX1_relation_1 ?_
    first | refine nv_icmp_lt hX 14 (by omega) (by omega) dX1_relation_2 (by decide) (fun c_2 => ?_) (fun c_2 => ?_) | refine rv_icmp_lt hX 14 dX1_relation_2 (by decide) (fun c_2 => ?_) (fun c_2 => ?_)
    · skip
      refine nv_iconst hX (m := 0) (by decide) dX1_relation_14 ?_
      refine rv_invS hX iX1_85 mdX1_checkArgument (x_checkArgument hG (b := false) (d := d - 1) (by omega) (by omega) (by omega) (hS.cpre0 [] 0 rfl rfl rfl)) (by omega) rfl rfl (Nat.le_of_ble_eq_true rfl) dX1_relation_15 (fun v h' hq => ?_) (fun E h' hq => by exact rv_out hX hE (fun x hx => by cases hx) (xOq.thr (i := 0) (by rw [ho]; exact ⟨rfl, rfl⟩) (by rw [hq.1]; rfl) hSt (hS0.unf0 (hS.cpost0 [] 0 rfl rfl rfl hq.2.2)) (by omega) (by omega)))
      obtain ⟨hb, rfl, rfl⟩ := hq
      exact absurd hb (by decide)
    · skip
      refine rv_iload_n hX dX1_relation_5 rfl ?_
      refine nv_iconst hX (m := 3) (by decide) dX1_relation_6 ?_
      first | refine nv_icmp_gt hX 14 (by omega) (by omega) dX1_relation_7 (by decide) (fun c_7 => ?_) (fun c_7 => ?_) | refine rv_icmp_gt hX 14 dX1_relation_7 (by decide) (fun c_7 => ?_) (fun c_7 => ?_)
      · skip
        refine nv_iconst hX (m := 0) (by decide) dX1_relation_14 ?_
        refine rv_invS hX iX1_85 mdX1_checkArgument (x_checkArgument hG (b := false) (d := d - 1) (by omega) (by omega) (by omega) (hS.cpre0 [] 0 rfl rfl rfl)) (by omega) rfl rfl (Nat.le_of_ble_eq_true rfl) dX1_relation_15 (fun v h' hq => ?_) (fun E h' hq => by exact rv_out hX hE (fun x hx => by cases hx) (xOq.thr (i := 0) (by rw [ho]; exact ⟨rfl, rfl⟩) (by rw [hq.1]; rfl) hSt (hS0.unf0 (hS.cpost0 [] 0 rfl rfl rfl hq.2.2)) (by omega) (by omega)))
        obtain ⟨hb, rfl, rfl⟩ := hq
        exact absurd hb (by decide)
      · skip
        exact absurd ⟨Int32.not_lt.mp c_2, Int32.not_lt.mp c_7⟩ hrng --done
