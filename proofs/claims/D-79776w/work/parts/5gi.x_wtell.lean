/-! THE SYSTEM: a fact told to the next world -/
set_option maxRecDepth 100000
theorem x_wtell {G : rv_G} (hG : rv_GK G) {d nx f e n m : Nat} (hd : 8 ≤ d) {rel ta st tg ru de fi sk : Nat} {tgd rn dn now : Int32} {T : List (Nat × Nat)} {es2 : List Nat} {N2 : xM} {F : xF} {h : rv_H} (hN2 : xAL G ta es2 N2) (hEs : xEs (xr G F) (xTd G) es2 T) (hT8 : ∀ p, p ∈ T → p.1 < 8000000 ∧ p.2 < 1000000) (hTl : T.length ≤ 60) (hf : f < 8000000) (he : e < 1000000) (hn : 2 ≤ n) (hm : 200 ≤ m) (hH : xH G F ((nx, cW rel ta st tg tgd ru de rn dn fi sk now) :: N2) n m h) : rv_Call G d yX2_tell wX2_tell [.ref nx, .int (nI f), .int (nI e)] h (xN (fun u h' => ∃ (te : Nat) (tf : Nat → Int32) (es' : List Nat) (N' : xM) (e' : Nat), u = none ∧ xAL G ta es' N' ∧ (tf 0 = nI f ∧ tf 1 = nI e') ∧ ((sp_tellF T f e = T ++ [(f, e')] ∧ es' = es2 ++ [te]) ∨ ∃ k, sp_tellF T f e = T.set k (f, e') ∧ es' = es2.set k te) ∧ xS G F h (nx :: xad N2) ((nx, cW rel ta st tg tgd ru de rn dn fi sk now) :: (te, cI 2 tf) :: N') (n - 2) (m - 200) h')) := by
  have helm := hEs.elm (fun e x q => xElm.td q)
  have hel2 := hEs.1
  cases hat : sp_at T f with
  | none =>
    have hTF : sp_tellF T f e = T ++ [(f, e)] := by unfold sp_tellF; rw [hat]
    refine rv_start hG (by decide +kernel) (L := [some (.ref nx), some (.int (nI f)), some (.int (nI e)), none, none]) rfl (Nat.le_of_ble_eq_true rfl) (fun X hX1 hX hE => ?_)
    subst hX1
    have hS0 : xS X.1 F h (nx :: xad N2) ([(nx, cW rel ta st tg tgd ru de rn dn fi sk now)] ++ N2) n m h := hH.start
    have hS : xS X.1 F h [nx] [(nx, cW rel ta st tg tgd ru de rn dn fi sk now)] n m h := hS0.foc
    have hl := hN2.rd hG hS0.1 (fun q hq => List.mem_append_right _ hq)
    refine rv_aload_n hX dX2_tell_0 rfl ?_
    refine rv_iload_n hX dX2_tell_1 rfl ?_
    refine rv_invVR hX iX2_74 mdX2_toldAt (hS.mc (k := 0) rfl) ⟨TX2, 12, rv_c1⟩ (x_toldAt hG (d := d - 1) (by omega) (hS.mc (k := 0) rfl) ⟨es2, hl, hEs.mono (fun _ _ q => q.mono (fun _ _ => hS.f))⟩ (fun p hp => (hT8 p hp).1) (by omega)) (by omega) rfl rfl (Nat.le_of_ble_eq_true rfl) dX2_tell_2 (fun v h' hq => ?_) (fun E h' hq => by first | exact hq.elim | cases hq.2 | cases hq.1)
    obtain ⟨rfl, hq⟩ := hq
    cases hq
    rw [hat, show rv_oi none = -1 from rfl]
    refine rv_istore_n hX dX2_tell_5 (rv_st_3 rfl) ?_
    refine rv_iload_n hX dX2_tell_6 rfl ?_
    refine rv_iconst hX (v := -1) dX2_tell_7 (by decide) ?_
    refine rv_icmp_ne hX 33 dX2_tell_8 (by decide) (fun q => absurd rfl q) (fun c_8 => ?_)
    refine rv_aload_n hX dX2_tell_11 rfl ?_
    refine rv_getfR hX gX2_20_X2 (hS.mc (k := 0) rfl) rfl dX2_tell_12 ?_
    refine nv_iconst hX (m := 2) (by decide) dX2_tell_15 ?_
    refine xv_newI hX hS q548 (by omega) (by omega) (by omega) dX2_tell_16 (fun a_16 h_16 hS => ?_)
    refine rv_dup hX dX2_tell_18 rfl ?_
    refine nv_iconst hX (m := 0) (by decide) dX2_tell_19 ?_
    refine rv_iload_n hX dX2_tell_20 rfl ?_
    refine xv_iast hX hS (k := 1) rfl (by omega) (by omega) dX2_tell_21 (fun h_21 hS => ?_)
    refine rv_dup hX dX2_tell_22 rfl ?_
    refine nv_iconst hX (m := 1) (by decide) dX2_tell_23 ?_
    refine rv_iload_n hX dX2_tell_24 rfl ?_
    refine xv_iast hX hS (k := 1) rfl (by omega) (by omega) dX2_tell_25 (fun h_25 hS => ?_)
    have hS9 : xS X.1 F _ (nx :: xad N2) ([[(nx, cW rel ta st tg tgd ru de rn dn fi sk now), (a_16, cI 2 (va_up (va_up (fun _ => 0) 0 (nI f)) 1 (nI e)))], N2].flatten) _ _ _ := (hS0.unf0 hS).perm (by simp)
    have hl8 := hN2.rd hG hS9.1 (xflat_mem (j := 1) rfl)
    obtain ⟨m9, e9, c9, f9, l9, -⟩ := id hl8
    have hte := hS9.mg (k := 1) rfl
    refine rv_invVR hX iX2_78 mdJ2_add l9 ⟨TJ2, 3, rv_c17⟩ (j_addG hG (d := d - 1) (by omega) hN2 (by omega) (xlel_of helm hS9.1) ⟨"[I", q2826, Or.inr ⟨_, hte, by decide, by decide⟩⟩ (fun q => by have hnd := hS9.1.2.2.1; simp only [List.flatten_cons, List.flatten_nil, List.append_nil, xad_app] at hnd; exact (List.nodup_append.mp hnd).2.2 _ (List.Mem.tail _ (List.Mem.head _)) _ q rfl) (fun e he => (helm e he).ne (hS9.pick (j := 1) rfl).1) (by omega) (by omega) (hS9.pick (j := 1) rfl).1) (by omega) rfl rfl (Nat.le_of_ble_eq_true rfl) dX2_tell_26 (fun v h' hq => ?_) (fun E h' hq => by first | exact hq.elim | cases hq.2 | cases hq.1)
    obtain ⟨N', hu, hN', hQ⟩ := hq
    cases hu
    have hS := (hS9.pick (j := 1) rfl).2 _ _ _ _ hQ
    refine rv_pop hX dX2_tell_29 rfl ?_
    refine rv_goto hX 86 dX2_tell_30 (by decide) ?_
    refine rv_return hX hE ?_ dX2_tell_86
    refine ⟨a_16, _, _, N', e, rfl, hN', ⟨rfl, rfl⟩, Or.inl ⟨hTF, rfl⟩, (hS.perm (W := (nx, cW rel ta st tg tgd ru de rn dn fi sk now) :: (a_16, cI 2 (va_up (va_up (fun _ => 0) 0 (nI f)) 1 (nI e))) :: N') ?_).bud (by omega) (by omega)⟩
    show ([[(nx, cW rel ta st tg tgd ru de rn dn fi sk now), (a_16, cI 2 (va_up (va_up (fun _ => 0) 0 (nI f)) 1 (nI e)))], N'].flatten).Perm _
    simp
  | some j =>
    obtain ⟨e0, hj⟩ := sp_at_some hat
    have hjl := (List.getElem?_eq_some_iff.mp hj).1
    have h08 := hT8 _ (List.mem_of_getElem? hj)
    obtain ⟨te0, hte0, tf0, t1, t1b, t2, t3⟩ := xLp.get hEs.1 hEs.2 hj
    have hTF : sp_tellF T f e = T.set j (f, if e0 = 0 ∨ e = 0 then 0 else Nat.max e0 e) := by
      have hself : T.set j (f, e0) = T := by
        have hjv := (List.getElem?_eq_some_iff.mp hj).2
        rw [← hjv]
        exact List.set_getElem_self hjl
      have hgd : T.getD j (0, 0) = (f, e0) := by rw [List.getD_eq_getElem?_getD, hj]; rfl
      unfold sp_tellF
      rw [hat]
      show (if e = 0 ∨ (0 < (T.getD j (0, 0)).2 ∧ (T.getD j (0, 0)).2 < e) then T.set j (f, e) else T) = _
      rw [hgd]
      show (if e = 0 ∨ (0 < e0 ∧ e0 < e) then T.set j (f, e) else T) = _
      by_cases h0 : e = 0
      · rw [if_pos (Or.inl h0), if_pos (Or.inr h0), h0]
      · by_cases h1 : e0 = 0
        · rw [if_neg (by omega), if_pos (Or.inl h1), ← h1]
          exact hself.symm
        · by_cases h2 : e0 < e
          · rw [if_pos (Or.inr (by omega)), if_neg (by omega), show Nat.max e0 e = e from Nat.max_eq_right (by omega)]
          · rw [if_neg (by omega), if_neg (by omega), show Nat.max e0 e = e0 from Nat.max_eq_left (by omega)]
            exact hself.symm
    rcases hN2 with ⟨mc, ed, ⟨cap, g, rfl, hcap, hle, hlf, hoa⟩ | ⟨hnil, -, -, -⟩⟩
    · skip
      refine rv_start hG (by decide +kernel) (L := [some (.ref nx), some (.int (nI f)), some (.int (nI e)), none, none]) rfl (Nat.le_of_ble_eq_true rfl) (fun X hX1 hX hE => ?_)
      subst hX1
      have hS : xS X.1 F h [nx, ta, ed] [(nx, cW rel ta st tg tgd ru de rn dn fi sk now), (ta, lO mc ed es2.length), (ed, cR cap g)] n m h := hH.start
      have hl : xLs X.1 (rv_rd X.1 h) ta es2 := ⟨mc, ed, cap, g, hS.mc (k := 1) rfl, hS.mc (k := 2) rfl, ⟨hle, hS.oa (k := 2) rfl⟩, by omega, hlf⟩
      have fin : ∀ (te : Nat) (v : Int32) (mc2 : Int32) (g2 : Nat → Option Nat) (h1 : rv_H) (n1 m1 : Nat), n - 2 ≤ n1 → m - 200 ≤ m1 → v = nI (if e0 = 0 ∨ e = 0 then 0 else Nat.max e0 e) → lsf (es2.set j te) g2 → (∀ i v, es2.length ≤ i → g2 i = some v → False) → xS X.1 F h [nx, ta, ed] [(nx, cW rel ta st tg tgd ru de rn dn fi sk now), (ta, lO mc2 ed es2.length), (ed, cR cap g2), (te, cI 2 (va_up (va_up (fun _ => 0) 0 (nI f)) 1 v))] n1 m1 h1 → ∃ (te : Nat) (tf : Nat → Int32) (es' : List Nat) (N' : xM) (e' : Nat), (none : Option Value) = none ∧ xAL X.1 ta es' N' ∧ (tf 0 = nI f ∧ tf 1 = nI e') ∧ ((sp_tellF T f e = T ++ [(f, e')] ∧ es' = es2 ++ [te]) ∨ ∃ k, sp_tellF T f e = T.set k (f, e') ∧ es' = es2.set k te) ∧ xS X.1 F h (nx :: xad [(ta, lO mc ed es2.length), (ed, cR cap g)]) ((nx, cW rel ta st tg tgd ru de rn dn fi sk now) :: (te, cI 2 tf) :: N') (n - 2) (m - 200) h1 := by
        intro te v mc2 g2 h1 n1 m1 hn1 hm1 hv k1 k2 hS
        have hl2 : (es2.set j te).length = es2.length := List.length_set
        refine ⟨te, va_up (va_up (fun _ => 0) 0 (nI f)) 1 v, es2.set j te, [(ta, lO mc2 ed (es2.set j te).length), (ed, cR cap g2)], _, rfl, xAL.of hcap (by rw [hl2]; exact hle) k1 (by rw [hl2]; exact k2), ⟨rfl, hv⟩, Or.inr ⟨j, hTF, rfl⟩, ?_⟩
        rw [hl2]
        exact (hS.reo 4 [0, 3, 1, 2] rfl (by decide) rfl).bud hn1 hm1
      refine rv_aload_n hX dX2_tell_0 rfl ?_
      refine rv_iload_n hX dX2_tell_1 rfl ?_
      refine rv_invVR hX iX2_74 mdX2_toldAt (hS.mc (k := 0) rfl) ⟨TX2, 12, rv_c1⟩ (x_toldAt hG (d := d - 1) (by omega) (hS.mc (k := 0) rfl) ⟨es2, hl, hEs.mono (fun _ _ q => q.mono (fun _ _ => hS.f))⟩ (fun p hp => (hT8 p hp).1) (by omega)) (by omega) rfl rfl (Nat.le_of_ble_eq_true rfl) dX2_tell_2 (fun v h' hq => ?_) (fun E h' hq => by first | exact hq.elim | cases hq.2 | cases hq.1)
      obtain ⟨rfl, hq⟩ := hq
      cases hq
      rw [hat, rv_oi_some]
      refine rv_istore_n hX dX2_tell_5 (rv_st_3 rfl) ?_
      refine rv_iload_n hX dX2_tell_6 rfl ?_
      refine rv_iconst hX (v := -1) dX2_tell_7 (by decide) ?_
      refine rv_icmp_ne hX 33 dX2_tell_8 (by decide) (fun c_8 => ?_) (fun q => absurd ((rv_oi_m1 (x := some j) (fun x e => by cases e; omega)).mp q) (fun e => by cases e))
      refine rv_aload_n hX dX2_tell_33 rfl ?_
      refine rv_getfR hX gX2_20_X2 (hS.mc (k := 0) rfl) rfl dX2_tell_34 ?_
      refine rv_iload_n hX dX2_tell_37 rfl ?_
      refine rv_invVR hX iX2_69 mdJ2_get (hS.mc (k := 1) rfl) ⟨TJ2, 3, rv_c17⟩ (j_get hG (d := d - 1) (by omega) hl.L hte0) (by omega) rfl rfl (Nat.le_of_ble_eq_true rfl) dX2_tell_38 (fun v h' hq => ?_) (fun E h' hq => by first | exact hq.elim | cases hq.2 | cases hq.1)
      obtain ⟨rfl, hq⟩ := hq
      cases hq
      refine rv_castAN hX (k := 0) (by decide) (by decide) (hS.f t1) t1b q956 dX2_tell_41 ?_
      refine nv_iconst hX (m := 1) (by decide) dX2_tell_44 ?_
      refine xv_iald hX (hS.f t1) (by omega) (by omega) dX2_tell_45 ?_
      rw [t3]
      refine rv_istore hX dX2_tell_46 (rv_st_4 rfl) ?_
      refine rv_aload_n hX dX2_tell_48 rfl ?_
      refine rv_getfR hX gX2_20_X2 (hS.mc (k := 0) rfl) rfl dX2_tell_49 ?_
      refine rv_iload_n hX dX2_tell_52 rfl ?_
      refine nv_iconst hX (m := 2) (by decide) dX2_tell_53 ?_
      refine xv_newI hX hS q548 (by omega) (by omega) (by omega) dX2_tell_54 (fun a_54 h_54 hS => ?_)
      refine rv_dup hX dX2_tell_56 rfl ?_
      refine nv_iconst hX (m := 0) (by decide) dX2_tell_57 ?_
      refine rv_iload_n hX dX2_tell_58 rfl ?_
      refine xv_iast hX hS (k := 3) rfl (by omega) (by omega) dX2_tell_59 (fun h_59 hS => ?_)
      refine rv_dup hX dX2_tell_60 rfl ?_
      refine nv_iconst hX (m := 1) (by decide) dX2_tell_61 ?_
      refine rv_iload hX dX2_tell_62 rfl ?_
      first | refine zv_if_eq hX 71 dX2_tell_64 (by decide) (fun c_64 => ?_) (fun c_64 => ?_) | refine nv_if_eq hX 71 (by omega) dX2_tell_64 (by decide) (fun c_64 => ?_) (fun c_64 => ?_) | refine rv_if_eq hX 71 dX2_tell_64 (by decide) (fun c_64 => ?_) (fun c_64 => ?_)
      · skip
        have hv : nI 0 = nI (if e0 = 0 ∨ e = 0 then 0 else Nat.max e0 e) := by rw [if_pos (Or.inl (by omega))]
        refine nv_iconst hX (m := 0) (by decide) dX2_tell_71 ?_
        refine rv_goto hX 81 dX2_tell_72 (by decide) ?_
        refine xv_iast hX hS (k := 3) rfl (by omega) (by omega) dX2_tell_81 (fun h_81 hS => ?_)
        refine rv_invVR hX iX2_88 mdJ2_set (hS.mc (k := 1) rfl) ⟨TJ2, 3, rv_c17⟩ (j_set hG (d := d - 1) (by omega) (by omega) hle hlf hoa hte0 ⟨"[I", q2826, Or.inr ⟨_, hS.mg (k := 3) rfl, by decide, by decide⟩⟩ (hS.oa (k := 2) rfl) (hS.cpre0 [0,1,1,0] 0 rfl rfl rfl)) (by omega) rfl rfl (Nat.le_of_ble_eq_true rfl) dX2_tell_82 (fun v h' hq => ?_) (fun E h' hq => by first | exact hq.elim | cases hq.2 | cases hq.1)
        obtain ⟨g2, hu, k1, k2, hQ⟩ := hq
        have hS := hS.cpost0 [0,1,1,0] 0 rfl rfl rfl hQ
        cases hu
        refine rv_pop hX dX2_tell_85 rfl ?_
        refine rv_return hX hE ?_ dX2_tell_86
        exact fin _ _ _ _ _ _ _ (by omega) (by omega) hv k1 k2 hS
      · skip
        refine rv_iload_n hX dX2_tell_67 rfl ?_
        first | refine zv_if_ne hX 75 dX2_tell_68 (by decide) (fun c_68 => ?_) (fun c_68 => ?_) | refine nv_if_ne hX 75 (by omega) dX2_tell_68 (by decide) (fun c_68 => ?_) (fun c_68 => ?_) | refine rv_if_ne hX 75 dX2_tell_68 (by decide) (fun c_68 => ?_) (fun c_68 => ?_)
        · skip
          have hv : nI (Nat.max e0 e) = nI (if e0 = 0 ∨ e = 0 then 0 else Nat.max e0 e) := by rw [if_neg (by omega)]
          refine rv_iload hX dX2_tell_75 rfl ?_
          refine rv_iload_n hX dX2_tell_77 rfl ?_
          refine rv_invS hX iX2_82 mdJ12_max (j_max hG (d := d - 1) (by omega) (by omega)) (by omega) rfl rfl (Nat.le_of_ble_eq_true rfl) dX2_tell_78 (fun v h' hq => ?_) (fun E h' hq => by first | exact hq.elim | cases hq.2 | cases hq.1)
          obtain ⟨rfl, hq⟩ := hq
          cases hq
          refine xv_iast hX hS (k := 3) rfl (by omega) (by omega) dX2_tell_81 (fun h_81 hS => ?_)
          refine rv_invVR hX iX2_88 mdJ2_set (hS.mc (k := 1) rfl) ⟨TJ2, 3, rv_c17⟩ (j_set hG (d := d - 1) (by omega) (by omega) hle hlf hoa hte0 ⟨"[I", q2826, Or.inr ⟨_, hS.mg (k := 3) rfl, by decide, by decide⟩⟩ (hS.oa (k := 2) rfl) (hS.cpre0 [0,1,1,0] 0 rfl rfl rfl)) (by omega) rfl rfl (Nat.le_of_ble_eq_true rfl) dX2_tell_82 (fun v h' hq => ?_) (fun E h' hq => by first | exact hq.elim | cases hq.2 | cases hq.1)
          obtain ⟨g2, hu, k1, k2, hQ⟩ := hq
          have hS := hS.cpost0 [0,1,1,0] 0 rfl rfl rfl hQ
          cases hu
          refine rv_pop hX dX2_tell_85 rfl ?_
          refine rv_return hX hE ?_ dX2_tell_86
          exact fin _ _ _ _ _ _ _ (by omega) (by omega) hv k1 k2 hS
        · skip
          have hv : nI 0 = nI (if e0 = 0 ∨ e = 0 then 0 else Nat.max e0 e) := by rw [if_pos (Or.inr (by omega))]
          refine nv_iconst hX (m := 0) (by decide) dX2_tell_71 ?_
          refine rv_goto hX 81 dX2_tell_72 (by decide) ?_
          refine xv_iast hX hS (k := 3) rfl (by omega) (by omega) dX2_tell_81 (fun h_81 hS => ?_)
          refine rv_invVR hX iX2_88 mdJ2_set (hS.mc (k := 1) rfl) ⟨TJ2, 3, rv_c17⟩ (j_set hG (d := d - 1) (by omega) (by omega) hle hlf hoa hte0 ⟨"[I", q2826, Or.inr ⟨_, hS.mg (k := 3) rfl, by decide, by decide⟩⟩ (hS.oa (k := 2) rfl) (hS.cpre0 [0,1,1,0] 0 rfl rfl rfl)) (by omega) rfl rfl (Nat.le_of_ble_eq_true rfl) dX2_tell_82 (fun v h' hq => ?_) (fun E h' hq => by first | exact hq.elim | cases hq.2 | cases hq.1)
          obtain ⟨g2, hu, k1, k2, hQ⟩ := hq
          have hS := hS.cpost0 [0,1,1,0] 0 rfl rfl rfl hQ
          cases hu
          refine rv_pop hX dX2_tell_85 rfl ?_
          refine rv_return hX hE ?_ dX2_tell_86
          exact fin _ _ _ _ _ _ _ (by omega) (by omega) hv k1 k2 hS
    · rw [hnil] at hte0
      simp at hte0
