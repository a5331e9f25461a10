/-! THE SYSTEM: a deed begun -/
set_option maxRecDepth 100000
theorem i32_nle4 {k : Int32} (h : k ≤ nI 3) : ¬ nI 4 ≤ k := by
  rw [Int32.le_iff_toInt_le] at h ⊢
  rw [show (nI 3).toInt = 3 from by decide] at h
  rw [show (nI 4).toInt = 4 from by decide]
  omega
theorem x_deed {G : rv_G} (hG : rv_GK G) {d xo n m N : Nat} {s : wS} {M : xM} {md sal r : Int32} {t : Bool} {F : xF} {h : rv_H} (hd : 12 ≤ d) (hSt : xSt G F xo s M) (hw : wfS N s) (hn : 40000 ≤ n) (hm : 200000 ≤ m) (hH : xH G F M n m h) : rv_Call G d yX1_deed wX1_deed [.ref xo, .int md, .int sal, .int (rv_z t), .int r] h (xOq G F xo (xad M) n m h [RJ19, RJ6, RJ18] true (o_deed s md sal t r)) := by
  refine rv_start hG (by decide +kernel) (L := [some (.ref xo), some (.int md), some (.int sal), some (.int (rv_z t)), some (.int r), none]) rfl (Nat.le_of_ble_eq_true rfl) (fun X hX1 hX hE => ?_)
  subst hX1
  have hSt0 := hSt
  obtain ⟨wd, bg, dv, rv, rw1, lv, lf, Nb, Nd, ws, Wg, rfl, ⟨h2, h3⟩, ⟨h4, h5, h6⟩, h7, h8⟩ := hSt
  have hW := h2 wd _ h3
  have hS0 : xS X.1 F h (xo :: xad (Nb ++ Nd)) ([(xo, cO 0 [.ref wd, dv, .ref bg, rv, rw1, lv, .int lf])] ++ (Nb ++ Nd)) n m h := hH.start
  have hS : xS X.1 F h [xo] [(xo, cO 0 [.ref wd, dv, .ref bg, rv, rw1, lv, .int lf])] n m h := hS0.foc
  have hS8 := hw.1.S
  have hdv : dv = .null ∨ ∃ c, dv = .ref c := h7.null.elim (fun q => Or.inl q.2) (fun q => Or.inr q.2)
  have hp : ([(xo, cO 0 [.ref wd, dv, .ref bg, rv, rw1, lv, .int lf])] : xM).Perm ([(xo, cO 0 [.ref wd, dv, .ref bg, rv, rw1, lv, .int lf])] ++ []) := List.Perm.refl _
  have hZ := fun a c (q : xr X.1 F a c) => (hS.frz hp).2.xr q
  have hX0 := hS.frzr hp (a := xo) (List.mem_singleton.mpr rfl)
  have hthr : ∀ (E : String) (h' : rv_H) (n' m' : Nat) (L : xM) (i : Nat), (o_deed s md sal t r).1 = i + 1 ∧ (o_deed s md sal t r).2.2 = s → [RJ19, RJ6, RJ18][i]? = some E → xS X.1 F h [xo] ((xo, cO 0 [.ref wd, dv, .ref bg, rv, rw1, lv, .int lf]) :: L) n' m' h' → n ≤ n' + 40000 → m ≤ m' + 200000 → xOq X.1 F xo (xo :: xad (Nb ++ Nd)) n m h [RJ19, RJ6, RJ18] true (o_deed s md sal t r) (.inr E) h' := fun E h' n' m' L i q1 q2 q3 q4 q5 => xOq.thr (i := i) q1 q2 hSt0 (hS0.unf0 (q3.drop (List.sublist_append_left [(xo, cO 0 [.ref wd, dv, .ref bg, rv, rw1, lv, .int lf])] _))) q4 q5
  by_cases hrng : w_rng 0 3 md ∧ -10 ≤ sal ∧ sal ≤ nI 10
  · have hor : ∀ k, w_idx r s.w.S.length = some k → (dv ≠ .null → o_deed s md sal t r = (3, 0, s)) ∧ (s.d.k = 0 → o_deed s md sal t r = (0, 0, s.setd (d_mk 2 md.toNatClampNeg sal t k [] []))) := fun k hk => by
      unfold o_deed
      rw [hk]
      refine ⟨fun hne => ?_, fun h0 => ?_⟩
      · show (if ¬ (w_rng 0 3 md ∧ -10 ≤ sal ∧ sal ≤ nI 10) then _ else if 0 < s.d.k then _ else _) = _
        rw [if_neg (fun q => q hrng)]
        exact if_pos (Nat.pos_of_ne_zero (fun e => h7.null.elim (fun q => hne q.2) (fun q => q.1 e)))
      · show (if ¬ (w_rng 0 3 md ∧ -10 ≤ sal ∧ sal ≤ nI 10) then _ else if 0 < s.d.k then _ else _) = _
        rw [if_neg (fun q => q hrng)]
        exact if_neg (by omega)
    refine rv_aload_n hX dX1_deed_0 rfl ?_
    refine rv_iload hX dX1_deed_1 rfl ?_
    refine rv_invVR hX iX1_174 mdX1_head (hS.mc (k := 0) rfl) ⟨TX1, 7, rv_c0⟩ (x_head hG (d := d - 1) (by omega) hX0 (hW.mono hZ) hS8 (by omega) (by omega) (hS.cpre [2,2] 0 rfl rfl rfl)) (by omega) rfl rfl (Nat.le_of_ble_eq_true rfl) dX1_deed_3 (fun v h' hq => ?_) (fun E h' hq => by exact rv_out hX hE (fun x hx => by cases hx) (hthr E h' _ _ [] 0 (by unfold o_deed; rw [hq.2.1]; exact ⟨rfl, rfl⟩) (by rw [hq.1]; rfl) (hS.cpost [2, 2] 0 rfl rfl rfl hq.2.2) (by omega) (by omega)))
    obtain ⟨hi, ht, k, hk, hu, hQ⟩ := hq
    have hS := hS.cpost [2,2] 0 rfl rfl rfl hQ
    cases hu
    refine rv_astore hX dX1_deed_6 (rv_st_5 rfl) ?_
    refine rv_iload_n hX dX1_deed_8 rfl ?_
    refine rv_if_lt hX 33 dX1_deed_9 (by decide) (fun q => absurd q (Int32.not_lt.mpr hrng.1.1)) (fun c_9 => ?_)
    refine rv_iload_n hX dX1_deed_12 rfl ?_
    refine nv_iconst hX (m := 4) (by decide) dX1_deed_13 ?_
    refine rv_icmp_ge hX 33 dX1_deed_14 (by decide) (fun q => absurd q (i32_nle4 hrng.1.2)) (fun c_14 => ?_)
    refine rv_iload_n hX dX1_deed_17 rfl ?_
    refine rv_bipush hX (v := -10) dX1_deed_18 (by decide) ?_
    refine rv_icmp_lt hX 33 dX1_deed_20 (by decide) (fun q => absurd q (Int32.not_lt.mpr hrng.2.1)) (fun c_20 => ?_)
    refine rv_iload_n hX dX1_deed_23 rfl ?_
    refine nv_bipush hX (m := 10) (by decide) dX1_deed_24 ?_
    refine rv_icmp_gt hX 33 dX1_deed_26 (by decide) (fun q => absurd q (Int32.not_lt.mpr hrng.2.2)) (fun c_26 => ?_)
    refine nv_iconst hX (m := 1) (by decide) dX1_deed_29 ?_
    refine rv_goto hX 34 dX1_deed_30 (by decide) ?_
    refine rv_invS hX iX1_85 mdX1_checkArgument (x_checkArgument hG (b := true) (d := d - 1) (by omega) (by omega) (by omega) (hS.cpre0 [] 0 rfl rfl rfl)) (by omega) rfl rfl (Nat.le_of_ble_eq_true rfl) dX1_deed_34 (fun v h' hq => ?_) (fun E h' hq => by exact absurd hq.2.1 (by decide))
    obtain ⟨-, rfl, rfl⟩ := hq
    refine rv_aload_n hX dX1_deed_37 rfl ?_
    refine xv_new hX hS nX1_89 (by omega) (show 9 ≤ _ by omega) dX1_deed_38 (fun a_38 h_38 hS => ?_)
    have hS := hS.bud (Nat.le_refl _) (show _ - 9 ≤ _ from Nat.le_refl _)
    refine rv_dup hX dX1_deed_41 rfl ?_
    refine rv_aload hX dX1_deed_42 rfl ?_
    refine nv_iconst hX (m := 1) (by decide) dX1_deed_44 ?_
    refine rv_iload_n hX dX1_deed_45 rfl ?_
    refine rv_iload_n hX dX1_deed_46 rfl ?_
    refine rv_iload_n hX dX1_deed_47 rfl ?_
    refine rv_invI hX iX1_178 mdX10_init rfl (x_clauseInit hG (b := true) (tl := t) (d := d - 1) (by omega) (by omega) (by omega) (hS.cpre0 [0,0,0,1,0,0] 0 rfl rfl rfl)) (by omega) rfl rfl (Nat.le_of_ble_eq_true rfl) dX1_deed_48 (fun v h' hq => ?_) (fun E h' hq => by first | exact hq.elim | cases hq.2 | cases hq.1)
    obtain ⟨bo, ba, hu, hQ⟩ := hq
    have hS := hS.cpost0 [0,0,0,1,0,0] 0 rfl rfl rfl hQ
    cases hu
    refine rv_invVR hX iX1_181 mdX1_begin (hS.mc (k := 0) rfl) ⟨TX1, 7, rv_c0⟩ (x_beginC hG (d := d - 1) (by omega) hdv (by omega) (by omega) (hS.cpre0 [1] 0 rfl rfl rfl)) (by omega) rfl rfl (Nat.le_of_ble_eq_true rfl) dX1_deed_51 (fun v h' hq => ?_) (fun E h' hq => by exact rv_out hX hE (fun x hx => by cases hx) (hthr E h' _ _ _ 2 (by rw [(hor k hk).1 hq.2.1]; exact ⟨rfl, rfl⟩) (by rw [hq.1]; rfl) (hS.cpost0 [1] 0 rfl rfl rfl hq.2.2) (by omega) (by omega)))
    obtain ⟨hnull, hu, hQ⟩ := hq
    have hS := hS.cpost0 [1] 0 rfl rfl rfl hQ
    cases hu
    subst hnull
    refine rv_return hX hE ?_ dX1_deed_54
    have hk0 : s.d.k = 0 := h7.null.elim (fun q => q.1) (fun ⟨_, c, e⟩ => by cases e)
    obtain ⟨mn, -, hm3, rfl, hmc⟩ := w_rng_nat (by decide) (by decide) hrng.1
    rw [(hor k hk).2 hk0, hmc]
    have hS9 : xS X.1 F _ [xo] [(xo, cO 0 [.ref wd, .ref a_38, .ref bg, rv, rw1, lv, .int lf]), (hi, cO 10 [.int (nI 0), .int (nI k), .ref ht, .int (nI 0)]), (ht, cI (s.w.S.getD k 0) (fun _ => 0)), (a_38, cO 9 [.int 0, .ref hi, .int (-1), .int 0, .ref bo, .int (rv_z true), .int (nI mn), .int sal, .int (rv_z t)]), (bo, lO (nI 0) ba 0), (ba, cR 6 (fun _ => none))] _ _ _ := hS
    have hS10 : xS X.1 F _ [xo] ((xo, cO 0 [.ref wd, .ref a_38, .ref bg, rv, rw1, lv, .int lf]) :: [(a_38, cO 9 [.int 0, .ref hi, .int (-1), .int 0, .ref bo, .int (rv_z true), .int (nI mn), .int sal, .int (rv_z t)]), (hi, cO 10 [.int (nI 0), .int (nI k), .ref ht, .int (nI 0)]), (ht, cI (s.w.S.getD k 0) (fun _ => 0)), (bo, lO (nI 0) ba 0), (ba, cR 6 (fun _ => none))]) _ _ _ := hS9.reo 6 [0, 3, 1, 2, 4, 5] rfl (by decide) rfl
    have hS11 := (hS0.unf0 hS10).newd
    exact ⟨F, _, .rf, xSt.draft (Nd := Nd) (dv := .null) (dv' := .ref a_38) (d' := d_mk 2 mn sal t k [] []) ⟨h2, h3⟩ ⟨h4, h5, h6⟩ h8 (xDr_new (k := 2) (md := mn) (sal := sal) (tl := t) (rel := k) (cl := a_38) (hi := hi) (ht := ht) (bo := bo) (ba := ba) (m0 := nI mn) (sal0 := sal) (tl0 := t) (Or.inr rfl) (fun _ => ⟨rfl, rfl, rfl⟩)), hS11.bud (by omega) (by omega), rfl, rfl⟩
  · have hor : ∀ k, w_idx r s.w.S.length = some k → o_deed s md sal t r = (2, 0, s) := fun k hk => by
      unfold o_deed
      rw [hk]
      exact if_pos hrng
    refine rv_aload_n hX dX1_deed_0 rfl ?_
    refine rv_iload hX dX1_deed_1 rfl ?_
    refine rv_invVR hX iX1_174 mdX1_head (hS.mc (k := 0) rfl) ⟨TX1, 7, rv_c0⟩ (x_head hG (d := d - 1) (by omega) hX0 (hW.mono hZ) hS8 (by omega) (by omega) (hS.cpre [2,2] 0 rfl rfl rfl)) (by omega) rfl rfl (Nat.le_of_ble_eq_true rfl) dX1_deed_3 (fun v h' hq => ?_) (fun E h' hq => by exact rv_out hX hE (fun x hx => by cases hx) (hthr E h' _ _ [] 0 (by unfold o_deed; rw [hq.2.1]; exact ⟨rfl, rfl⟩) (by rw [hq.1]; rfl) (hS.cpost [2, 2] 0 rfl rfl rfl hq.2.2) (by omega) (by omega)))
    obtain ⟨hi, ht, k, hk, hu, hQ⟩ := hq
    have hS := hS.cpost [2,2] 0 rfl rfl rfl hQ
    cases hu
    refine rv_astore hX dX1_deed_6 (rv_st_5 rfl) ?_
    refine rv_iload_n hX dX1_deed_8 rfl ?_
    refine rv_if_lt hX 33 dX1_deed_9 (by decide) (fun c_9 => ?_) (fun c_9 => ?_)
    · skip
      refine nv_iconst hX (m := 0) (by decide) dX1_deed_33 ?_
      refine rv_invS hX iX1_85 mdX1_checkArgument (x_checkArgument hG (b := false) (d := d - 1) (by omega) (by omega) (by omega) (hS.cpre0 [] 0 rfl rfl rfl)) (by omega) rfl rfl (Nat.le_of_ble_eq_true rfl) dX1_deed_34 (fun v h' hq => ?_) (fun E h' hq => by exact rv_out hX hE (fun x hx => by cases hx) (hthr E h' _ _ _ 1 (by rw [hor k hk]; exact ⟨rfl, rfl⟩) (by rw [hq.1]; rfl) (hS.cpost0 [] 0 rfl rfl rfl hq.2.2) (by omega) (by omega)))
      obtain ⟨hb, rfl, rfl⟩ := hq
      exact absurd hb (by decide)
    · skip
      refine rv_iload_n hX dX1_deed_12 rfl ?_
      refine nv_iconst hX (m := 4) (by decide) dX1_deed_13 ?_
      first | refine nv_icmp_ge hX 33 (by omega) (by omega) dX1_deed_14 (by decide) (fun c_14 => ?_) (fun c_14 => ?_) | refine rv_icmp_ge hX 33 dX1_deed_14 (by decide) (fun c_14 => ?_) (fun c_14 => ?_)
      · skip
        refine nv_iconst hX (m := 0) (by decide) dX1_deed_33 ?_
        refine rv_invS hX iX1_85 mdX1_checkArgument (x_checkArgument hG (b := false) (d := d - 1) (by omega) (by omega) (by omega) (hS.cpre0 [] 0 rfl rfl rfl)) (by omega) rfl rfl (Nat.le_of_ble_eq_true rfl) dX1_deed_34 (fun v h' hq => ?_) (fun E h' hq => by exact rv_out hX hE (fun x hx => by cases hx) (hthr E h' _ _ _ 1 (by rw [hor k hk]; exact ⟨rfl, rfl⟩) (by rw [hq.1]; rfl) (hS.cpost0 [] 0 rfl rfl rfl hq.2.2) (by omega) (by omega)))
        obtain ⟨hb, rfl, rfl⟩ := hq
        exact absurd hb (by decide)
      · skip
        refine rv_iload_n hX dX1_deed_17 rfl ?_
        refine rv_bipush hX (v := -10) dX1_deed_18 (by decide) ?_
        first | refine nv_icmp_lt hX 33 (by omega) (by omega) dX1_deed_20 (by decide) (fun c_20 => ?_) (fun c_20 => ?_) | refine rv_icmp_lt hX 33 dX1_deed_20 (by decide) (fun c_20 => ?_) (fun c_20 => ?_)
        · skip
          refine nv_iconst hX (m := 0) (by decide) dX1_deed_33 ?_
          refine rv_invS hX iX1_85 mdX1_checkArgument (x_checkArgument hG (b := false) (d := d - 1) (by omega) (by omega) (by omega) (hS.cpre0 [] 0 rfl rfl rfl)) (by omega) rfl rfl (Nat.le_of_ble_eq_true rfl) dX1_deed_34 (fun v h' hq => ?_) (fun E h' hq => by exact rv_out hX hE (fun x hx => by cases hx) (hthr E h' _ _ _ 1 (by rw [hor k hk]; exact ⟨rfl, rfl⟩) (by rw [hq.1]; rfl) (hS.cpost0 [] 0 rfl rfl rfl hq.2.2) (by omega) (by omega)))
          obtain ⟨hb, rfl, rfl⟩ := hq
          exact absurd hb (by decide)
        · skip
          refine rv_iload_n hX dX1_deed_23 rfl ?_
          refine nv_bipush hX (m := 10) (by decide) dX1_deed_24 ?_
          first | refine nv_icmp_gt hX 33 (by omega) (by omega) dX1_deed_26 (by decide) (fun c_26 => ?_) (fun c_26 => ?_) | refine rv_icmp_gt hX 33 dX1_deed_26 (by decide) (fun c_26 => ?_) (fun c_26 => ?_)
          · skip
            refine nv_iconst hX (m := 0) (by decide) dX1_deed_33 ?_
            refine rv_invS hX iX1_85 mdX1_checkArgument (x_checkArgument hG (b := false) (d := d - 1) (by omega) (by omega) (by omega) (hS.cpre0 [] 0 rfl rfl rfl)) (by omega) rfl rfl (Nat.le_of_ble_eq_true rfl) dX1_deed_34 (fun v h' hq => ?_) (fun E h' hq => by exact rv_out hX hE (fun x hx => by cases hx) (hthr E h' _ _ _ 1 (by rw [hor k hk]; exact ⟨rfl, rfl⟩) (by rw [hq.1]; rfl) (hS.cpost0 [] 0 rfl rfl rfl hq.2.2) (by omega) (by omega)))
            obtain ⟨hb, rfl, rfl⟩ := hq
            exact absurd hb (by decide)
          · skip
            exact absurd ⟨⟨Int32.not_lt.mp c_9, i32_lt4 c_14⟩, Int32.not_lt.mp c_20, Int32.not_lt.mp c_26⟩ hrng --done
