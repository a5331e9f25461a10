/-! THE REFERENCE: items typed, a draft cancelled -/
set_option maxRecDepth 100000
theorem wDr.can_spec {S : List Nat} {dr : wDr} (h : dr.can S = true) : dr.k ≠ 0 ∧ dr.its.length < 6 ∧ dr.lacks S = false := by
  unfold wDr.can at h
  obtain ⟨h1, h2⟩ := Bool.and_eq_true_iff.mp h
  obtain ⟨h3, h4⟩ := Bool.and_eq_true_iff.mp h2
  exact ⟨by have := of_decide_eq_true h1; omega, of_decide_eq_true h4, by cases e : dr.lacks S with
    | false => rfl
    | true => rw [e] at h3; cases h3⟩
theorem m_atom {G : rv_G} (hG : rv_GK G) {d : Nat} (hd : 4 ≤ d) {σ : rv_S} {s : wS} (h : mSt σ s) (hb : wB6 s.w) (hw : wfD s.w.S s.d) {r : Int32} : mC G d yX4_atom wX4_atom [.int r] σ (mPv (fun τ => mRes τ 0 (o_atom s r))) := by
  refine mv_start hG (by decide +kernel) (Nat.le_of_ble_eq_true rfl) (fun X Hb o hX1 hX hE => ?_)
  subst hX1
  show rv_V X (rv_mh Hb o _) 0 [some (.ref o), some (.int r)] []
  have hS8 := h.1.1.rel.2.1
  refine rv_aload_n hX dX4_atom_0 rfl ?_
  refine rv_aload_n hX dX4_atom_1 rfl ?_
  refine rv_iload_n hX dX4_atom_2 rfl ?_
  refine mv_callz hX iX4_140 rfl mdX4_isRelation (m_isRelation hG (d := d - 1) (by omega) h.1.1.rel) (by omega) rfl rfl (Nat.le_of_ble_eq_true rfl) dX4_atom_3 (fun r_3 τ_3 h_3 => ?_)
  obtain ⟨rfl, hr⟩ := h_3
  first | refine zv_if_ne hX 13 dX4_atom_6 (by decide) (fun c_6 => ?_) (fun c_6 => ?_) | refine nv_if_ne hX 13 (by omega) dX4_atom_6 (by decide) (fun c_6 => ?_) (fun c_6 => ?_) | refine rv_if_ne hX 13 dX4_atom_6 (by decide) (fun c_6 => ?_) (fun c_6 => ?_)
  · skip
    obtain ⟨k, hk1, rfl⟩ := hr.mp c_6
    have hyes := w_idx_nI hk1 (by omega)
    refine rv_aload_n hX dX4_atom_13 rfl ?_
    refine mv_callz hX iX4_314 rfl mdX4_canAdd (m_canAdd hG (d := d - 1) (by omega) h.1.1.rel h.2.1 hw) (by omega) rfl rfl (Nat.le_of_ble_eq_true rfl) dX4_atom_14 (fun r_14 τ_14 h_14 => ?_)
    obtain ⟨rfl, hc⟩ := h_14
    first | refine zv_if_eq hX 34 dX4_atom_17 (by decide) (fun c_17 => ?_) (fun c_17 => ?_) | refine nv_if_eq hX 34 (by omega) dX4_atom_17 (by decide) (fun c_17 => ?_) (fun c_17 => ?_) | refine rv_if_eq hX 34 dX4_atom_17 (by decide) (fun c_17 => ?_) (fun c_17 => ?_)
    · skip
      refine nv_iconst hX (m := 2) (by decide) dX4_atom_34 ?_
      refine mv_callz hX iX4_266 rfl mdX4_goesWell (m_goesWellN hG (by decide) (by decide) (d := d - 1)) (by omega) rfl rfl (Nat.le_of_ble_eq_true rfl) dX4_atom_35 (fun r_35 τ_35 h_35 => ?_)
      obtain ⟨rfl, rfl⟩ := h_35
      refine rv_if_eq hX 47 dX4_atom_38 (by decide) (fun _ => ?_) (fun q => absurd q (by decide))
      refine mv_retv hX hE dX4_atom_47 ?_
      unfold o_atom
      first
        | (rw [hno]
           exact h.th (by decide))
        | (rw [hyes]
           show mRes _ 0 (if _ then _ else _)
           rw [if_pos (fun q => absurd ((hc.trans q.1).symm.trans c_17) (by decide))]
           exact h.th (by decide))
        | (rw [hyes]
           show mRes _ 0 (if _ then _ else _)
           rw [if_pos (fun q => by
             have : (s.d.its.filter (fun it => it.1 == 0)).length < 3 := q.2
             omega)]
           exact h.th (by decide))
        | (rw [hyes]
           show mRes _ 0 (if _ then _ else _)
           rw [if_neg (fun q => q ⟨hcan, by show (s.d.its.filter (fun it => it.1 == 0)).length < 3; omega⟩)]
           exact h.dr2 hb hp (by decide) (by decide))
    · skip
      have hcan : s.d.can s.w.S = true := by rw [← hc]; exact c_17
      obtain ⟨k1, k2, k3⟩ := wDr.can_spec hcan
      obtain ⟨d1, d2, d3, d4, d5, d6, d7⟩ := h.2.1.2.2.2.2.2 k1
      have hw8 := (hw.2.2.2 k1).2.2.2.2.2.2.2.1
      have hat : (s.d.its.filter (fun it => it.1 == 0)).length ≤ 6 := Nat.le_trans (List.length_filter_le _ _) d4
      refine rv_aload_n hX dX4_atom_20 rfl ?_
      refine nv_bipush hX (m := 16) (by decide) dX4_atom_21 ?_
      refine mv_calli hX iX4_317 rfl mdX4_atomsOf (m_atomsOf hG (d := d - 1) (by omega) (b := 16) (by decide) d4 d3 (fun i it e => ⟨by have := (d7 i it e).1; exact this, (hw8 it (List.mem_of_getElem? e)).1⟩)) (by omega) rfl rfl (Nat.le_of_ble_eq_true rfl) dX4_atom_23 (fun r_23 τ_23 h_23 => ?_)
      obtain ⟨rfl, rfl⟩ := h_23
      refine nv_iconst hX (m := 3) (by decide) dX4_atom_26 ?_
      first | refine nv_icmp_ge hX 34 (by omega) (by omega) dX4_atom_27 (by decide) (fun c_27 => ?_) (fun c_27 => ?_) | refine rv_icmp_ge hX 34 dX4_atom_27 (by decide) (fun c_27 => ?_) (fun c_27 => ?_)
      · skip
        refine nv_iconst hX (m := 2) (by decide) dX4_atom_34 ?_
        refine mv_callz hX iX4_266 rfl mdX4_goesWell (m_goesWellN hG (by decide) (by decide) (d := d - 1)) (by omega) rfl rfl (Nat.le_of_ble_eq_true rfl) dX4_atom_35 (fun r_35 τ_35 h_35 => ?_)
        obtain ⟨rfl, rfl⟩ := h_35
        refine rv_if_eq hX 47 dX4_atom_38 (by decide) (fun _ => ?_) (fun q => absurd q (by decide))
        refine mv_retv hX hE dX4_atom_47 ?_
        unfold o_atom
        first
          | (rw [hno]
             exact h.th (by decide))
          | (rw [hyes]
             show mRes _ 0 (if _ then _ else _)
             rw [if_pos (fun q => absurd ((hc.trans q.1).symm.trans c_17) (by decide))]
             exact h.th (by decide))
          | (rw [hyes]
             show mRes _ 0 (if _ then _ else _)
             rw [if_pos (fun q => by
               have : (s.d.its.filter (fun it => it.1 == 0)).length < 3 := q.2
               omega)]
             exact h.th (by decide))
          | (rw [hyes]
             show mRes _ 0 (if _ then _ else _)
             rw [if_neg (fun q => q ⟨hcan, by show (s.d.its.filter (fun it => it.1 == 0)).length < 3; omega⟩)]
             exact h.dr2 hb hp (by decide) (by decide))
      · skip
        refine nv_iconst hX (m := 0) (by decide) dX4_atom_30 ?_
        refine rv_goto hX 35 dX4_atom_31 (by decide) ?_
        refine mv_callz hX iX4_266 rfl mdX4_goesWell (m_goesWell0 hG (d := d - 1)) (by omega) rfl rfl (Nat.le_of_ble_eq_true rfl) dX4_atom_35 (fun r_35 τ_35 h_35 => ?_)
        obtain ⟨rfl, rfl⟩ := h_35
        refine rv_if_eq hX 47 dX4_atom_38 (by decide) (fun q => absurd q (by decide)) (fun _ => ?_)
        refine rv_aload_n hX dX4_atom_41 rfl ?_
        refine nv_iconst hX (m := 0) (by decide) dX4_atom_42 ?_
        refine rv_iload_n hX dX4_atom_43 rfl ?_
        refine mv_callv hX iX4_320 rfl mdX4_addItem (m_addItem hG (d := d - 1) (kind := 0) (what := k) (h.thrown (nI 0)).2.1 k1 k2) (by omega) rfl rfl (Nat.le_of_ble_eq_true rfl) dX4_atom_44 (fun τ_44 h_44 => ?_)
        have hp := h_44
        refine mv_retv hX hE dX4_atom_47 ?_
        unfold o_atom
        first
          | (rw [hno]
             exact h.th (by decide))
          | (rw [hyes]
             show mRes _ 0 (if _ then _ else _)
             rw [if_pos (fun q => absurd ((hc.trans q.1).symm.trans c_17) (by decide))]
             exact h.th (by decide))
          | (rw [hyes]
             show mRes _ 0 (if _ then _ else _)
             rw [if_pos (fun q => by
               have : (s.d.its.filter (fun it => it.1 == 0)).length < 3 := q.2
               omega)]
             exact h.th (by decide))
          | (rw [hyes]
             show mRes _ 0 (if _ then _ else _)
             rw [if_neg (fun q => q ⟨hcan, by show (s.d.its.filter (fun it => it.1 == 0)).length < 3; omega⟩)]
             exact h.dr2 hb hp (by decide) (by decide))
  · skip
    have hno : w_idx r s.w.S.length = none := w_idx_no (by omega) (fun q => by
      have := hr.mpr q
      rw [c_6] at this
      cases this)
    refine nv_iconst hX (m := 1) (by decide) dX4_atom_9 ?_
    refine rv_goto hX 35 dX4_atom_10 (by decide) ?_
    refine mv_callz hX iX4_266 rfl mdX4_goesWell (m_goesWellN hG (by decide) (by decide) (d := d - 1)) (by omega) rfl rfl (Nat.le_of_ble_eq_true rfl) dX4_atom_35 (fun r_35 τ_35 h_35 => ?_)
    obtain ⟨rfl, rfl⟩ := h_35
    refine rv_if_eq hX 47 dX4_atom_38 (by decide) (fun _ => ?_) (fun q => absurd q (by decide))
    refine mv_retv hX hE dX4_atom_47 ?_
    unfold o_atom
    first
      | (rw [hno]
         exact h.th (by decide))
      | (rw [hyes]
         show mRes _ 0 (if _ then _ else _)
         rw [if_pos (fun q => absurd ((hc.trans q.1).symm.trans c_17) (by decide))]
         exact h.th (by decide))
      | (rw [hyes]
         show mRes _ 0 (if _ then _ else _)
         rw [if_pos (fun q => by
           have : (s.d.its.filter (fun it => it.1 == 0)).length < 3 := q.2
           omega)]
         exact h.th (by decide))
      | (rw [hyes]
         show mRes _ 0 (if _ then _ else _)
         rw [if_neg (fun q => q ⟨hcan, by show (s.d.its.filter (fun it => it.1 == 0)).length < 3; omega⟩)]
         exact h.dr2 hb hp (by decide) (by decide))
theorem m_not {G : rv_G} (hG : rv_GK G) {d : Nat} (hd : 4 ≤ d) {σ : rv_S} {s : wS} (h : mSt σ s) (hb : wB6 s.w) (hw : wfD s.w.S s.d) {r : Int32} : mC G d yX4_not wX4_not [.int r] σ (mPv (fun τ => mRes τ 0 (o_not s r))) := by
  refine mv_start hG (by decide +kernel) (Nat.le_of_ble_eq_true rfl) (fun X Hb o hX1 hX hE => ?_)
  subst hX1
  show rv_V X (rv_mh Hb o _) 0 [some (.ref o), some (.int r)] []
  have hS8 := h.1.1.rel.2.1
  refine rv_aload_n hX dX4_not_0 rfl ?_
  refine rv_aload_n hX dX4_not_1 rfl ?_
  refine rv_iload_n hX dX4_not_2 rfl ?_
  refine mv_callz hX iX4_140 rfl mdX4_isRelation (m_isRelation hG (d := d - 1) (by omega) h.1.1.rel) (by omega) rfl rfl (Nat.le_of_ble_eq_true rfl) dX4_not_3 (fun r_3 τ_3 h_3 => ?_)
  obtain ⟨rfl, hr⟩ := h_3
  first | refine zv_if_ne hX 13 dX4_not_6 (by decide) (fun c_6 => ?_) (fun c_6 => ?_) | refine nv_if_ne hX 13 (by omega) dX4_not_6 (by decide) (fun c_6 => ?_) (fun c_6 => ?_) | refine rv_if_ne hX 13 dX4_not_6 (by decide) (fun c_6 => ?_) (fun c_6 => ?_)
  · skip
    obtain ⟨k, hk1, rfl⟩ := hr.mp c_6
    have hyes := w_idx_nI hk1 (by omega)
    refine rv_aload_n hX dX4_not_13 rfl ?_
    refine mv_callz hX iX4_314 rfl mdX4_canAdd (m_canAdd hG (d := d - 1) (by omega) h.1.1.rel h.2.1 hw) (by omega) rfl rfl (Nat.le_of_ble_eq_true rfl) dX4_not_14 (fun r_14 τ_14 h_14 => ?_)
    obtain ⟨rfl, hc⟩ := h_14
    first | refine zv_if_eq hX 24 dX4_not_17 (by decide) (fun c_17 => ?_) (fun c_17 => ?_) | refine nv_if_eq hX 24 (by omega) dX4_not_17 (by decide) (fun c_17 => ?_) (fun c_17 => ?_) | refine rv_if_eq hX 24 dX4_not_17 (by decide) (fun c_17 => ?_) (fun c_17 => ?_)
    · skip
      refine nv_iconst hX (m := 2) (by decide) dX4_not_24 ?_
      refine mv_callz hX iX4_266 rfl mdX4_goesWell (m_goesWellN hG (by decide) (by decide) (d := d - 1)) (by omega) rfl rfl (Nat.le_of_ble_eq_true rfl) dX4_not_25 (fun r_25 τ_25 h_25 => ?_)
      obtain ⟨rfl, rfl⟩ := h_25
      refine rv_if_eq hX 37 dX4_not_28 (by decide) (fun _ => ?_) (fun q => absurd q (by decide))
      refine mv_retv hX hE dX4_not_37 ?_
      unfold o_not
      first
        | (rw [hno]
           exact h.th (by decide))
        | (rw [hyes]
           show mRes _ 0 (if _ then _ else _)
           rw [if_pos (by rw [← hc]; exact c_17)]
           exact h.th (by decide))
        | (rw [hyes]
           show mRes _ 0 (if _ then _ else _)
           rw [if_neg (by rw [hcan]; decide)]
           exact h.dr2 hb hp (by decide) (by decide))
    · skip
      have hcan : s.d.can s.w.S = true := by rw [← hc]; exact c_17
      obtain ⟨k1, k2, k3⟩ := wDr.can_spec hcan
      refine nv_iconst hX (m := 0) (by decide) dX4_not_20 ?_
      refine rv_goto hX 25 dX4_not_21 (by decide) ?_
      refine mv_callz hX iX4_266 rfl mdX4_goesWell (m_goesWell0 hG (d := d - 1)) (by omega) rfl rfl (Nat.le_of_ble_eq_true rfl) dX4_not_25 (fun r_25 τ_25 h_25 => ?_)
      obtain ⟨rfl, rfl⟩ := h_25
      refine rv_if_eq hX 37 dX4_not_28 (by decide) (fun q => absurd q (by decide)) (fun _ => ?_)
      refine rv_aload_n hX dX4_not_31 rfl ?_
      refine nv_iconst hX (m := 1) (by decide) dX4_not_32 ?_
      refine rv_iload_n hX dX4_not_33 rfl ?_
      refine mv_callv hX iX4_320 rfl mdX4_addItem (m_addItem hG (d := d - 1) (kind := 1) (what := k) (h.thrown (nI 0)).2.1 k1 k2) (by omega) rfl rfl (Nat.le_of_ble_eq_true rfl) dX4_not_34 (fun τ_34 h_34 => ?_)
      have hp := h_34
      refine mv_retv hX hE dX4_not_37 ?_
      unfold o_not
      first
        | (rw [hno]
           exact h.th (by decide))
        | (rw [hyes]
           show mRes _ 0 (if _ then _ else _)
           rw [if_pos (by rw [← hc]; exact c_17)]
           exact h.th (by decide))
        | (rw [hyes]
           show mRes _ 0 (if _ then _ else _)
           rw [if_neg (by rw [hcan]; decide)]
           exact h.dr2 hb hp (by decide) (by decide))
  · skip
    have hno : w_idx r s.w.S.length = none := w_idx_no (by omega) (fun q => by
      have := hr.mpr q
      rw [c_6] at this
      cases this)
    refine nv_iconst hX (m := 1) (by decide) dX4_not_9 ?_
    refine rv_goto hX 25 dX4_not_10 (by decide) ?_
    refine mv_callz hX iX4_266 rfl mdX4_goesWell (m_goesWellN hG (by decide) (by decide) (d := d - 1)) (by omega) rfl rfl (Nat.le_of_ble_eq_true rfl) dX4_not_25 (fun r_25 τ_25 h_25 => ?_)
    obtain ⟨rfl, rfl⟩ := h_25
    refine rv_if_eq hX 37 dX4_not_28 (by decide) (fun _ => ?_) (fun q => absurd q (by decide))
    refine mv_retv hX hE dX4_not_37 ?_
    unfold o_not
    first
      | (rw [hno]
         exact h.th (by decide))
      | (rw [hyes]
         show mRes _ 0 (if _ then _ else _)
         rw [if_pos (by rw [← hc]; exact c_17)]
         exact h.th (by decide))
      | (rw [hyes]
         show mRes _ 0 (if _ then _ else _)
         rw [if_neg (by rw [hcan]; decide)]
         exact h.dr2 hb hp (by decide) (by decide))
theorem m_test {G : rv_G} (hG : rv_GK G) {d : Nat} (hd : 4 ≤ d) {σ : rv_S} {s : wS} (h : mSt σ s) (hb : wB6 s.w) (hw : wfD s.w.S s.d) {r : Int32} : mC G d yX4_test wX4_test [.int r] σ (mPv (fun τ => mRes τ 0 (o_test s r))) := by
  refine mv_start hG (by decide +kernel) (Nat.le_of_ble_eq_true rfl) (fun X Hb o hX1 hX hE => ?_)
  subst hX1
  show rv_V X (rv_mh Hb o _) 0 [some (.ref o), some (.int r)] []
  refine rv_aload_n hX dX4_test_0 rfl ?_
  refine rv_iload_n hX dX4_test_1 rfl ?_
  refine nv_iconst hX (m := 0) (by decide) dX4_test_2 ?_
  refine nv_iconst hX (m := 2) (by decide) dX4_test_3 ?_
  refine sv_callz hX iX4_135 mdX4_in (m_in hG (d := d - 1) (v := r)) (by omega) rfl rfl (Nat.le_of_ble_eq_true rfl) dX4_test_4 (fun r_4 h_4 => ?_)
  have hr := h_4
  first | refine zv_if_ne hX 14 dX4_test_7 (by decide) (fun c_7 => ?_) (fun c_7 => ?_) | refine nv_if_ne hX 14 (by omega) dX4_test_7 (by decide) (fun c_7 => ?_) (fun c_7 => ?_) | refine rv_if_ne hX 14 dX4_test_7 (by decide) (fun c_7 => ?_) (fun c_7 => ?_)
  · skip
    refine rv_aload_n hX dX4_test_14 rfl ?_
    refine mv_callz hX iX4_314 rfl mdX4_canAdd (m_canAdd hG (d := d - 1) (by omega) h.1.1.rel h.2.1 hw) (by omega) rfl rfl (Nat.le_of_ble_eq_true rfl) dX4_test_15 (fun r_15 τ_15 h_15 => ?_)
    obtain ⟨rfl, hc⟩ := h_15
    first | refine zv_if_eq hX 25 dX4_test_18 (by decide) (fun c_18 => ?_) (fun c_18 => ?_) | refine nv_if_eq hX 25 (by omega) dX4_test_18 (by decide) (fun c_18 => ?_) (fun c_18 => ?_) | refine rv_if_eq hX 25 dX4_test_18 (by decide) (fun c_18 => ?_) (fun c_18 => ?_)
    · skip
      refine nv_iconst hX (m := 2) (by decide) dX4_test_25 ?_
      refine mv_callz hX iX4_266 rfl mdX4_goesWell (m_goesWellN hG (by decide) (by decide) (d := d - 1)) (by omega) rfl rfl (Nat.le_of_ble_eq_true rfl) dX4_test_26 (fun r_26 τ_26 h_26 => ?_)
      obtain ⟨rfl, rfl⟩ := h_26
      refine rv_if_eq hX 38 dX4_test_29 (by decide) (fun _ => ?_) (fun q => absurd q (by decide))
      refine mv_retv hX hE dX4_test_38 ?_
      unfold o_test
      first
        | (rw [if_pos (fun q => by
             have := hr.mpr q
             rw [c_7] at this
             cases this)]
           exact h.th (by decide))
        | (rw [if_neg (fun q => q (hr.mp c_7)), if_pos (by rw [← hc]; exact c_18)]
           exact h.th (by decide))
        | (rw [if_neg (fun q => q (hr.mp c_7)), if_neg (by rw [hcan]; decide), n3]
           exact h.dr2 hb hp (by decide) (by decide))
    · skip
      have hcan : s.d.can s.w.S = true := by rw [← hc]; exact c_18
      obtain ⟨k1, k2, k3⟩ := wDr.can_spec hcan
      refine nv_iconst hX (m := 0) (by decide) dX4_test_21 ?_
      refine rv_goto hX 26 dX4_test_22 (by decide) ?_
      refine mv_callz hX iX4_266 rfl mdX4_goesWell (m_goesWell0 hG (d := d - 1)) (by omega) rfl rfl (Nat.le_of_ble_eq_true rfl) dX4_test_26 (fun r_26 τ_26 h_26 => ?_)
      obtain ⟨rfl, rfl⟩ := h_26
      refine rv_if_eq hX 38 dX4_test_29 (by decide) (fun q => absurd q (by decide)) (fun _ => ?_)
      obtain ⟨n, n1, n2, rfl, n3⟩ := w_rng_nat (by decide) (by decide) (hr.mp c_7)
      refine rv_aload_n hX dX4_test_32 rfl ?_
      refine nv_iconst hX (m := 2) (by decide) dX4_test_33 ?_
      refine rv_iload_n hX dX4_test_34 rfl ?_
      refine mv_callv hX iX4_320 rfl mdX4_addItem (m_addItem hG (d := d - 1) (kind := 2) (what := n) (h.thrown (nI 0)).2.1 k1 k2) (by omega) rfl rfl (Nat.le_of_ble_eq_true rfl) dX4_test_35 (fun τ_35 h_35 => ?_)
      have hp := h_35
      refine mv_retv hX hE dX4_test_38 ?_
      unfold o_test
      first
        | (rw [if_pos (fun q => by
             have := hr.mpr q
             rw [c_7] at this
             cases this)]
           exact h.th (by decide))
        | (rw [if_neg (fun q => q (hr.mp c_7)), if_pos (by rw [← hc]; exact c_18)]
           exact h.th (by decide))
        | (rw [if_neg (fun q => q (hr.mp c_7)), if_neg (by rw [hcan]; decide), n3]
           exact h.dr2 hb hp (by decide) (by decide))
  · skip
    refine nv_iconst hX (m := 1) (by decide) dX4_test_10 ?_
    refine rv_goto hX 26 dX4_test_11 (by decide) ?_
    refine mv_callz hX iX4_266 rfl mdX4_goesWell (m_goesWellN hG (by decide) (by decide) (d := d - 1)) (by omega) rfl rfl (Nat.le_of_ble_eq_true rfl) dX4_test_26 (fun r_26 τ_26 h_26 => ?_)
    obtain ⟨rfl, rfl⟩ := h_26
    refine rv_if_eq hX 38 dX4_test_29 (by decide) (fun _ => ?_) (fun q => absurd q (by decide))
    refine mv_retv hX hE dX4_test_38 ?_
    unfold o_test
    first
      | (rw [if_pos (fun q => by
           have := hr.mpr q
           rw [c_7] at this
           cases this)]
         exact h.th (by decide))
      | (rw [if_neg (fun q => q (hr.mp c_7)), if_pos (by rw [← hc]; exact c_18)]
         exact h.th (by decide))
      | (rw [if_neg (fun q => q (hr.mp c_7)), if_neg (by rw [hcan]; decide), n3]
         exact h.dr2 hb hp (by decide) (by decide))
theorem m_plus {G : rv_G} (hG : rv_GK G) {d : Nat} (hd : 4 ≤ d) {σ : rv_S} {s : wS} (h : mSt σ s) (hb : wB6 s.w) (hw : wfD s.w.S s.d) : mC G d yX4_plus wX4_plus [] σ (mPv (fun τ => mRes τ 0 (o_plus s))) := by
  refine mv_start hG (by decide +kernel) (Nat.le_of_ble_eq_true rfl) (fun X Hb o hX1 hX hE => ?_)
  subst hX1
  show rv_V X (rv_mh Hb o _) 0 [some (.ref o)] []
  refine rv_aload_n hX dX4_plus_0 rfl ?_
  refine rv_aload_n hX dX4_plus_1 rfl ?_
  refine mv_callz hX iX4_314 rfl mdX4_canAdd (m_canAdd hG (d := d - 1) (by omega) h.1.1.rel h.2.1 hw) (by omega) rfl rfl (Nat.le_of_ble_eq_true rfl) dX4_plus_2 (fun r_2 τ_2 h_2 => ?_)
  obtain ⟨rfl, hc⟩ := h_2
  first | refine zv_if_eq hX 12 dX4_plus_5 (by decide) (fun c_5 => ?_) (fun c_5 => ?_) | refine nv_if_eq hX 12 (by omega) dX4_plus_5 (by decide) (fun c_5 => ?_) (fun c_5 => ?_) | refine rv_if_eq hX 12 dX4_plus_5 (by decide) (fun c_5 => ?_) (fun c_5 => ?_)
  · skip
    refine nv_iconst hX (m := 1) (by decide) dX4_plus_12 ?_
    refine mv_callz hX iX4_266 rfl mdX4_goesWell (m_goesWellN hG (by decide) (by decide) (d := d - 1)) (by omega) rfl rfl (Nat.le_of_ble_eq_true rfl) dX4_plus_13 (fun r_13 τ_13 h_13 => ?_)
    obtain ⟨rfl, rfl⟩ := h_13
    refine rv_if_eq hX 25 dX4_plus_16 (by decide) (fun _ => ?_) (fun q => absurd q (by decide))
    refine mv_retv hX hE dX4_plus_25 ?_
    unfold o_plus
    first
      | (rw [if_pos (by rw [← hc]; exact c_5)]
         exact h.th (by decide))
      | (rw [if_neg (by rw [hcan]; decide)]
         exact h.dr2 hb hp (by decide) (by decide))
  · skip
    have hcan : s.d.can s.w.S = true := by rw [← hc]; exact c_5
    obtain ⟨k1, k2, k3⟩ := wDr.can_spec hcan
    refine nv_iconst hX (m := 0) (by decide) dX4_plus_8 ?_
    refine rv_goto hX 13 dX4_plus_9 (by decide) ?_
    refine mv_callz hX iX4_266 rfl mdX4_goesWell (m_goesWell0 hG (d := d - 1)) (by omega) rfl rfl (Nat.le_of_ble_eq_true rfl) dX4_plus_13 (fun r_13 τ_13 h_13 => ?_)
    obtain ⟨rfl, rfl⟩ := h_13
    refine rv_if_eq hX 25 dX4_plus_16 (by decide) (fun q => absurd q (by decide)) (fun _ => ?_)
    refine rv_aload_n hX dX4_plus_19 rfl ?_
    refine nv_iconst hX (m := 3) (by decide) dX4_plus_20 ?_
    refine nv_iconst hX (m := 0) (by decide) dX4_plus_21 ?_
    refine mv_callv hX iX4_320 rfl mdX4_addItem (m_addItem hG (d := d - 1) (kind := 3) (what := 0) (h.thrown (nI 0)).2.1 k1 k2) (by omega) rfl rfl (Nat.le_of_ble_eq_true rfl) dX4_plus_22 (fun τ_22 h_22 => ?_)
    have hp := h_22
    refine mv_retv hX hE dX4_plus_25 ?_
    unfold o_plus
    first
      | (rw [if_pos (by rw [← hc]; exact c_5)]
         exact h.th (by decide))
      | (rw [if_neg (by rw [hcan]; decide)]
         exact h.dr2 hb hp (by decide) (by decide))
theorem mDraft.off {σ : rv_S} {S : List Nat} {dr : wDr} (h : mDraft σ S dr) : mDraft (rv_sF σ 23 (nI 0)) S dr.off := ⟨rfl, Nat.zero_le _, h.2.2.1, h.2.2.2.1, h.2.2.2.2.1, fun e => absurd rfl e⟩
theorem mSt.off {σ : rv_S} {s : wS} (h : mSt σ s) : mSt (rv_sF σ 23 (nI 0)) (s.setd s.d.off) := by
  obtain ⟨dep, hdp⟩ := h.2.2.2
  have hs : rv_same [23] [] σ (rv_sF σ 23 (nI 0)) := .f (by decide)
  exact ⟨⟨h.1.1.same hs (by decide), h.1.2.same hs (by decide)⟩, h.2.1.off, h.2.2.1.same hs (by decide) (by decide), dep, hdp.same hs (by decide)⟩
theorem m_cancel {G : rv_G} (hG : rv_GK G) {d : Nat} {σ : rv_S} {s : wS} (h : mSt σ s) : mC G d yX4_cancel wX4_cancel [] σ (mPz (fun r τ => mRes τ (rv_z r) (o_cancel s))) := by
  refine mv_start hG (by decide +kernel) (Nat.le_of_ble_eq_true rfl) (fun X Hb o hX1 hX hE => ?_)
  subst hX1
  show rv_V X (rv_mh Hb o _) 0 [some (.ref o), none] []
  have hk2 := h.2.1.2.1
  have h23 : (rv_sF σ 0 (nI 0)).1 23 = nI s.d.k := h.2.1.1
  refine rv_aload_n hX dX4_cancel_0 rfl ?_
  refine nv_iconst hX (m := 0) (by decide) dX4_cancel_1 ?_
  refine mv_pi hX (k := 0) pX4_131_X4 (by decide) rfl rfl rfl dX4_cancel_2 ?_
  refine rv_aload_n hX dX4_cancel_5 rfl ?_
  refine mv_gi hX (k := 23) gX4_302_X4 (by decide) rfl dX4_cancel_6 ?_
  rw [h23]
  first | refine nv_if_le hX 16 (by omega) dX4_cancel_9 (by decide) (fun c_9 => ?_) (fun c_9 => ?_) | refine rv_if_le hX 16 dX4_cancel_9 (by decide) (fun c_9 => ?_) (fun c_9 => ?_)
  · skip
    refine nv_iconst hX (m := 0) (by decide) dX4_cancel_16 ?_
    refine rv_istore_n hX dX4_cancel_17 (rv_st_1 rfl) ?_
    refine rv_aload_n hX dX4_cancel_18 rfl ?_
    refine nv_iconst hX (m := 0) (by decide) dX4_cancel_19 ?_
    refine mv_pi hX (k := 23) pX4_302_X4 (by decide) rfl rfl rfl dX4_cancel_20 ?_
    refine rv_iload_n hX dX4_cancel_23 rfl ?_
    refine mv_retz hX hE (b := false) rfl dX4_cancel_24 ?_
    refine ⟨rfl, fun _ => ?_, (h.thrown (nI 0)).off⟩
    show _ = rv_z (decide (0 < s.d.k))
    first
      | rw [decide_eq_true (show 0 < s.d.k by omega)]
      | rw [decide_eq_false (show ¬ 0 < s.d.k by omega)]
  · skip
    refine nv_iconst hX (m := 1) (by decide) dX4_cancel_12 ?_
    refine rv_goto hX 17 dX4_cancel_13 (by decide) ?_
    refine rv_istore_n hX dX4_cancel_17 (rv_st_1 rfl) ?_
    refine rv_aload_n hX dX4_cancel_18 rfl ?_
    refine nv_iconst hX (m := 0) (by decide) dX4_cancel_19 ?_
    refine mv_pi hX (k := 23) pX4_302_X4 (by decide) rfl rfl rfl dX4_cancel_20 ?_
    refine rv_iload_n hX dX4_cancel_23 rfl ?_
    refine mv_retz hX hE (b := true) rfl dX4_cancel_24 ?_
    refine ⟨rfl, fun _ => ?_, (h.thrown (nI 0)).off⟩
    show _ = rv_z (decide (0 < s.d.k))
    first
      | rw [decide_eq_true (show 0 < s.d.k by omega)]
      | rw [decide_eq_false (show ¬ 0 < s.d.k by omega)]
