/-! THE REFERENCE: what is typed -/
set_option maxRecDepth 100000
theorem mAgr.of {fs js : List Nat} {σ τ : rv_S} (hs : rv_same fs js σ τ) (h : ∀ e, e ∈ bk_E → e.1 ∈ js → ∀ i, i < e.2 → τ.2.1 e.1 i = σ.2.1 e.1 i) : mAgr σ τ := fun e he i hi => by
  by_cases q : e.1 ∈ js
  · exact h e he q i hi
  · rw [hs.2.1 e.1 q]
theorem mSt.dr {fs js : List Nat} {σ τ : rv_S} {s : wS} {dr : wDr} (h : mSt σ s) (hb : wB6 s.w) (ha : mAgr σ τ) (hs : rv_same fs js σ τ) (hf : 22 ∉ fs) (hj : ∀ j, j ∈ [18, 19, 20, 21, 35] → j ∉ js) (hd : mDraft τ s.w.S dr) : mSt τ (s.setd dr) := by
  obtain ⟨dep, hdp⟩ := h.2.2.2
  exact ⟨⟨h.1.1.agr ha hb.1 hb.2.1 hb.2.2, h.1.2.same hs (hj 18 (by decide))⟩, hd, h.2.2.1.same hs hf (fun j hj2 => hj j (by revert j; decide)), dep, hdp.same hs (hj 35 (by decide))⟩
theorem bk_456 {σ τ : rv_S} (h4 : ∀ i, i ≠ 16 → τ.2.1 4 i = σ.2.1 4 i) (h6 : ∀ i, i ≠ 16 → τ.2.1 6 i = σ.2.1 6 i) (h5 : ∀ i, i < 48 → τ.2.1 5 i = σ.2.1 5 i) {fs : List Nat} (hs : rv_same fs [4, 5, 6] σ τ) : mAgr σ τ := by
  refine mAgr.of hs (fun e he hj i hi => ?_)
  have : e = (4, 16) ∨ e = (5, 48) ∨ e = (6, 16) := by
    clear hi
    revert hj
    revert he
    revert e
    decide
  rcases this with rfl | rfl | rfl
  · exact h4 i (by have : i < 16 := hi; omega)
  · exact h5 i hi
  · exact h6 i (by have : i < 16 := hi; omega)
theorem m_rule {G : rv_G} (hG : rv_GK G) {d : Nat} (hd : 2 ≤ d) {σ : rv_S} {s : wS} (h : mSt σ s) (hb : wB6 s.w) {r : Int32} : mC G d yX4_rule wX4_rule [.int r] σ (mPv (fun τ => mRes τ 0 (o_rule s r))) := by
  refine mv_start hG (by decide +kernel) (Nat.le_of_ble_eq_true rfl) (fun X Hb o hX1 hX hE => ?_)
  subst hX1
  show rv_V X (rv_mh Hb o _) 0 [some (.ref o), some (.int r)] []
  have hS8 := h.1.1.rel.2.1
  have hk2 := h.2.1.2.1
  refine rv_aload_n hX dX4_rule_0 rfl ?_
  refine rv_aload_n hX dX4_rule_1 rfl ?_
  refine rv_iload_n hX dX4_rule_2 rfl ?_
  refine mv_callz hX iX4_140 rfl mdX4_isRelation (m_isRelation hG (d := d - 1) (by omega) h.1.1.rel) (by omega) rfl rfl (Nat.le_of_ble_eq_true rfl) dX4_rule_3 (fun r_3 τ_3 h_3 => ?_)
  obtain ⟨rfl, hr⟩ := h_3
  first | refine zv_if_ne hX 13 dX4_rule_6 (by decide) (fun c_6 => ?_) (fun c_6 => ?_) | refine nv_if_ne hX 13 (by omega) dX4_rule_6 (by decide) (fun c_6 => ?_) (fun c_6 => ?_) | refine rv_if_ne hX 13 dX4_rule_6 (by decide) (fun c_6 => ?_) (fun c_6 => ?_)
  · skip
    obtain ⟨k, hk1, rfl⟩ := hr.mp c_6
    have hyes := w_idx_nI hk1 (by omega)
    refine rv_aload_n hX dX4_rule_13 rfl ?_
    refine mv_gi hX (k := 23) gX4_302_X4 (by decide) rfl dX4_rule_14 ?_
    rw [h.2.1.1]
    first | refine nv_if_le hX 24 (by omega) dX4_rule_17 (by decide) (fun c_17 => ?_) (fun c_17 => ?_) | refine rv_if_le hX 24 dX4_rule_17 (by decide) (fun c_17 => ?_) (fun c_17 => ?_)
    · skip
      refine nv_iconst hX (m := 0) (by decide) dX4_rule_24 ?_
      refine mv_callz hX iX4_266 rfl mdX4_goesWell (m_goesWell0 hG (d := d - 1)) (by omega) rfl rfl (Nat.le_of_ble_eq_true rfl) dX4_rule_25 (fun r_25 τ_25 h_25 => ?_)
      obtain ⟨rfl, rfl⟩ := h_25
      refine rv_if_eq hX 37 dX4_rule_28 (by decide) (fun q => absurd q (by decide)) (fun _ => ?_)
      refine rv_aload_n hX dX4_rule_31 rfl ?_
      refine nv_iconst hX (m := 1) (by decide) dX4_rule_32 ?_
      refine rv_iload_n hX dX4_rule_33 rfl ?_
      refine mv_callv hX iX4_305 rfl mdX4_beginDraft (m_beginDraft hG (d := d - 1) (k := 1) (rel := k)) (by omega) rfl rfl (Nat.le_of_ble_eq_true rfl) dX4_rule_34 (fun τ_34 h_34 => ?_)
      obtain ⟨b1, b2, b3, b4, b5, b6, b7, b8, b9⟩ := h_34
      refine mv_retv hX hE dX4_rule_37 ?_
      unfold o_rule
      first
        | (rw [hno]
           exact h.th (by decide))
        | (rw [hyes]
           show mRes _ 0 (if 0 < s.d.k then _ else _)
           rw [if_pos (by omega)]
           exact h.th (by decide))
        | (rw [hyes]
           show mRes _ 0 (if 0 < s.d.k then _ else _)
           rw [if_neg (by omega)]
           have hd0 := (h.thrown (nI 0)).2.1
           refine ⟨b1.1 0 (by decide), fun _ => rfl, (h.thrown (nI 0)).dr hb (bk_456 b5 b7 b9 b1) b1 (by decide) (by decide) ⟨b2, (show 1 ≤ 2 by decide), ?_, ?_, ?_, fun _ => ⟨b4, hk1, b6, (show 0 ≤ 6 by decide), b3, fun i hi => by rw [b8 i hi]; rfl, fun i it e => by cases e⟩⟩⟩
           · rw [b1.2.1 10 (by decide)]; exact hd0.2.2.1
           · rw [b1.2.1 11 (by decide)]; exact hd0.2.2.2.1
           · rw [b1.2.1 12 (by decide)]; exact hd0.2.2.2.2.1)
    · skip
      refine nv_iconst hX (m := 2) (by decide) dX4_rule_20 ?_
      refine rv_goto hX 25 dX4_rule_21 (by decide) ?_
      refine mv_callz hX iX4_266 rfl mdX4_goesWell (m_goesWellN hG (by decide) (by decide) (d := d - 1)) (by omega) rfl rfl (Nat.le_of_ble_eq_true rfl) dX4_rule_25 (fun r_25 τ_25 h_25 => ?_)
      obtain ⟨rfl, rfl⟩ := h_25
      refine rv_if_eq hX 37 dX4_rule_28 (by decide) (fun _ => ?_) (fun q => absurd q (by decide))
      refine mv_retv hX hE dX4_rule_37 ?_
      unfold o_rule
      first
        | (rw [hno]
           exact h.th (by decide))
        | (rw [hyes]
           show mRes _ 0 (if 0 < s.d.k then _ else _)
           rw [if_pos (by omega)]
           exact h.th (by decide))
        | (rw [hyes]
           show mRes _ 0 (if 0 < s.d.k then _ else _)
           rw [if_neg (by omega)]
           have hd0 := (h.thrown (nI 0)).2.1
           refine ⟨b1.1 0 (by decide), fun _ => rfl, (h.thrown (nI 0)).dr hb (bk_456 b5 b7 b9 b1) b1 (by decide) (by decide) ⟨b2, (show 1 ≤ 2 by decide), ?_, ?_, ?_, fun _ => ⟨b4, hk1, b6, (show 0 ≤ 6 by decide), b3, fun i hi => by rw [b8 i hi]; rfl, fun i it e => by cases e⟩⟩⟩
           · rw [b1.2.1 10 (by decide)]; exact hd0.2.2.1
           · rw [b1.2.1 11 (by decide)]; exact hd0.2.2.2.1
           · rw [b1.2.1 12 (by decide)]; exact hd0.2.2.2.2.1)
  · skip
    have hno : w_idx r s.w.S.length = none := w_idx_no (by omega) (fun q => by
      have := hr.mpr q
      rw [c_6] at this
      cases this)
    refine nv_iconst hX (m := 1) (by decide) dX4_rule_9 ?_
    refine rv_goto hX 25 dX4_rule_10 (by decide) ?_
    refine mv_callz hX iX4_266 rfl mdX4_goesWell (m_goesWellN hG (by decide) (by decide) (d := d - 1)) (by omega) rfl rfl (Nat.le_of_ble_eq_true rfl) dX4_rule_25 (fun r_25 τ_25 h_25 => ?_)
    obtain ⟨rfl, rfl⟩ := h_25
    refine rv_if_eq hX 37 dX4_rule_28 (by decide) (fun _ => ?_) (fun q => absurd q (by decide))
    refine mv_retv hX hE dX4_rule_37 ?_
    unfold o_rule
    first
      | (rw [hno]
         exact h.th (by decide))
      | (rw [hyes]
         show mRes _ 0 (if 0 < s.d.k then _ else _)
         rw [if_pos (by omega)]
         exact h.th (by decide))
      | (rw [hyes]
         show mRes _ 0 (if 0 < s.d.k then _ else _)
         rw [if_neg (by omega)]
         have hd0 := (h.thrown (nI 0)).2.1
         refine ⟨b1.1 0 (by decide), fun _ => rfl, (h.thrown (nI 0)).dr hb (bk_456 b5 b7 b9 b1) b1 (by decide) (by decide) ⟨b2, (show 1 ≤ 2 by decide), ?_, ?_, ?_, fun _ => ⟨b4, hk1, b6, (show 0 ≤ 6 by decide), b3, fun i hi => by rw [b8 i hi]; rfl, fun i it e => by cases e⟩⟩⟩
         · rw [b1.2.1 10 (by decide)]; exact hd0.2.2.1
         · rw [b1.2.1 11 (by decide)]; exact hd0.2.2.2.1
         · rw [b1.2.1 12 (by decide)]; exact hd0.2.2.2.2.1)
theorem m_deed {G : rv_G} (hG : rv_GK G) {d : Nat} (hd : 2 ≤ d) {σ : rv_S} {s : wS} (h : mSt σ s) (hb : wB6 s.w) {m sal r : Int32} {t : Bool} : mC G d yX4_deed wX4_deed [.int m, .int sal, .int (rv_z t), .int r] σ (mPv (fun τ => mRes τ 0 (o_deed s m sal t r))) := by
  refine mv_start hG (by decide +kernel) (Nat.le_of_ble_eq_true rfl) (fun X Hb o hX1 hX hE => ?_)
  subst hX1
  show rv_V X (rv_mh Hb o _) 0 [some (.ref o), some (.int m), some (.int sal), some (.int (rv_z t)), some (.int r), none] []
  have hS8 := h.1.1.rel.2.1
  have hk2 := h.2.1.2.1
  refine rv_iload_n hX dX4_deed_0 rfl ?_
  refine nv_iconst hX (m := 0) (by decide) dX4_deed_1 ?_
  refine nv_iconst hX (m := 3) (by decide) dX4_deed_2 ?_
  refine sv_callz hX iX4_135 mdX4_in (m_in hG (d := d - 1) (v := m)) (by omega) rfl rfl (Nat.le_of_ble_eq_true rfl) dX4_deed_3 (fun r_3 h_3 => ?_)
  have hm := h_3
  first | refine zv_if_eq hX 24 dX4_deed_6 (by decide) (fun c_6 => ?_) (fun c_6 => ?_) | refine nv_if_eq hX 24 (by omega) dX4_deed_6 (by decide) (fun c_6 => ?_) (fun c_6 => ?_) | refine rv_if_eq hX 24 dX4_deed_6 (by decide) (fun c_6 => ?_) (fun c_6 => ?_)
  · skip
    have hnr : ¬ (w_rng 0 3 m ∧ -10 ≤ sal ∧ sal ≤ nI 10) := fun q => by
      have := hm.mpr q.1
      rw [c_6] at this
      cases this
    refine nv_iconst hX (m := 0) (by decide) dX4_deed_24 ?_
    refine rv_istore hX dX4_deed_25 (rv_st_5 rfl) ?_
    refine rv_aload_n hX dX4_deed_27 rfl ?_
    refine rv_aload_n hX dX4_deed_28 rfl ?_
    refine rv_iload hX dX4_deed_29 rfl ?_
    refine mv_callz hX iX4_140 rfl mdX4_isRelation (m_isRelation hG (d := d - 1) (by omega) h.1.1.rel) (by omega) rfl rfl (Nat.le_of_ble_eq_true rfl) dX4_deed_31 (fun r_31 τ_31 h_31 => ?_)
    obtain ⟨rfl, hr⟩ := h_31
    first | refine zv_if_ne hX 41 dX4_deed_34 (by decide) (fun c_34 => ?_) (fun c_34 => ?_) | refine nv_if_ne hX 41 (by omega) dX4_deed_34 (by decide) (fun c_34 => ?_) (fun c_34 => ?_) | refine rv_if_ne hX 41 dX4_deed_34 (by decide) (fun c_34 => ?_) (fun c_34 => ?_)
    · skip
      obtain ⟨k, hk1, rfl⟩ := hr.mp c_34
      have hyes := w_idx_nI hk1 (by omega)
      refine rv_iload hX dX4_deed_41 rfl ?_
      refine rv_if_ne hX 50 dX4_deed_43 (by decide) (fun q => absurd q (by decide)) (fun _ => ?_)
      refine nv_iconst hX (m := 2) (by decide) dX4_deed_46 ?_
      refine rv_goto hX 62 dX4_deed_47 (by decide) ?_
      refine mv_callz hX iX4_266 rfl mdX4_goesWell (m_goesWellN hG (by decide) (by decide) (d := d - 1)) (by omega) rfl rfl (Nat.le_of_ble_eq_true rfl) dX4_deed_62 (fun r_62 τ_62 h_62 => ?_)
      obtain ⟨rfl, rfl⟩ := h_62
      refine rv_if_eq hX 107 dX4_deed_65 (by decide) (fun _ => ?_) (fun q => absurd q (by decide))
      refine mv_retv hX hE dX4_deed_107 ?_
      unfold o_deed
      first
        | (rw [hno]
           exact h.th (by decide))
        | (rw [hyes]
           show mRes _ 0 (if _ then _ else _)
           rw [if_pos hnr]
           exact h.th (by decide))
        | (rw [hyes]
           show mRes _ 0 (if _ then _ else if 0 < s.d.k then _ else _)
           rw [if_neg (fun q => q hrg), if_pos (by omega)]
           exact h.th (by decide))
        | (rw [hyes]
           show mRes _ 0 (if _ then _ else if 0 < s.d.k then _ else _)
           rw [if_neg (fun q => q hrg), if_neg (by omega), hm4]
           have hz : ∀ v, v = rv_z t → mRes (rv_sU (rv_sU (rv_sU τ_72 10 16 (nI mm)) 11 16 sal) 12 16 v) 0 (0, 0, s.setd (d_mk 2 mm sal t k [] [])) := by
             intro v hv
             subst hv
             have hs2 : rv_same [] [10, 11, 12] τ_72 (rv_sU (rv_sU (rv_sU τ_72 10 16 (nI mm)) 11 16 sal) 12 16 (rv_z t)) := ((rv_same.u (by decide)).tr (.u (by decide))).tr (.u (by decide))
             have hs3 : rv_same [23, 24] [4, 5, 6, 10, 11, 12] (rv_sF τ_31 0 (nI 0)) (rv_sU (rv_sU (rv_sU τ_72 10 16 (nI mm)) 11 16 sal) 12 16 (rv_z t)) := (b1.mn (by decide) (by decide)).tr (hs2.mn (by decide) (by decide))
             have g10 : ∀ i, (rv_sU (rv_sU (rv_sU τ_72 10 16 (nI mm)) 11 16 sal) 12 16 (rv_z t)).2.1 10 i = if i = 16 then nI mm else τ_72.2.1 10 i := fun i => by
               rw [rv_sU_2, if_neg (fun q => absurd q.1 (by decide)), rv_sU_2, if_neg (fun q => absurd q.1 (by decide)), rv_sU_2]
               by_cases q : i = 16
               · rw [if_pos ⟨rfl, q⟩, if_pos q]
               · rw [if_neg (fun q2 => q q2.2), if_neg q]
             have g11 : ∀ i, (rv_sU (rv_sU (rv_sU τ_72 10 16 (nI mm)) 11 16 sal) 12 16 (rv_z t)).2.1 11 i = if i = 16 then sal else τ_72.2.1 11 i := fun i => by
               rw [rv_sU_2, if_neg (fun q => absurd q.1 (by decide)), rv_sU_2]
               by_cases q : i = 16
               · rw [if_pos ⟨rfl, q⟩, if_pos q]
               · rw [if_neg (fun q2 => q q2.2), if_neg q, rv_sU_2, if_neg (fun q => absurd q.1 (by decide))]
             have g12 : ∀ i, (rv_sU (rv_sU (rv_sU τ_72 10 16 (nI mm)) 11 16 sal) 12 16 (rv_z t)).2.1 12 i = if i = 16 then rv_z t else τ_72.2.1 12 i := fun i => by
               rw [rv_sU_2]
               by_cases q : i = 16
               · rw [if_pos ⟨rfl, q⟩, if_pos q]
               · rw [if_neg (fun q2 => q q2.2), if_neg q, rv_sU_2, if_neg (fun q => absurd q.1 (by decide)), rv_sU_2, if_neg (fun q => absurd q.1 (by decide))]
             generalize rv_sU (rv_sU (rv_sU τ_72 10 16 (nI mm)) 11 16 sal) 12 16 (rv_z t) = υ at hs2 hs3 g10 g11 g12
             have e4 := hs2.2.1 4 (by decide)
             have e5 := hs2.2.1 5 (by decide)
             have e6 := hs2.2.1 6 (by decide)
             refine ⟨by rw [hs3.1 0 (by decide)]; rfl, fun _ => rfl, (h.thrown (nI 0)).dr hb (mAgr.of hs3 (fun e he hj i hi => ?_)) hs3 (by decide) (by decide) ⟨by rw [hs2.1 23 (by decide)]; exact b2, (show 2 ≤ 2 by decide), by rw [g10]; rfl, by rw [g11]; rfl, by rw [g12]; rfl, fun _ => ⟨by rw [e4]; exact b4, hk1, by rw [e6]; exact b6, (show 0 ≤ 6 by decide), by rw [hs2.1 24 (by decide)]; exact b3, fun i hi => by rw [e5, b8 i hi]; rfl, fun i it e => by cases e⟩⟩⟩
             have : e = (4, 16) ∨ e = (5, 48) ∨ e = (6, 16) ∨ e = (10, 16) ∨ e = (11, 16) ∨ e = (12, 16) := by
               revert hj
               revert he
               clear hi
               revert e
               decide
             rcases this with rfl | rfl | rfl | rfl | rfl | rfl
             · rw [e4]; exact b5 i (by have : i < 16 := hi; omega)
             · rw [e5]; exact b9 i hi
             · rw [e6]; exact b7 i (by have : i < 16 := hi; omega)
             · rw [g10, if_neg (by have : i < 16 := hi; omega), b1.2.1 10 (by decide)]
             · rw [g11, if_neg (by have : i < 16 := hi; omega), b1.2.1 11 (by decide)]
             · rw [g12, if_neg (by have : i < 16 := hi; omega), b1.2.1 12 (by decide)]
           exact hz _ (by rw [c_98]; rfl))
    · skip
      have hno : w_idx r s.w.S.length = none := w_idx_no (by omega) (fun q => by
        have := hr.mpr q
        rw [c_34] at this
        cases this)
      refine nv_iconst hX (m := 1) (by decide) dX4_deed_37 ?_
      refine rv_goto hX 62 dX4_deed_38 (by decide) ?_
      refine mv_callz hX iX4_266 rfl mdX4_goesWell (m_goesWellN hG (by decide) (by decide) (d := d - 1)) (by omega) rfl rfl (Nat.le_of_ble_eq_true rfl) dX4_deed_62 (fun r_62 τ_62 h_62 => ?_)
      obtain ⟨rfl, rfl⟩ := h_62
      refine rv_if_eq hX 107 dX4_deed_65 (by decide) (fun _ => ?_) (fun q => absurd q (by decide))
      refine mv_retv hX hE dX4_deed_107 ?_
      unfold o_deed
      first
        | (rw [hno]
           exact h.th (by decide))
        | (rw [hyes]
           show mRes _ 0 (if _ then _ else _)
           rw [if_pos hnr]
           exact h.th (by decide))
        | (rw [hyes]
           show mRes _ 0 (if _ then _ else if 0 < s.d.k then _ else _)
           rw [if_neg (fun q => q hrg), if_pos (by omega)]
           exact h.th (by decide))
        | (rw [hyes]
           show mRes _ 0 (if _ then _ else if 0 < s.d.k then _ else _)
           rw [if_neg (fun q => q hrg), if_neg (by omega), hm4]
           have hz : ∀ v, v = rv_z t → mRes (rv_sU (rv_sU (rv_sU τ_72 10 16 (nI mm)) 11 16 sal) 12 16 v) 0 (0, 0, s.setd (d_mk 2 mm sal t k [] [])) := by
             intro v hv
             subst hv
             have hs2 : rv_same [] [10, 11, 12] τ_72 (rv_sU (rv_sU (rv_sU τ_72 10 16 (nI mm)) 11 16 sal) 12 16 (rv_z t)) := ((rv_same.u (by decide)).tr (.u (by decide))).tr (.u (by decide))
             have hs3 : rv_same [23, 24] [4, 5, 6, 10, 11, 12] (rv_sF τ_31 0 (nI 0)) (rv_sU (rv_sU (rv_sU τ_72 10 16 (nI mm)) 11 16 sal) 12 16 (rv_z t)) := (b1.mn (by decide) (by decide)).tr (hs2.mn (by decide) (by decide))
             have g10 : ∀ i, (rv_sU (rv_sU (rv_sU τ_72 10 16 (nI mm)) 11 16 sal) 12 16 (rv_z t)).2.1 10 i = if i = 16 then nI mm else τ_72.2.1 10 i := fun i => by
               rw [rv_sU_2, if_neg (fun q => absurd q.1 (by decide)), rv_sU_2, if_neg (fun q => absurd q.1 (by decide)), rv_sU_2]
               by_cases q : i = 16
               · rw [if_pos ⟨rfl, q⟩, if_pos q]
               · rw [if_neg (fun q2 => q q2.2), if_neg q]
             have g11 : ∀ i, (rv_sU (rv_sU (rv_sU τ_72 10 16 (nI mm)) 11 16 sal) 12 16 (rv_z t)).2.1 11 i = if i = 16 then sal else τ_72.2.1 11 i := fun i => by
               rw [rv_sU_2, if_neg (fun q => absurd q.1 (by decide)), rv_sU_2]
               by_cases q : i = 16
               · rw [if_pos ⟨rfl, q⟩, if_pos q]
               · rw [if_neg (fun q2 => q q2.2), if_neg q, rv_sU_2, if_neg (fun q => absurd q.1 (by decide))]
             have g12 : ∀ i, (rv_sU (rv_sU (rv_sU τ_72 10 16 (nI mm)) 11 16 sal) 12 16 (rv_z t)).2.1 12 i = if i = 16 then rv_z t else τ_72.2.1 12 i := fun i => by
               rw [rv_sU_2]
               by_cases q : i = 16
               · rw [if_pos ⟨rfl, q⟩, if_pos q]
               · rw [if_neg (fun q2 => q q2.2), if_neg q, rv_sU_2, if_neg (fun q => absurd q.1 (by decide)), rv_sU_2, if_neg (fun q => absurd q.1 (by decide))]
             generalize rv_sU (rv_sU (rv_sU τ_72 10 16 (nI mm)) 11 16 sal) 12 16 (rv_z t) = υ at hs2 hs3 g10 g11 g12
             have e4 := hs2.2.1 4 (by decide)
             have e5 := hs2.2.1 5 (by decide)
             have e6 := hs2.2.1 6 (by decide)
             refine ⟨by rw [hs3.1 0 (by decide)]; rfl, fun _ => rfl, (h.thrown (nI 0)).dr hb (mAgr.of hs3 (fun e he hj i hi => ?_)) hs3 (by decide) (by decide) ⟨by rw [hs2.1 23 (by decide)]; exact b2, (show 2 ≤ 2 by decide), by rw [g10]; rfl, by rw [g11]; rfl, by rw [g12]; rfl, fun _ => ⟨by rw [e4]; exact b4, hk1, by rw [e6]; exact b6, (show 0 ≤ 6 by decide), by rw [hs2.1 24 (by decide)]; exact b3, fun i hi => by rw [e5, b8 i hi]; rfl, fun i it e => by cases e⟩⟩⟩
             have : e = (4, 16) ∨ e = (5, 48) ∨ e = (6, 16) ∨ e = (10, 16) ∨ e = (11, 16) ∨ e = (12, 16) := by
               revert hj
               revert he
               clear hi
               revert e
               decide
             rcases this with rfl | rfl | rfl | rfl | rfl | rfl
             · rw [e4]; exact b5 i (by have : i < 16 := hi; omega)
             · rw [e5]; exact b9 i hi
             · rw [e6]; exact b7 i (by have : i < 16 := hi; omega)
             · rw [g10, if_neg (by have : i < 16 := hi; omega), b1.2.1 10 (by decide)]
             · rw [g11, if_neg (by have : i < 16 := hi; omega), b1.2.1 11 (by decide)]
             · rw [g12, if_neg (by have : i < 16 := hi; omega), b1.2.1 12 (by decide)]
           exact hz _ (by rw [c_98]; rfl))
  · skip
    refine rv_iload_n hX dX4_deed_9 rfl ?_
    refine rv_bipush hX (v := -10) dX4_deed_10 (by decide) ?_
    refine nv_bipush hX (m := 10) (by decide) dX4_deed_12 ?_
    refine sv_callz hX iX4_135 mdX4_in (m_in hG (d := d - 1) (v := sal)) (by omega) rfl rfl (Nat.le_of_ble_eq_true rfl) dX4_deed_14 (fun r_14 h_14 => ?_)
    have hsal := h_14
    first | refine zv_if_eq hX 24 dX4_deed_17 (by decide) (fun c_17 => ?_) (fun c_17 => ?_) | refine nv_if_eq hX 24 (by omega) dX4_deed_17 (by decide) (fun c_17 => ?_) (fun c_17 => ?_) | refine rv_if_eq hX 24 dX4_deed_17 (by decide) (fun c_17 => ?_) (fun c_17 => ?_)
    · skip
      have hnr : ¬ (w_rng 0 3 m ∧ -10 ≤ sal ∧ sal ≤ nI 10) := fun q => by
        have := hsal.mpr q.2
        rw [c_17] at this
        cases this
      refine nv_iconst hX (m := 0) (by decide) dX4_deed_24 ?_
      refine rv_istore hX dX4_deed_25 (rv_st_5 rfl) ?_
      refine rv_aload_n hX dX4_deed_27 rfl ?_
      refine rv_aload_n hX dX4_deed_28 rfl ?_
      refine rv_iload hX dX4_deed_29 rfl ?_
      refine mv_callz hX iX4_140 rfl mdX4_isRelation (m_isRelation hG (d := d - 1) (by omega) h.1.1.rel) (by omega) rfl rfl (Nat.le_of_ble_eq_true rfl) dX4_deed_31 (fun r_31 τ_31 h_31 => ?_)
      obtain ⟨rfl, hr⟩ := h_31
      first | refine zv_if_ne hX 41 dX4_deed_34 (by decide) (fun c_34 => ?_) (fun c_34 => ?_) | refine nv_if_ne hX 41 (by omega) dX4_deed_34 (by decide) (fun c_34 => ?_) (fun c_34 => ?_) | refine rv_if_ne hX 41 dX4_deed_34 (by decide) (fun c_34 => ?_) (fun c_34 => ?_)
      · skip
        obtain ⟨k, hk1, rfl⟩ := hr.mp c_34
        have hyes := w_idx_nI hk1 (by omega)
        refine rv_iload hX dX4_deed_41 rfl ?_
        refine rv_if_ne hX 50 dX4_deed_43 (by decide) (fun q => absurd q (by decide)) (fun _ => ?_)
        refine nv_iconst hX (m := 2) (by decide) dX4_deed_46 ?_
        refine rv_goto hX 62 dX4_deed_47 (by decide) ?_
        refine mv_callz hX iX4_266 rfl mdX4_goesWell (m_goesWellN hG (by decide) (by decide) (d := d - 1)) (by omega) rfl rfl (Nat.le_of_ble_eq_true rfl) dX4_deed_62 (fun r_62 τ_62 h_62 => ?_)
        obtain ⟨rfl, rfl⟩ := h_62
        refine rv_if_eq hX 107 dX4_deed_65 (by decide) (fun _ => ?_) (fun q => absurd q (by decide))
        refine mv_retv hX hE dX4_deed_107 ?_
        unfold o_deed
        first
          | (rw [hno]
             exact h.th (by decide))
          | (rw [hyes]
             show mRes _ 0 (if _ then _ else _)
             rw [if_pos hnr]
             exact h.th (by decide))
          | (rw [hyes]
             show mRes _ 0 (if _ then _ else if 0 < s.d.k then _ else _)
             rw [if_neg (fun q => q hrg), if_pos (by omega)]
             exact h.th (by decide))
          | (rw [hyes]
             show mRes _ 0 (if _ then _ else if 0 < s.d.k then _ else _)
             rw [if_neg (fun q => q hrg), if_neg (by omega), hm4]
             have hz : ∀ v, v = rv_z t → mRes (rv_sU (rv_sU (rv_sU τ_72 10 16 (nI mm)) 11 16 sal) 12 16 v) 0 (0, 0, s.setd (d_mk 2 mm sal t k [] [])) := by
               intro v hv
               subst hv
               have hs2 : rv_same [] [10, 11, 12] τ_72 (rv_sU (rv_sU (rv_sU τ_72 10 16 (nI mm)) 11 16 sal) 12 16 (rv_z t)) := ((rv_same.u (by decide)).tr (.u (by decide))).tr (.u (by decide))
               have hs3 : rv_same [23, 24] [4, 5, 6, 10, 11, 12] (rv_sF τ_31 0 (nI 0)) (rv_sU (rv_sU (rv_sU τ_72 10 16 (nI mm)) 11 16 sal) 12 16 (rv_z t)) := (b1.mn (by decide) (by decide)).tr (hs2.mn (by decide) (by decide))
               have g10 : ∀ i, (rv_sU (rv_sU (rv_sU τ_72 10 16 (nI mm)) 11 16 sal) 12 16 (rv_z t)).2.1 10 i = if i = 16 then nI mm else τ_72.2.1 10 i := fun i => by
                 rw [rv_sU_2, if_neg (fun q => absurd q.1 (by decide)), rv_sU_2, if_neg (fun q => absurd q.1 (by decide)), rv_sU_2]
                 by_cases q : i = 16
                 · rw [if_pos ⟨rfl, q⟩, if_pos q]
                 · rw [if_neg (fun q2 => q q2.2), if_neg q]
               have g11 : ∀ i, (rv_sU (rv_sU (rv_sU τ_72 10 16 (nI mm)) 11 16 sal) 12 16 (rv_z t)).2.1 11 i = if i = 16 then sal else τ_72.2.1 11 i := fun i => by
                 rw [rv_sU_2, if_neg (fun q => absurd q.1 (by decide)), rv_sU_2]
                 by_cases q : i = 16
                 · rw [if_pos ⟨rfl, q⟩, if_pos q]
                 · rw [if_neg (fun q2 => q q2.2), if_neg q, rv_sU_2, if_neg (fun q => absurd q.1 (by decide))]
               have g12 : ∀ i, (rv_sU (rv_sU (rv_sU τ_72 10 16 (nI mm)) 11 16 sal) 12 16 (rv_z t)).2.1 12 i = if i = 16 then rv_z t else τ_72.2.1 12 i := fun i => by
                 rw [rv_sU_2]
                 by_cases q : i = 16
                 · rw [if_pos ⟨rfl, q⟩, if_pos q]
                 · rw [if_neg (fun q2 => q q2.2), if_neg q, rv_sU_2, if_neg (fun q => absurd q.1 (by decide)), rv_sU_2, if_neg (fun q => absurd q.1 (by decide))]
               generalize rv_sU (rv_sU (rv_sU τ_72 10 16 (nI mm)) 11 16 sal) 12 16 (rv_z t) = υ at hs2 hs3 g10 g11 g12
               have e4 := hs2.2.1 4 (by decide)
               have e5 := hs2.2.1 5 (by decide)
               have e6 := hs2.2.1 6 (by decide)
               refine ⟨by rw [hs3.1 0 (by decide)]; rfl, fun _ => rfl, (h.thrown (nI 0)).dr hb (mAgr.of hs3 (fun e he hj i hi => ?_)) hs3 (by decide) (by decide) ⟨by rw [hs2.1 23 (by decide)]; exact b2, (show 2 ≤ 2 by decide), by rw [g10]; rfl, by rw [g11]; rfl, by rw [g12]; rfl, fun _ => ⟨by rw [e4]; exact b4, hk1, by rw [e6]; exact b6, (show 0 ≤ 6 by decide), by rw [hs2.1 24 (by decide)]; exact b3, fun i hi => by rw [e5, b8 i hi]; rfl, fun i it e => by cases e⟩⟩⟩
               have : e = (4, 16) ∨ e = (5, 48) ∨ e = (6, 16) ∨ e = (10, 16) ∨ e = (11, 16) ∨ e = (12, 16) := by
                 revert hj
                 revert he
                 clear hi
                 revert e
                 decide
               rcases this with rfl | rfl | rfl | rfl | rfl | rfl
               · rw [e4]; exact b5 i (by have : i < 16 := hi; omega)
               · rw [e5]; exact b9 i hi
               · rw [e6]; exact b7 i (by have : i < 16 := hi; omega)
               · rw [g10, if_neg (by have : i < 16 := hi; omega), b1.2.1 10 (by decide)]
               · rw [g11, if_neg (by have : i < 16 := hi; omega), b1.2.1 11 (by decide)]
               · rw [g12, if_neg (by have : i < 16 := hi; omega), b1.2.1 12 (by decide)]
             exact hz _ (by rw [c_98]; rfl))
      · skip
        have hno : w_idx r s.w.S.length = none := w_idx_no (by omega) (fun q => by
          have := hr.mpr q
          rw [c_34] at this
          cases this)
        refine nv_iconst hX (m := 1) (by decide) dX4_deed_37 ?_
        refine rv_goto hX 62 dX4_deed_38 (by decide) ?_
        refine mv_callz hX iX4_266 rfl mdX4_goesWell (m_goesWellN hG (by decide) (by decide) (d := d - 1)) (by omega) rfl rfl (Nat.le_of_ble_eq_true rfl) dX4_deed_62 (fun r_62 τ_62 h_62 => ?_)
        obtain ⟨rfl, rfl⟩ := h_62
        refine rv_if_eq hX 107 dX4_deed_65 (by decide) (fun _ => ?_) (fun q => absurd q (by decide))
        refine mv_retv hX hE dX4_deed_107 ?_
        unfold o_deed
        first
          | (rw [hno]
             exact h.th (by decide))
          | (rw [hyes]
             show mRes _ 0 (if _ then _ else _)
             rw [if_pos hnr]
             exact h.th (by decide))
          | (rw [hyes]
             show mRes _ 0 (if _ then _ else if 0 < s.d.k then _ else _)
             rw [if_neg (fun q => q hrg), if_pos (by omega)]
             exact h.th (by decide))
          | (rw [hyes]
             show mRes _ 0 (if _ then _ else if 0 < s.d.k then _ else _)
             rw [if_neg (fun q => q hrg), if_neg (by omega), hm4]
             have hz : ∀ v, v = rv_z t → mRes (rv_sU (rv_sU (rv_sU τ_72 10 16 (nI mm)) 11 16 sal) 12 16 v) 0 (0, 0, s.setd (d_mk 2 mm sal t k [] [])) := by
               intro v hv
               subst hv
               have hs2 : rv_same [] [10, 11, 12] τ_72 (rv_sU (rv_sU (rv_sU τ_72 10 16 (nI mm)) 11 16 sal) 12 16 (rv_z t)) := ((rv_same.u (by decide)).tr (.u (by decide))).tr (.u (by decide))
               have hs3 : rv_same [23, 24] [4, 5, 6, 10, 11, 12] (rv_sF τ_31 0 (nI 0)) (rv_sU (rv_sU (rv_sU τ_72 10 16 (nI mm)) 11 16 sal) 12 16 (rv_z t)) := (b1.mn (by decide) (by decide)).tr (hs2.mn (by decide) (by decide))
               have g10 : ∀ i, (rv_sU (rv_sU (rv_sU τ_72 10 16 (nI mm)) 11 16 sal) 12 16 (rv_z t)).2.1 10 i = if i = 16 then nI mm else τ_72.2.1 10 i := fun i => by
                 rw [rv_sU_2, if_neg (fun q => absurd q.1 (by decide)), rv_sU_2, if_neg (fun q => absurd q.1 (by decide)), rv_sU_2]
                 by_cases q : i = 16
                 · rw [if_pos ⟨rfl, q⟩, if_pos q]
                 · rw [if_neg (fun q2 => q q2.2), if_neg q]
               have g11 : ∀ i, (rv_sU (rv_sU (rv_sU τ_72 10 16 (nI mm)) 11 16 sal) 12 16 (rv_z t)).2.1 11 i = if i = 16 then sal else τ_72.2.1 11 i := fun i => by
                 rw [rv_sU_2, if_neg (fun q => absurd q.1 (by decide)), rv_sU_2]
                 by_cases q : i = 16
                 · rw [if_pos ⟨rfl, q⟩, if_pos q]
                 · rw [if_neg (fun q2 => q q2.2), if_neg q, rv_sU_2, if_neg (fun q => absurd q.1 (by decide))]
               have g12 : ∀ i, (rv_sU (rv_sU (rv_sU τ_72 10 16 (nI mm)) 11 16 sal) 12 16 (rv_z t)).2.1 12 i = if i = 16 then rv_z t else τ_72.2.1 12 i := fun i => by
                 rw [rv_sU_2]
                 by_cases q : i = 16
                 · rw [if_pos ⟨rfl, q⟩, if_pos q]
                 · rw [if_neg (fun q2 => q q2.2), if_neg q, rv_sU_2, if_neg (fun q => absurd q.1 (by decide)), rv_sU_2, if_neg (fun q => absurd q.1 (by decide))]
               generalize rv_sU (rv_sU (rv_sU τ_72 10 16 (nI mm)) 11 16 sal) 12 16 (rv_z t) = υ at hs2 hs3 g10 g11 g12
               have e4 := hs2.2.1 4 (by decide)
               have e5 := hs2.2.1 5 (by decide)
               have e6 := hs2.2.1 6 (by decide)
               refine ⟨by rw [hs3.1 0 (by decide)]; rfl, fun _ => rfl, (h.thrown (nI 0)).dr hb (mAgr.of hs3 (fun e he hj i hi => ?_)) hs3 (by decide) (by decide) ⟨by rw [hs2.1 23 (by decide)]; exact b2, (show 2 ≤ 2 by decide), by rw [g10]; rfl, by rw [g11]; rfl, by rw [g12]; rfl, fun _ => ⟨by rw [e4]; exact b4, hk1, by rw [e6]; exact b6, (show 0 ≤ 6 by decide), by rw [hs2.1 24 (by decide)]; exact b3, fun i hi => by rw [e5, b8 i hi]; rfl, fun i it e => by cases e⟩⟩⟩
               have : e = (4, 16) ∨ e = (5, 48) ∨ e = (6, 16) ∨ e = (10, 16) ∨ e = (11, 16) ∨ e = (12, 16) := by
                 revert hj
                 revert he
                 clear hi
                 revert e
                 decide
               rcases this with rfl | rfl | rfl | rfl | rfl | rfl
               · rw [e4]; exact b5 i (by have : i < 16 := hi; omega)
               · rw [e5]; exact b9 i hi
               · rw [e6]; exact b7 i (by have : i < 16 := hi; omega)
               · rw [g10, if_neg (by have : i < 16 := hi; omega), b1.2.1 10 (by decide)]
               · rw [g11, if_neg (by have : i < 16 := hi; omega), b1.2.1 11 (by decide)]
               · rw [g12, if_neg (by have : i < 16 := hi; omega), b1.2.1 12 (by decide)]
             exact hz _ (by rw [c_98]; rfl))
    · skip
      have hrg : w_rng 0 3 m ∧ -10 ≤ sal ∧ sal ≤ nI 10 := ⟨hm.mp c_6, hsal.mp c_17⟩
      refine nv_iconst hX (m := 1) (by decide) dX4_deed_20 ?_
      refine rv_goto hX 25 dX4_deed_21 (by decide) ?_
      refine rv_istore hX dX4_deed_25 (rv_st_5 rfl) ?_
      refine rv_aload_n hX dX4_deed_27 rfl ?_
      refine rv_aload_n hX dX4_deed_28 rfl ?_
      refine rv_iload hX dX4_deed_29 rfl ?_
      refine mv_callz hX iX4_140 rfl mdX4_isRelation (m_isRelation hG (d := d - 1) (by omega) h.1.1.rel) (by omega) rfl rfl (Nat.le_of_ble_eq_true rfl) dX4_deed_31 (fun r_31 τ_31 h_31 => ?_)
      obtain ⟨rfl, hr⟩ := h_31
      first | refine zv_if_ne hX 41 dX4_deed_34 (by decide) (fun c_34 => ?_) (fun c_34 => ?_) | refine nv_if_ne hX 41 (by omega) dX4_deed_34 (by decide) (fun c_34 => ?_) (fun c_34 => ?_) | refine rv_if_ne hX 41 dX4_deed_34 (by decide) (fun c_34 => ?_) (fun c_34 => ?_)
      · skip
        obtain ⟨k, hk1, rfl⟩ := hr.mp c_34
        have hyes := w_idx_nI hk1 (by omega)
        refine rv_iload hX dX4_deed_41 rfl ?_
        refine rv_if_ne hX 50 dX4_deed_43 (by decide) (fun _ => ?_) (fun q => absurd q (by decide))
        refine rv_aload_n hX dX4_deed_50 rfl ?_
        refine mv_gi hX (k := 23) gX4_302_X4 (by decide) rfl dX4_deed_51 ?_
        rw [h.2.1.1]
        first | refine nv_if_le hX 61 (by omega) dX4_deed_54 (by decide) (fun c_54 => ?_) (fun c_54 => ?_) | refine rv_if_le hX 61 dX4_deed_54 (by decide) (fun c_54 => ?_) (fun c_54 => ?_)
        · skip
          refine nv_iconst hX (m := 0) (by decide) dX4_deed_61 ?_
          refine mv_callz hX iX4_266 rfl mdX4_goesWell (m_goesWell0 hG (d := d - 1)) (by omega) rfl rfl (Nat.le_of_ble_eq_true rfl) dX4_deed_62 (fun r_62 τ_62 h_62 => ?_)
          obtain ⟨rfl, rfl⟩ := h_62
          refine rv_if_eq hX 107 dX4_deed_65 (by decide) (fun q => absurd q (by decide)) (fun _ => ?_)
          obtain ⟨mm, -, -, rfl, hm4⟩ := w_rng_nat (by decide) (by decide) hrg.1
          refine rv_aload_n hX dX4_deed_68 rfl ?_
          refine nv_iconst hX (m := 2) (by decide) dX4_deed_69 ?_
          refine rv_iload hX dX4_deed_70 rfl ?_
          refine mv_callv hX iX4_305 rfl mdX4_beginDraft (m_beginDraft hG (d := d - 1) (k := 2) (rel := k)) (by omega) rfl rfl (Nat.le_of_ble_eq_true rfl) dX4_deed_72 (fun τ_72 h_72 => ?_)
          obtain ⟨b1, b2, b3, b4, b5, b6, b7, b8, b9⟩ := h_72
          refine rv_aload_n hX dX4_deed_75 rfl ?_
          refine mv_ga hX (k := 10) (j := 10) gX4_37_X4 (by decide) rfl (by decide) dX4_deed_76 ?_
          refine nv_bipush hX (m := 16) (by decide) dX4_deed_79 ?_
          refine rv_iload_n hX dX4_deed_81 rfl ?_
          refine mv_st hX (j := 10) (by decide) (by decide) rfl (by decide) (show _ < 17 by omega) dX4_deed_82 ?_
          refine rv_aload_n hX dX4_deed_83 rfl ?_
          refine mv_ga hX (k := 11) (j := 11) gX4_40_X4 (by decide) rfl (by decide) dX4_deed_84 ?_
          refine nv_bipush hX (m := 16) (by decide) dX4_deed_87 ?_
          refine rv_iload_n hX dX4_deed_89 rfl ?_
          refine mv_st hX (j := 11) (by decide) (by decide) rfl (by decide) (show _ < 17 by omega) dX4_deed_90 ?_
          refine rv_aload_n hX dX4_deed_91 rfl ?_
          refine mv_ga hX (k := 12) (j := 12) gX4_43_X4 (by decide) rfl (by decide) dX4_deed_92 ?_
          refine nv_bipush hX (m := 16) (by decide) dX4_deed_95 ?_
          refine rv_iload_n hX dX4_deed_97 rfl ?_
          first | refine zv_if_eq hX 105 dX4_deed_98 (by decide) (fun c_98 => ?_) (fun c_98 => ?_) | refine nv_if_eq hX 105 (by omega) dX4_deed_98 (by decide) (fun c_98 => ?_) (fun c_98 => ?_) | refine rv_if_eq hX 105 dX4_deed_98 (by decide) (fun c_98 => ?_) (fun c_98 => ?_)
          · skip
            refine nv_iconst hX (m := 0) (by decide) dX4_deed_105 ?_
            refine mv_st hX (j := 12) (by decide) (by decide) rfl (by decide) (show _ < 17 by omega) dX4_deed_106 ?_
            refine mv_retv hX hE dX4_deed_107 ?_
            unfold o_deed
            first
              | (rw [hno]
                 exact h.th (by decide))
              | (rw [hyes]
                 show mRes _ 0 (if _ then _ else _)
                 rw [if_pos hnr]
                 exact h.th (by decide))
              | (rw [hyes]
                 show mRes _ 0 (if _ then _ else if 0 < s.d.k then _ else _)
                 rw [if_neg (fun q => q hrg), if_pos (by omega)]
                 exact h.th (by decide))
              | (rw [hyes]
                 show mRes _ 0 (if _ then _ else if 0 < s.d.k then _ else _)
                 rw [if_neg (fun q => q hrg), if_neg (by omega), hm4]
                 have hz : ∀ v, v = rv_z t → mRes (rv_sU (rv_sU (rv_sU τ_72 10 16 (nI mm)) 11 16 sal) 12 16 v) 0 (0, 0, s.setd (d_mk 2 mm sal t k [] [])) := by
                   intro v hv
                   subst hv
                   have hs2 : rv_same [] [10, 11, 12] τ_72 (rv_sU (rv_sU (rv_sU τ_72 10 16 (nI mm)) 11 16 sal) 12 16 (rv_z t)) := ((rv_same.u (by decide)).tr (.u (by decide))).tr (.u (by decide))
                   have hs3 : rv_same [23, 24] [4, 5, 6, 10, 11, 12] (rv_sF τ_31 0 (nI 0)) (rv_sU (rv_sU (rv_sU τ_72 10 16 (nI mm)) 11 16 sal) 12 16 (rv_z t)) := (b1.mn (by decide) (by decide)).tr (hs2.mn (by decide) (by decide))
                   have g10 : ∀ i, (rv_sU (rv_sU (rv_sU τ_72 10 16 (nI mm)) 11 16 sal) 12 16 (rv_z t)).2.1 10 i = if i = 16 then nI mm else τ_72.2.1 10 i := fun i => by
                     rw [rv_sU_2, if_neg (fun q => absurd q.1 (by decide)), rv_sU_2, if_neg (fun q => absurd q.1 (by decide)), rv_sU_2]
                     by_cases q : i = 16
                     · rw [if_pos ⟨rfl, q⟩, if_pos q]
                     · rw [if_neg (fun q2 => q q2.2), if_neg q]
                   have g11 : ∀ i, (rv_sU (rv_sU (rv_sU τ_72 10 16 (nI mm)) 11 16 sal) 12 16 (rv_z t)).2.1 11 i = if i = 16 then sal else τ_72.2.1 11 i := fun i => by
                     rw [rv_sU_2, if_neg (fun q => absurd q.1 (by decide)), rv_sU_2]
                     by_cases q : i = 16
                     · rw [if_pos ⟨rfl, q⟩, if_pos q]
                     · rw [if_neg (fun q2 => q q2.2), if_neg q, rv_sU_2, if_neg (fun q => absurd q.1 (by decide))]
                   have g12 : ∀ i, (rv_sU (rv_sU (rv_sU τ_72 10 16 (nI mm)) 11 16 sal) 12 16 (rv_z t)).2.1 12 i = if i = 16 then rv_z t else τ_72.2.1 12 i := fun i => by
                     rw [rv_sU_2]
                     by_cases q : i = 16
                     · rw [if_pos ⟨rfl, q⟩, if_pos q]
                     · rw [if_neg (fun q2 => q q2.2), if_neg q, rv_sU_2, if_neg (fun q => absurd q.1 (by decide)), rv_sU_2, if_neg (fun q => absurd q.1 (by decide))]
                   generalize rv_sU (rv_sU (rv_sU τ_72 10 16 (nI mm)) 11 16 sal) 12 16 (rv_z t) = υ at hs2 hs3 g10 g11 g12
                   have e4 := hs2.2.1 4 (by decide)
                   have e5 := hs2.2.1 5 (by decide)
                   have e6 := hs2.2.1 6 (by decide)
                   refine ⟨by rw [hs3.1 0 (by decide)]; rfl, fun _ => rfl, (h.thrown (nI 0)).dr hb (mAgr.of hs3 (fun e he hj i hi => ?_)) hs3 (by decide) (by decide) ⟨by rw [hs2.1 23 (by decide)]; exact b2, (show 2 ≤ 2 by decide), by rw [g10]; rfl, by rw [g11]; rfl, by rw [g12]; rfl, fun _ => ⟨by rw [e4]; exact b4, hk1, by rw [e6]; exact b6, (show 0 ≤ 6 by decide), by rw [hs2.1 24 (by decide)]; exact b3, fun i hi => by rw [e5, b8 i hi]; rfl, fun i it e => by cases e⟩⟩⟩
                   have : e = (4, 16) ∨ e = (5, 48) ∨ e = (6, 16) ∨ e = (10, 16) ∨ e = (11, 16) ∨ e = (12, 16) := by
                     revert hj
                     revert he
                     clear hi
                     revert e
                     decide
                   rcases this with rfl | rfl | rfl | rfl | rfl | rfl
                   · rw [e4]; exact b5 i (by have : i < 16 := hi; omega)
                   · rw [e5]; exact b9 i hi
                   · rw [e6]; exact b7 i (by have : i < 16 := hi; omega)
                   · rw [g10, if_neg (by have : i < 16 := hi; omega), b1.2.1 10 (by decide)]
                   · rw [g11, if_neg (by have : i < 16 := hi; omega), b1.2.1 11 (by decide)]
                   · rw [g12, if_neg (by have : i < 16 := hi; omega), b1.2.1 12 (by decide)]
                 exact hz _ (by rw [c_98]; rfl))
          · skip
            refine nv_iconst hX (m := 1) (by decide) dX4_deed_101 ?_
            refine rv_goto hX 106 dX4_deed_102 (by decide) ?_
            refine mv_st hX (j := 12) (by decide) (by decide) rfl (by decide) (show _ < 17 by omega) dX4_deed_106 ?_
            refine mv_retv hX hE dX4_deed_107 ?_
            unfold o_deed
            first
              | (rw [hno]
                 exact h.th (by decide))
              | (rw [hyes]
                 show mRes _ 0 (if _ then _ else _)
                 rw [if_pos hnr]
                 exact h.th (by decide))
              | (rw [hyes]
                 show mRes _ 0 (if _ then _ else if 0 < s.d.k then _ else _)
                 rw [if_neg (fun q => q hrg), if_pos (by omega)]
                 exact h.th (by decide))
              | (rw [hyes]
                 show mRes _ 0 (if _ then _ else if 0 < s.d.k then _ else _)
                 rw [if_neg (fun q => q hrg), if_neg (by omega), hm4]
                 have hz : ∀ v, v = rv_z t → mRes (rv_sU (rv_sU (rv_sU τ_72 10 16 (nI mm)) 11 16 sal) 12 16 v) 0 (0, 0, s.setd (d_mk 2 mm sal t k [] [])) := by
                   intro v hv
                   subst hv
                   have hs2 : rv_same [] [10, 11, 12] τ_72 (rv_sU (rv_sU (rv_sU τ_72 10 16 (nI mm)) 11 16 sal) 12 16 (rv_z t)) := ((rv_same.u (by decide)).tr (.u (by decide))).tr (.u (by decide))
                   have hs3 : rv_same [23, 24] [4, 5, 6, 10, 11, 12] (rv_sF τ_31 0 (nI 0)) (rv_sU (rv_sU (rv_sU τ_72 10 16 (nI mm)) 11 16 sal) 12 16 (rv_z t)) := (b1.mn (by decide) (by decide)).tr (hs2.mn (by decide) (by decide))
                   have g10 : ∀ i, (rv_sU (rv_sU (rv_sU τ_72 10 16 (nI mm)) 11 16 sal) 12 16 (rv_z t)).2.1 10 i = if i = 16 then nI mm else τ_72.2.1 10 i := fun i => by
                     rw [rv_sU_2, if_neg (fun q => absurd q.1 (by decide)), rv_sU_2, if_neg (fun q => absurd q.1 (by decide)), rv_sU_2]
                     by_cases q : i = 16
                     · rw [if_pos ⟨rfl, q⟩, if_pos q]
                     · rw [if_neg (fun q2 => q q2.2), if_neg q]
                   have g11 : ∀ i, (rv_sU (rv_sU (rv_sU τ_72 10 16 (nI mm)) 11 16 sal) 12 16 (rv_z t)).2.1 11 i = if i = 16 then sal else τ_72.2.1 11 i := fun i => by
                     rw [rv_sU_2, if_neg (fun q => absurd q.1 (by decide)), rv_sU_2]
                     by_cases q : i = 16
                     · rw [if_pos ⟨rfl, q⟩, if_pos q]
                     · rw [if_neg (fun q2 => q q2.2), if_neg q, rv_sU_2, if_neg (fun q => absurd q.1 (by decide))]
                   have g12 : ∀ i, (rv_sU (rv_sU (rv_sU τ_72 10 16 (nI mm)) 11 16 sal) 12 16 (rv_z t)).2.1 12 i = if i = 16 then rv_z t else τ_72.2.1 12 i := fun i => by
                     rw [rv_sU_2]
                     by_cases q : i = 16
                     · rw [if_pos ⟨rfl, q⟩, if_pos q]
                     · rw [if_neg (fun q2 => q q2.2), if_neg q, rv_sU_2, if_neg (fun q => absurd q.1 (by decide)), rv_sU_2, if_neg (fun q => absurd q.1 (by decide))]
                   generalize rv_sU (rv_sU (rv_sU τ_72 10 16 (nI mm)) 11 16 sal) 12 16 (rv_z t) = υ at hs2 hs3 g10 g11 g12
                   have e4 := hs2.2.1 4 (by decide)
                   have e5 := hs2.2.1 5 (by decide)
                   have e6 := hs2.2.1 6 (by decide)
                   refine ⟨by rw [hs3.1 0 (by decide)]; rfl, fun _ => rfl, (h.thrown (nI 0)).dr hb (mAgr.of hs3 (fun e he hj i hi => ?_)) hs3 (by decide) (by decide) ⟨by rw [hs2.1 23 (by decide)]; exact b2, (show 2 ≤ 2 by decide), by rw [g10]; rfl, by rw [g11]; rfl, by rw [g12]; rfl, fun _ => ⟨by rw [e4]; exact b4, hk1, by rw [e6]; exact b6, (show 0 ≤ 6 by decide), by rw [hs2.1 24 (by decide)]; exact b3, fun i hi => by rw [e5, b8 i hi]; rfl, fun i it e => by cases e⟩⟩⟩
                   have : e = (4, 16) ∨ e = (5, 48) ∨ e = (6, 16) ∨ e = (10, 16) ∨ e = (11, 16) ∨ e = (12, 16) := by
                     revert hj
                     revert he
                     clear hi
                     revert e
                     decide
                   rcases this with rfl | rfl | rfl | rfl | rfl | rfl
                   · rw [e4]; exact b5 i (by have : i < 16 := hi; omega)
                   · rw [e5]; exact b9 i hi
                   · rw [e6]; exact b7 i (by have : i < 16 := hi; omega)
                   · rw [g10, if_neg (by have : i < 16 := hi; omega), b1.2.1 10 (by decide)]
                   · rw [g11, if_neg (by have : i < 16 := hi; omega), b1.2.1 11 (by decide)]
                   · rw [g12, if_neg (by have : i < 16 := hi; omega), b1.2.1 12 (by decide)]
                 exact hz _ (by rw [c_98]; rfl))
        · skip
          refine nv_iconst hX (m := 3) (by decide) dX4_deed_57 ?_
          refine rv_goto hX 62 dX4_deed_58 (by decide) ?_
          refine mv_callz hX iX4_266 rfl mdX4_goesWell (m_goesWellN hG (by decide) (by decide) (d := d - 1)) (by omega) rfl rfl (Nat.le_of_ble_eq_true rfl) dX4_deed_62 (fun r_62 τ_62 h_62 => ?_)
          obtain ⟨rfl, rfl⟩ := h_62
          refine rv_if_eq hX 107 dX4_deed_65 (by decide) (fun _ => ?_) (fun q => absurd q (by decide))
          refine mv_retv hX hE dX4_deed_107 ?_
          unfold o_deed
          first
            | (rw [hno]
               exact h.th (by decide))
            | (rw [hyes]
               show mRes _ 0 (if _ then _ else _)
               rw [if_pos hnr]
               exact h.th (by decide))
            | (rw [hyes]
               show mRes _ 0 (if _ then _ else if 0 < s.d.k then _ else _)
               rw [if_neg (fun q => q hrg), if_pos (by omega)]
               exact h.th (by decide))
            | (rw [hyes]
               show mRes _ 0 (if _ then _ else if 0 < s.d.k then _ else _)
               rw [if_neg (fun q => q hrg), if_neg (by omega), hm4]
               have hz : ∀ v, v = rv_z t → mRes (rv_sU (rv_sU (rv_sU τ_72 10 16 (nI mm)) 11 16 sal) 12 16 v) 0 (0, 0, s.setd (d_mk 2 mm sal t k [] [])) := by
                 intro v hv
                 subst hv
                 have hs2 : rv_same [] [10, 11, 12] τ_72 (rv_sU (rv_sU (rv_sU τ_72 10 16 (nI mm)) 11 16 sal) 12 16 (rv_z t)) := ((rv_same.u (by decide)).tr (.u (by decide))).tr (.u (by decide))
                 have hs3 : rv_same [23, 24] [4, 5, 6, 10, 11, 12] (rv_sF τ_31 0 (nI 0)) (rv_sU (rv_sU (rv_sU τ_72 10 16 (nI mm)) 11 16 sal) 12 16 (rv_z t)) := (b1.mn (by decide) (by decide)).tr (hs2.mn (by decide) (by decide))
                 have g10 : ∀ i, (rv_sU (rv_sU (rv_sU τ_72 10 16 (nI mm)) 11 16 sal) 12 16 (rv_z t)).2.1 10 i = if i = 16 then nI mm else τ_72.2.1 10 i := fun i => by
                   rw [rv_sU_2, if_neg (fun q => absurd q.1 (by decide)), rv_sU_2, if_neg (fun q => absurd q.1 (by decide)), rv_sU_2]
                   by_cases q : i = 16
                   · rw [if_pos ⟨rfl, q⟩, if_pos q]
                   · rw [if_neg (fun q2 => q q2.2), if_neg q]
                 have g11 : ∀ i, (rv_sU (rv_sU (rv_sU τ_72 10 16 (nI mm)) 11 16 sal) 12 16 (rv_z t)).2.1 11 i = if i = 16 then sal else τ_72.2.1 11 i := fun i => by
                   rw [rv_sU_2, if_neg (fun q => absurd q.1 (by decide)), rv_sU_2]
                   by_cases q : i = 16
                   · rw [if_pos ⟨rfl, q⟩, if_pos q]
                   · rw [if_neg (fun q2 => q q2.2), if_neg q, rv_sU_2, if_neg (fun q => absurd q.1 (by decide))]
                 have g12 : ∀ i, (rv_sU (rv_sU (rv_sU τ_72 10 16 (nI mm)) 11 16 sal) 12 16 (rv_z t)).2.1 12 i = if i = 16 then rv_z t else τ_72.2.1 12 i := fun i => by
                   rw [rv_sU_2]
                   by_cases q : i = 16
                   · rw [if_pos ⟨rfl, q⟩, if_pos q]
                   · rw [if_neg (fun q2 => q q2.2), if_neg q, rv_sU_2, if_neg (fun q => absurd q.1 (by decide)), rv_sU_2, if_neg (fun q => absurd q.1 (by decide))]
                 generalize rv_sU (rv_sU (rv_sU τ_72 10 16 (nI mm)) 11 16 sal) 12 16 (rv_z t) = υ at hs2 hs3 g10 g11 g12
                 have e4 := hs2.2.1 4 (by decide)
                 have e5 := hs2.2.1 5 (by decide)
                 have e6 := hs2.2.1 6 (by decide)
                 refine ⟨by rw [hs3.1 0 (by decide)]; rfl, fun _ => rfl, (h.thrown (nI 0)).dr hb (mAgr.of hs3 (fun e he hj i hi => ?_)) hs3 (by decide) (by decide) ⟨by rw [hs2.1 23 (by decide)]; exact b2, (show 2 ≤ 2 by decide), by rw [g10]; rfl, by rw [g11]; rfl, by rw [g12]; rfl, fun _ => ⟨by rw [e4]; exact b4, hk1, by rw [e6]; exact b6, (show 0 ≤ 6 by decide), by rw [hs2.1 24 (by decide)]; exact b3, fun i hi => by rw [e5, b8 i hi]; rfl, fun i it e => by cases e⟩⟩⟩
                 have : e = (4, 16) ∨ e = (5, 48) ∨ e = (6, 16) ∨ e = (10, 16) ∨ e = (11, 16) ∨ e = (12, 16) := by
                   revert hj
                   revert he
                   clear hi
                   revert e
                   decide
                 rcases this with rfl | rfl | rfl | rfl | rfl | rfl
                 · rw [e4]; exact b5 i (by have : i < 16 := hi; omega)
                 · rw [e5]; exact b9 i hi
                 · rw [e6]; exact b7 i (by have : i < 16 := hi; omega)
                 · rw [g10, if_neg (by have : i < 16 := hi; omega), b1.2.1 10 (by decide)]
                 · rw [g11, if_neg (by have : i < 16 := hi; omega), b1.2.1 11 (by decide)]
                 · rw [g12, if_neg (by have : i < 16 := hi; omega), b1.2.1 12 (by decide)]
               exact hz _ (by rw [c_98]; rfl))
      · skip
        have hno : w_idx r s.w.S.length = none := w_idx_no (by omega) (fun q => by
          have := hr.mpr q
          rw [c_34] at this
          cases this)
        refine nv_iconst hX (m := 1) (by decide) dX4_deed_37 ?_
        refine rv_goto hX 62 dX4_deed_38 (by decide) ?_
        refine mv_callz hX iX4_266 rfl mdX4_goesWell (m_goesWellN hG (by decide) (by decide) (d := d - 1)) (by omega) rfl rfl (Nat.le_of_ble_eq_true rfl) dX4_deed_62 (fun r_62 τ_62 h_62 => ?_)
        obtain ⟨rfl, rfl⟩ := h_62
        refine rv_if_eq hX 107 dX4_deed_65 (by decide) (fun _ => ?_) (fun q => absurd q (by decide))
        refine mv_retv hX hE dX4_deed_107 ?_
        unfold o_deed
        first
          | (rw [hno]
             exact h.th (by decide))
          | (rw [hyes]
             show mRes _ 0 (if _ then _ else _)
             rw [if_pos hnr]
             exact h.th (by decide))
          | (rw [hyes]
             show mRes _ 0 (if _ then _ else if 0 < s.d.k then _ else _)
             rw [if_neg (fun q => q hrg), if_pos (by omega)]
             exact h.th (by decide))
          | (rw [hyes]
             show mRes _ 0 (if _ then _ else if 0 < s.d.k then _ else _)
             rw [if_neg (fun q => q hrg), if_neg (by omega), hm4]
             have hz : ∀ v, v = rv_z t → mRes (rv_sU (rv_sU (rv_sU τ_72 10 16 (nI mm)) 11 16 sal) 12 16 v) 0 (0, 0, s.setd (d_mk 2 mm sal t k [] [])) := by
               intro v hv
               subst hv
               have hs2 : rv_same [] [10, 11, 12] τ_72 (rv_sU (rv_sU (rv_sU τ_72 10 16 (nI mm)) 11 16 sal) 12 16 (rv_z t)) := ((rv_same.u (by decide)).tr (.u (by decide))).tr (.u (by decide))
               have hs3 : rv_same [23, 24] [4, 5, 6, 10, 11, 12] (rv_sF τ_31 0 (nI 0)) (rv_sU (rv_sU (rv_sU τ_72 10 16 (nI mm)) 11 16 sal) 12 16 (rv_z t)) := (b1.mn (by decide) (by decide)).tr (hs2.mn (by decide) (by decide))
               have g10 : ∀ i, (rv_sU (rv_sU (rv_sU τ_72 10 16 (nI mm)) 11 16 sal) 12 16 (rv_z t)).2.1 10 i = if i = 16 then nI mm else τ_72.2.1 10 i := fun i => by
                 rw [rv_sU_2, if_neg (fun q => absurd q.1 (by decide)), rv_sU_2, if_neg (fun q => absurd q.1 (by decide)), rv_sU_2]
                 by_cases q : i = 16
                 · rw [if_pos ⟨rfl, q⟩, if_pos q]
                 · rw [if_neg (fun q2 => q q2.2), if_neg q]
               have g11 : ∀ i, (rv_sU (rv_sU (rv_sU τ_72 10 16 (nI mm)) 11 16 sal) 12 16 (rv_z t)).2.1 11 i = if i = 16 then sal else τ_72.2.1 11 i := fun i => by
                 rw [rv_sU_2, if_neg (fun q => absurd q.1 (by decide)), rv_sU_2]
                 by_cases q : i = 16
                 · rw [if_pos ⟨rfl, q⟩, if_pos q]
                 · rw [if_neg (fun q2 => q q2.2), if_neg q, rv_sU_2, if_neg (fun q => absurd q.1 (by decide))]
               have g12 : ∀ i, (rv_sU (rv_sU (rv_sU τ_72 10 16 (nI mm)) 11 16 sal) 12 16 (rv_z t)).2.1 12 i = if i = 16 then rv_z t else τ_72.2.1 12 i := fun i => by
                 rw [rv_sU_2]
                 by_cases q : i = 16
                 · rw [if_pos ⟨rfl, q⟩, if_pos q]
                 · rw [if_neg (fun q2 => q q2.2), if_neg q, rv_sU_2, if_neg (fun q => absurd q.1 (by decide)), rv_sU_2, if_neg (fun q => absurd q.1 (by decide))]
               generalize rv_sU (rv_sU (rv_sU τ_72 10 16 (nI mm)) 11 16 sal) 12 16 (rv_z t) = υ at hs2 hs3 g10 g11 g12
               have e4 := hs2.2.1 4 (by decide)
               have e5 := hs2.2.1 5 (by decide)
               have e6 := hs2.2.1 6 (by decide)
               refine ⟨by rw [hs3.1 0 (by decide)]; rfl, fun _ => rfl, (h.thrown (nI 0)).dr hb (mAgr.of hs3 (fun e he hj i hi => ?_)) hs3 (by decide) (by decide) ⟨by rw [hs2.1 23 (by decide)]; exact b2, (show 2 ≤ 2 by decide), by rw [g10]; rfl, by rw [g11]; rfl, by rw [g12]; rfl, fun _ => ⟨by rw [e4]; exact b4, hk1, by rw [e6]; exact b6, (show 0 ≤ 6 by decide), by rw [hs2.1 24 (by decide)]; exact b3, fun i hi => by rw [e5, b8 i hi]; rfl, fun i it e => by cases e⟩⟩⟩
               have : e = (4, 16) ∨ e = (5, 48) ∨ e = (6, 16) ∨ e = (10, 16) ∨ e = (11, 16) ∨ e = (12, 16) := by
                 revert hj
                 revert he
                 clear hi
                 revert e
                 decide
               rcases this with rfl | rfl | rfl | rfl | rfl | rfl
               · rw [e4]; exact b5 i (by have : i < 16 := hi; omega)
               · rw [e5]; exact b9 i hi
               · rw [e6]; exact b7 i (by have : i < 16 := hi; omega)
               · rw [g10, if_neg (by have : i < 16 := hi; omega), b1.2.1 10 (by decide)]
               · rw [g11, if_neg (by have : i < 16 := hi; omega), b1.2.1 11 (by decide)]
               · rw [g12, if_neg (by have : i < 16 := hi; omega), b1.2.1 12 (by decide)]
             exact hz _ (by rw [c_98]; rfl))
