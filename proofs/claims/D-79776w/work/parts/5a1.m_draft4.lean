/-! THE REFERENCE: terms and items typed, 2 -/
set_option maxRecDepth 100000
theorem mSt.dr2 {fs js : List Nat} {σ τ : rv_S} {s : wS} {dr : wDr} {r : Int32} (h : mSt σ s) (hb : wB6 s.w) (hp : mDraft τ s.w.S dr ∧ mAgr (rv_sF σ 0 (nI 0)) τ ∧ rv_same fs js (rv_sF σ 0 (nI 0)) τ) (hf : 22 ∉ fs ∧ 0 ∉ fs) (hj : ∀ j, j ∈ [18, 19, 20, 21, 35] → j ∉ js) : mRes τ r (0, r, s.setd dr) := ⟨by rw [hp.2.2.1 0 hf.2]; rfl, fun _ => rfl, (h.thrown (nI 0)).dr hb hp.2.1 hp.2.2 hf.1 hj hp.1⟩
theorem m_variable {G : rv_G} (hG : rv_GK G) {d : Nat} (hd : 3 ≤ d) {σ : rv_S} {s : wS} (h : mSt σ s) (hb : wB6 s.w) (hw : wfD s.w.S s.d) {v : Int32} : mC G d yX4_variable wX4_variable [.int v] σ (mPv (fun τ => mRes τ 0 (o_variable s v))) := by
  refine mv_start hG (by decide +kernel) (Nat.le_of_ble_eq_true rfl) (fun X Hb o hX1 hX hE => ?_)
  subst hX1
  show rv_V X (rv_mh Hb o _) 0 [some (.ref o), some (.int v)] []
  have hk2 := h.2.1.2.1
  refine rv_aload_n hX dX4_variable_0 rfl ?_
  refine rv_iload_n hX dX4_variable_1 rfl ?_
  refine nv_iconst hX (m := 0) (by decide) dX4_variable_2 ?_
  refine nv_bipush hX (m := 7) (by decide) dX4_variable_3 ?_
  refine sv_callz hX iX4_135 mdX4_in (m_in hG (d := d - 1) (v := v)) (by omega) rfl rfl (Nat.le_of_ble_eq_true rfl) dX4_variable_5 (fun r_5 h_5 => ?_)
  have hv := h_5
  first | refine zv_if_ne hX 15 dX4_variable_8 (by decide) (fun c_8 => ?_) (fun c_8 => ?_) | refine nv_if_ne hX 15 (by omega) dX4_variable_8 (by decide) (fun c_8 => ?_) (fun c_8 => ?_) | refine rv_if_ne hX 15 dX4_variable_8 (by decide) (fun c_8 => ?_) (fun c_8 => ?_)
  · skip
    refine rv_aload_n hX dX4_variable_15 rfl ?_
    refine mv_gi hX (k := 23) gX4_302_X4 (by decide) rfl dX4_variable_16 ?_
    rw [h.2.1.1]
    first | refine zv_if_eq hX 29 dX4_variable_19 (by decide) (fun c_19 => ?_) (fun c_19 => ?_) | refine nv_if_eq hX 29 (by omega) dX4_variable_19 (by decide) (fun c_19 => ?_) (fun c_19 => ?_) | refine rv_if_eq hX 29 dX4_variable_19 (by decide) (fun c_19 => ?_) (fun c_19 => ?_)
    · skip
      refine nv_iconst hX (m := 2) (by decide) dX4_variable_29 ?_
      refine rv_goto hX 34 dX4_variable_30 (by decide) ?_
      refine mv_callz hX iX4_266 rfl mdX4_goesWell (m_goesWellN hG (by decide) (by decide) (d := d - 1)) (by omega) rfl rfl (Nat.le_of_ble_eq_true rfl) dX4_variable_34 (fun r_34 τ_34 h_34 => ?_)
      obtain ⟨rfl, rfl⟩ := h_34
      refine rv_if_eq hX 48 dX4_variable_37 (by decide) (fun _ => ?_) (fun q => absurd q (by decide))
      refine mv_retv hX hE dX4_variable_48 ?_
      unfold o_variable
      first
        | (rw [if_pos (fun q => by
             have := hv.mpr q
             rw [c_8] at this
             cases this)]
           exact h.th (by decide))
        | (rw [if_neg (fun q => q (hv.mp c_8)), if_pos (Or.inl (by omega))]
           exact h.th (by decide))
        | (rw [if_neg (fun q => q (hv.mp c_8)), if_pos (Or.inr (by rw [← hl]; exact c_26))]
           exact h.th (by decide))
        | (rw [if_neg (fun q => q (hv.mp c_8)), if_neg (fun q => q.elim (fun a => by omega) (fun a => by rw [c_26] at a; cases a)), n3]
           exact h.dr2 hb hp (by decide) (by decide))
    · skip
      refine rv_aload_n hX dX4_variable_22 rfl ?_
      refine mv_callz hX iX4_308 rfl mdX4_lacksTerm (m_lacksTerm hG (d := d - 1) (by omega) h.1.1.rel h.2.1 hw (by omega)) (by omega) rfl rfl (Nat.le_of_ble_eq_true rfl) dX4_variable_23 (fun r_23 τ_23 h_23 => ?_)
      obtain ⟨rfl, hl⟩ := h_23
      first | refine zv_if_ne hX 33 dX4_variable_26 (by decide) (fun c_26 => ?_) (fun c_26 => ?_) | refine nv_if_ne hX 33 (by omega) dX4_variable_26 (by decide) (fun c_26 => ?_) (fun c_26 => ?_) | refine rv_if_ne hX 33 dX4_variable_26 (by decide) (fun c_26 => ?_) (fun c_26 => ?_)
      · skip
        refine nv_iconst hX (m := 0) (by decide) dX4_variable_33 ?_
        refine mv_callz hX iX4_266 rfl mdX4_goesWell (m_goesWell0 hG (d := d - 1)) (by omega) rfl rfl (Nat.le_of_ble_eq_true rfl) dX4_variable_34 (fun r_34 τ_34 h_34 => ?_)
        obtain ⟨rfl, rfl⟩ := h_34
        refine rv_if_eq hX 48 dX4_variable_37 (by decide) (fun q => absurd q (by decide)) (fun _ => ?_)
        obtain ⟨n, n1, n2, rfl, n3⟩ := w_rng_nat (by decide) (by decide) (hv.mp c_8)
        rw [hl] at c_26
        refine rv_aload_n hX dX4_variable_40 rfl ?_
        refine nv_bipush hX (m := 100) (by decide) dX4_variable_41 ?_
        refine rv_iload_n hX dX4_variable_43 rfl ?_
        first | refine nv_iadd hX dX4_variable_44 ?_ | refine rv_iadd hX dX4_variable_44 ?_
        refine mv_callv hX iX4_311 rfl mdX4_addTerm (m_addTerm hG (d := d - 1) (h.thrown (nI 0)).1.1.rel (h.thrown (nI 0)).2.1 hw (by omega) c_26) (by omega) rfl rfl (Nat.le_of_ble_eq_true rfl) dX4_variable_45 (fun τ_45 h_45 => ?_)
        have hp := h_45
        refine mv_retv hX hE dX4_variable_48 ?_
        unfold o_variable
        first
          | (rw [if_pos (fun q => by
               have := hv.mpr q
               rw [c_8] at this
               cases this)]
             exact h.th (by decide))
          | (rw [if_neg (fun q => q (hv.mp c_8)), if_pos (Or.inl (by omega))]
             exact h.th (by decide))
          | (rw [if_neg (fun q => q (hv.mp c_8)), if_pos (Or.inr (by rw [← hl]; exact c_26))]
             exact h.th (by decide))
          | (rw [if_neg (fun q => q (hv.mp c_8)), if_neg (fun q => q.elim (fun a => by omega) (fun a => by rw [c_26] at a; cases a)), n3]
             exact h.dr2 hb hp (by decide) (by decide))
      · skip
        refine nv_iconst hX (m := 2) (by decide) dX4_variable_29 ?_
        refine rv_goto hX 34 dX4_variable_30 (by decide) ?_
        refine mv_callz hX iX4_266 rfl mdX4_goesWell (m_goesWellN hG (by decide) (by decide) (d := d - 1)) (by omega) rfl rfl (Nat.le_of_ble_eq_true rfl) dX4_variable_34 (fun r_34 τ_34 h_34 => ?_)
        obtain ⟨rfl, rfl⟩ := h_34
        refine rv_if_eq hX 48 dX4_variable_37 (by decide) (fun _ => ?_) (fun q => absurd q (by decide))
        refine mv_retv hX hE dX4_variable_48 ?_
        unfold o_variable
        first
          | (rw [if_pos (fun q => by
               have := hv.mpr q
               rw [c_8] at this
               cases this)]
             exact h.th (by decide))
          | (rw [if_neg (fun q => q (hv.mp c_8)), if_pos (Or.inl (by omega))]
             exact h.th (by decide))
          | (rw [if_neg (fun q => q (hv.mp c_8)), if_pos (Or.inr (by rw [← hl]; exact c_26))]
             exact h.th (by decide))
          | (rw [if_neg (fun q => q (hv.mp c_8)), if_neg (fun q => q.elim (fun a => by omega) (fun a => by rw [c_26] at a; cases a)), n3]
             exact h.dr2 hb hp (by decide) (by decide))
  · skip
    refine nv_iconst hX (m := 1) (by decide) dX4_variable_11 ?_
    refine rv_goto hX 34 dX4_variable_12 (by decide) ?_
    refine mv_callz hX iX4_266 rfl mdX4_goesWell (m_goesWellN hG (by decide) (by decide) (d := d - 1)) (by omega) rfl rfl (Nat.le_of_ble_eq_true rfl) dX4_variable_34 (fun r_34 τ_34 h_34 => ?_)
    obtain ⟨rfl, rfl⟩ := h_34
    refine rv_if_eq hX 48 dX4_variable_37 (by decide) (fun _ => ?_) (fun q => absurd q (by decide))
    refine mv_retv hX hE dX4_variable_48 ?_
    unfold o_variable
    first
      | (rw [if_pos (fun q => by
           have := hv.mpr q
           rw [c_8] at this
           cases this)]
         exact h.th (by decide))
      | (rw [if_neg (fun q => q (hv.mp c_8)), if_pos (Or.inl (by omega))]
         exact h.th (by decide))
      | (rw [if_neg (fun q => q (hv.mp c_8)), if_pos (Or.inr (by rw [← hl]; exact c_26))]
         exact h.th (by decide))
      | (rw [if_neg (fun q => q (hv.mp c_8)), if_neg (fun q => q.elim (fun a => by omega) (fun a => by rw [c_26] at a; cases a)), n3]
         exact h.dr2 hb hp (by decide) (by decide))
theorem m_value {G : rv_G} (hG : rv_GK G) {d : Nat} (hd : 3 ≤ d) {σ : rv_S} {s : wS} (h : mSt σ s) (hb : wB6 s.w) (hw : wfD s.w.S s.d) {v : Int32} : mC G d yX4_value wX4_value [.int v] σ (mPv (fun τ => mRes τ 0 (o_value s v))) := by
  refine mv_start hG (by decide +kernel) (Nat.le_of_ble_eq_true rfl) (fun X Hb o hX1 hX hE => ?_)
  subst hX1
  show rv_V X (rv_mh Hb o _) 0 [some (.ref o), some (.int v)] []
  have hk2 := h.2.1.2.1
  refine rv_aload_n hX dX4_value_0 rfl ?_
  refine rv_iload_n hX dX4_value_1 rfl ?_
  refine nv_iconst hX (m := 0) (by decide) dX4_value_2 ?_
  refine nv_bipush hX (m := 99) (by decide) dX4_value_3 ?_
  refine sv_callz hX iX4_135 mdX4_in (m_in hG (d := d - 1) (v := v)) (by omega) rfl rfl (Nat.le_of_ble_eq_true rfl) dX4_value_5 (fun r_5 h_5 => ?_)
  have hv := h_5
  first | refine zv_if_ne hX 15 dX4_value_8 (by decide) (fun c_8 => ?_) (fun c_8 => ?_) | refine nv_if_ne hX 15 (by omega) dX4_value_8 (by decide) (fun c_8 => ?_) (fun c_8 => ?_) | refine rv_if_ne hX 15 dX4_value_8 (by decide) (fun c_8 => ?_) (fun c_8 => ?_)
  · skip
    refine rv_aload_n hX dX4_value_15 rfl ?_
    refine mv_gi hX (k := 23) gX4_302_X4 (by decide) rfl dX4_value_16 ?_
    rw [h.2.1.1]
    first | refine zv_if_eq hX 29 dX4_value_19 (by decide) (fun c_19 => ?_) (fun c_19 => ?_) | refine nv_if_eq hX 29 (by omega) dX4_value_19 (by decide) (fun c_19 => ?_) (fun c_19 => ?_) | refine rv_if_eq hX 29 dX4_value_19 (by decide) (fun c_19 => ?_) (fun c_19 => ?_)
    · skip
      refine nv_iconst hX (m := 2) (by decide) dX4_value_29 ?_
      refine rv_goto hX 34 dX4_value_30 (by decide) ?_
      refine mv_callz hX iX4_266 rfl mdX4_goesWell (m_goesWellN hG (by decide) (by decide) (d := d - 1)) (by omega) rfl rfl (Nat.le_of_ble_eq_true rfl) dX4_value_34 (fun r_34 τ_34 h_34 => ?_)
      obtain ⟨rfl, rfl⟩ := h_34
      refine rv_if_eq hX 45 dX4_value_37 (by decide) (fun _ => ?_) (fun q => absurd q (by decide))
      refine mv_retv hX hE dX4_value_45 ?_
      unfold o_value
      first
        | (rw [if_pos (fun q => by
             have := hv.mpr q
             rw [c_8] at this
             cases this)]
           exact h.th (by decide))
        | (rw [if_neg (fun q => q (hv.mp c_8)), if_pos (Or.inl (by omega))]
           exact h.th (by decide))
        | (rw [if_neg (fun q => q (hv.mp c_8)), if_pos (Or.inr (by rw [← hl]; exact c_26))]
           exact h.th (by decide))
        | (rw [if_neg (fun q => q (hv.mp c_8)), if_neg (fun q => q.elim (fun a => by omega) (fun a => by rw [c_26] at a; cases a)), n3]
           exact h.dr2 hb hp (by decide) (by decide))
    · skip
      refine rv_aload_n hX dX4_value_22 rfl ?_
      refine mv_callz hX iX4_308 rfl mdX4_lacksTerm (m_lacksTerm hG (d := d - 1) (by omega) h.1.1.rel h.2.1 hw (by omega)) (by omega) rfl rfl (Nat.le_of_ble_eq_true rfl) dX4_value_23 (fun r_23 τ_23 h_23 => ?_)
      obtain ⟨rfl, hl⟩ := h_23
      first | refine zv_if_ne hX 33 dX4_value_26 (by decide) (fun c_26 => ?_) (fun c_26 => ?_) | refine nv_if_ne hX 33 (by omega) dX4_value_26 (by decide) (fun c_26 => ?_) (fun c_26 => ?_) | refine rv_if_ne hX 33 dX4_value_26 (by decide) (fun c_26 => ?_) (fun c_26 => ?_)
      · skip
        refine nv_iconst hX (m := 0) (by decide) dX4_value_33 ?_
        refine mv_callz hX iX4_266 rfl mdX4_goesWell (m_goesWell0 hG (d := d - 1)) (by omega) rfl rfl (Nat.le_of_ble_eq_true rfl) dX4_value_34 (fun r_34 τ_34 h_34 => ?_)
        obtain ⟨rfl, rfl⟩ := h_34
        refine rv_if_eq hX 45 dX4_value_37 (by decide) (fun q => absurd q (by decide)) (fun _ => ?_)
        obtain ⟨n, n1, n2, rfl, n3⟩ := w_rng_nat (by decide) (by decide) (hv.mp c_8)
        rw [hl] at c_26
        refine rv_aload_n hX dX4_value_40 rfl ?_
        refine rv_iload_n hX dX4_value_41 rfl ?_
        refine mv_callv hX iX4_311 rfl mdX4_addTerm (m_addTerm hG (d := d - 1) (h.thrown (nI 0)).1.1.rel (h.thrown (nI 0)).2.1 hw (by omega) c_26) (by omega) rfl rfl (Nat.le_of_ble_eq_true rfl) dX4_value_42 (fun τ_42 h_42 => ?_)
        have hp := h_42
        refine mv_retv hX hE dX4_value_45 ?_
        unfold o_value
        first
          | (rw [if_pos (fun q => by
               have := hv.mpr q
               rw [c_8] at this
               cases this)]
             exact h.th (by decide))
          | (rw [if_neg (fun q => q (hv.mp c_8)), if_pos (Or.inl (by omega))]
             exact h.th (by decide))
          | (rw [if_neg (fun q => q (hv.mp c_8)), if_pos (Or.inr (by rw [← hl]; exact c_26))]
             exact h.th (by decide))
          | (rw [if_neg (fun q => q (hv.mp c_8)), if_neg (fun q => q.elim (fun a => by omega) (fun a => by rw [c_26] at a; cases a)), n3]
             exact h.dr2 hb hp (by decide) (by decide))
      · skip
        refine nv_iconst hX (m := 2) (by decide) dX4_value_29 ?_
        refine rv_goto hX 34 dX4_value_30 (by decide) ?_
        refine mv_callz hX iX4_266 rfl mdX4_goesWell (m_goesWellN hG (by decide) (by decide) (d := d - 1)) (by omega) rfl rfl (Nat.le_of_ble_eq_true rfl) dX4_value_34 (fun r_34 τ_34 h_34 => ?_)
        obtain ⟨rfl, rfl⟩ := h_34
        refine rv_if_eq hX 45 dX4_value_37 (by decide) (fun _ => ?_) (fun q => absurd q (by decide))
        refine mv_retv hX hE dX4_value_45 ?_
        unfold o_value
        first
          | (rw [if_pos (fun q => by
               have := hv.mpr q
               rw [c_8] at this
               cases this)]
             exact h.th (by decide))
          | (rw [if_neg (fun q => q (hv.mp c_8)), if_pos (Or.inl (by omega))]
             exact h.th (by decide))
          | (rw [if_neg (fun q => q (hv.mp c_8)), if_pos (Or.inr (by rw [← hl]; exact c_26))]
             exact h.th (by decide))
          | (rw [if_neg (fun q => q (hv.mp c_8)), if_neg (fun q => q.elim (fun a => by omega) (fun a => by rw [c_26] at a; cases a)), n3]
             exact h.dr2 hb hp (by decide) (by decide))
  · skip
    refine nv_iconst hX (m := 1) (by decide) dX4_value_11 ?_
    refine rv_goto hX 34 dX4_value_12 (by decide) ?_
    refine mv_callz hX iX4_266 rfl mdX4_goesWell (m_goesWellN hG (by decide) (by decide) (d := d - 1)) (by omega) rfl rfl (Nat.le_of_ble_eq_true rfl) dX4_value_34 (fun r_34 τ_34 h_34 => ?_)
    obtain ⟨rfl, rfl⟩ := h_34
    refine rv_if_eq hX 45 dX4_value_37 (by decide) (fun _ => ?_) (fun q => absurd q (by decide))
    refine mv_retv hX hE dX4_value_45 ?_
    unfold o_value
    first
      | (rw [if_pos (fun q => by
           have := hv.mpr q
           rw [c_8] at this
           cases this)]
         exact h.th (by decide))
      | (rw [if_neg (fun q => q (hv.mp c_8)), if_pos (Or.inl (by omega))]
         exact h.th (by decide))
      | (rw [if_neg (fun q => q (hv.mp c_8)), if_pos (Or.inr (by rw [← hl]; exact c_26))]
         exact h.th (by decide))
      | (rw [if_neg (fun q => q (hv.mp c_8)), if_neg (fun q => q.elim (fun a => by omega) (fun a => by rw [c_26] at a; cases a)), n3]
         exact h.dr2 hb hp (by decide) (by decide))
theorem m_gather {G : rv_G} (hG : rv_GK G) {d : Nat} (hd : 3 ≤ d) {σ : rv_S} {s : wS} (h : mSt σ s) (hb : wB6 s.w) (hw : wfD s.w.S s.d) {kd v : Int32} : mC G d yX4_gather wX4_gather [.int kd, .int v] σ (mPv (fun τ => mRes τ 0 (o_gather s kd v))) := by
  refine mv_start hG (by decide +kernel) (Nat.le_of_ble_eq_true rfl) (fun X Hb o hX1 hX hE => ?_)
  subst hX1
  show rv_V X (rv_mh Hb o _) 0 [some (.ref o), some (.int kd), some (.int v), none, none] []
  have hk2 := h.2.1.2.1
  refine rv_iload_n hX dX4_gather_0 rfl ?_
  refine nv_iconst hX (m := 0) (by decide) dX4_gather_1 ?_
  refine nv_iconst hX (m := 3) (by decide) dX4_gather_2 ?_
  refine sv_callz hX iX4_135 mdX4_in (m_in hG (d := d - 1) (v := kd)) (by omega) rfl rfl (Nat.le_of_ble_eq_true rfl) dX4_gather_3 (fun r_3 h_3 => ?_)
  have hkd := h_3
  first | refine zv_if_eq hX 23 dX4_gather_6 (by decide) (fun c_6 => ?_) (fun c_6 => ?_) | refine nv_if_eq hX 23 (by omega) dX4_gather_6 (by decide) (fun c_6 => ?_) (fun c_6 => ?_) | refine rv_if_eq hX 23 dX4_gather_6 (by decide) (fun c_6 => ?_) (fun c_6 => ?_)
  · skip
    have hnr : ¬ (w_rng 0 3 kd ∧ w_rng 0 7 v) := fun q => by
      have := hkd.mpr q.1
      rw [c_6] at this
      cases this
    refine nv_iconst hX (m := 0) (by decide) dX4_gather_23 ?_
    refine rv_istore_n hX dX4_gather_24 (rv_st_3 rfl) ?_
    refine rv_aload_n hX dX4_gather_25 rfl ?_
    refine mv_gi hX (k := 23) gX4_302_X4 (by decide) rfl dX4_gather_26 ?_
    rw [h.2.1.1]
    refine nv_iconst hX (m := 1) (by decide) dX4_gather_29 ?_
    first | refine nv_icmp_ne hX 63 (by omega) (by omega) dX4_gather_30 (by decide) (fun c_30 => ?_) (fun c_30 => ?_) | refine rv_icmp_ne hX 63 dX4_gather_30 (by decide) (fun c_30 => ?_) (fun c_30 => ?_)
    · skip
      refine nv_iconst hX (m := 0) (by decide) dX4_gather_63 ?_
      refine rv_istore hX dX4_gather_64 (rv_st_4 rfl) ?_
      refine rv_aload_n hX dX4_gather_66 rfl ?_
      refine rv_iload_n hX dX4_gather_67 rfl ?_
      refine rv_if_ne hX 75 dX4_gather_68 (by decide) (fun q => absurd q (by decide)) (fun _ => ?_)
      refine nv_iconst hX (m := 1) (by decide) dX4_gather_71 ?_
      refine rv_goto hX 85 dX4_gather_72 (by decide) ?_
      refine mv_callz hX iX4_266 rfl mdX4_goesWell (m_goesWellN hG (by decide) (by decide) (d := d - 1)) (by omega) rfl rfl (Nat.le_of_ble_eq_true rfl) dX4_gather_85 (fun r_85 τ_85 h_85 => ?_)
      obtain ⟨rfl, rfl⟩ := h_85
      refine rv_if_eq hX 105 dX4_gather_88 (by decide) (fun _ => ?_) (fun q => absurd q (by decide))
      refine mv_retv hX hE dX4_gather_105 ?_
      unfold o_gather
      first
        | (rw [if_pos hnr]
           exact h.th (by decide))
        | (rw [if_neg (fun q => q hrg), if_pos (fun q => by have := q.1; omega)]
           exact h.th (by decide))
        | (rw [if_neg (fun q => q hrg), if_pos (fun q => by have := q.2.1; omega)]
           exact h.th (by decide))
        | (rw [if_neg (fun q => q hrg), if_pos (fun q => absurd ((hl.trans q.2.2.1).symm.trans c_47) (by decide))]
           exact h.th (by decide))
        | (rw [if_neg (fun q => q hrg), if_pos (fun q => by
             have := q.2.2.2
             rw [sp_gslot_pad, this, c_56] at hg
             exact absurd hg (by decide))]
           exact h.th (by decide))
        | (rw [if_neg (fun q => q hrg), if_neg (fun q => q ⟨by omega, by omega, by rw [← hl]; exact c_47, by
             rw [sp_gslot_pad, c_56] at hg
             cases e : sp_gslot s.d.hts 0 with
             | none => rfl
             | some x => rw [e] at hg; cases hg⟩), a3, b3]
           exact h.dr2 hb hp (by decide) (by decide))
    · skip
      refine rv_aload_n hX dX4_gather_33 rfl ?_
      refine mv_ga hX (k := 6) (j := 6) gX4_25_X4 (by decide) rfl (by decide) dX4_gather_34 ?_
      refine nv_bipush hX (m := 16) (by decide) dX4_gather_37 ?_
      refine mv_ld hX (j := 6) (by decide) (by decide) rfl (by decide) (show _ < 17 by omega) dX4_gather_39 ?_
      obtain ⟨d1, d2, d3, d4, d5, d6, d7⟩ := h.2.1.2.2.2.2.2 (show s.d.k ≠ 0 by omega)
      rw [d3]
      first | refine zv_if_ne hX 63 dX4_gather_40 (by decide) (fun c_40 => ?_) (fun c_40 => ?_) | refine nv_if_ne hX 63 (by omega) dX4_gather_40 (by decide) (fun c_40 => ?_) (fun c_40 => ?_) | refine rv_if_ne hX 63 dX4_gather_40 (by decide) (fun c_40 => ?_) (fun c_40 => ?_)
      · skip
        refine nv_iconst hX (m := 0) (by decide) dX4_gather_63 ?_
        refine rv_istore hX dX4_gather_64 (rv_st_4 rfl) ?_
        refine rv_aload_n hX dX4_gather_66 rfl ?_
        refine rv_iload_n hX dX4_gather_67 rfl ?_
        refine rv_if_ne hX 75 dX4_gather_68 (by decide) (fun q => absurd q (by decide)) (fun _ => ?_)
        refine nv_iconst hX (m := 1) (by decide) dX4_gather_71 ?_
        refine rv_goto hX 85 dX4_gather_72 (by decide) ?_
        refine mv_callz hX iX4_266 rfl mdX4_goesWell (m_goesWellN hG (by decide) (by decide) (d := d - 1)) (by omega) rfl rfl (Nat.le_of_ble_eq_true rfl) dX4_gather_85 (fun r_85 τ_85 h_85 => ?_)
        obtain ⟨rfl, rfl⟩ := h_85
        refine rv_if_eq hX 105 dX4_gather_88 (by decide) (fun _ => ?_) (fun q => absurd q (by decide))
        refine mv_retv hX hE dX4_gather_105 ?_
        unfold o_gather
        first
          | (rw [if_pos hnr]
             exact h.th (by decide))
          | (rw [if_neg (fun q => q hrg), if_pos (fun q => by have := q.1; omega)]
             exact h.th (by decide))
          | (rw [if_neg (fun q => q hrg), if_pos (fun q => by have := q.2.1; omega)]
             exact h.th (by decide))
          | (rw [if_neg (fun q => q hrg), if_pos (fun q => absurd ((hl.trans q.2.2.1).symm.trans c_47) (by decide))]
             exact h.th (by decide))
          | (rw [if_neg (fun q => q hrg), if_pos (fun q => by
               have := q.2.2.2
               rw [sp_gslot_pad, this, c_56] at hg
               exact absurd hg (by decide))]
             exact h.th (by decide))
          | (rw [if_neg (fun q => q hrg), if_neg (fun q => q ⟨by omega, by omega, by rw [← hl]; exact c_47, by
               rw [sp_gslot_pad, c_56] at hg
               cases e : sp_gslot s.d.hts 0 with
               | none => rfl
               | some x => rw [e] at hg; cases hg⟩), a3, b3]
             exact h.dr2 hb hp (by decide) (by decide))
      · skip
        refine rv_aload_n hX dX4_gather_43 rfl ?_
        refine mv_callz hX iX4_308 rfl mdX4_lacksTerm (m_lacksTerm hG (d := d - 1) (by omega) h.1.1.rel h.2.1 hw (by omega)) (by omega) rfl rfl (Nat.le_of_ble_eq_true rfl) dX4_gather_44 (fun r_44 τ_44 h_44 => ?_)
        obtain ⟨rfl, hl⟩ := h_44
        first | refine zv_if_eq hX 63 dX4_gather_47 (by decide) (fun c_47 => ?_) (fun c_47 => ?_) | refine nv_if_eq hX 63 (by omega) dX4_gather_47 (by decide) (fun c_47 => ?_) (fun c_47 => ?_) | refine rv_if_eq hX 63 dX4_gather_47 (by decide) (fun c_47 => ?_) (fun c_47 => ?_)
        · skip
          refine nv_iconst hX (m := 0) (by decide) dX4_gather_63 ?_
          refine rv_istore hX dX4_gather_64 (rv_st_4 rfl) ?_
          refine rv_aload_n hX dX4_gather_66 rfl ?_
          refine rv_iload_n hX dX4_gather_67 rfl ?_
          refine rv_if_ne hX 75 dX4_gather_68 (by decide) (fun q => absurd q (by decide)) (fun _ => ?_)
          refine nv_iconst hX (m := 1) (by decide) dX4_gather_71 ?_
          refine rv_goto hX 85 dX4_gather_72 (by decide) ?_
          refine mv_callz hX iX4_266 rfl mdX4_goesWell (m_goesWellN hG (by decide) (by decide) (d := d - 1)) (by omega) rfl rfl (Nat.le_of_ble_eq_true rfl) dX4_gather_85 (fun r_85 τ_85 h_85 => ?_)
          obtain ⟨rfl, rfl⟩ := h_85
          refine rv_if_eq hX 105 dX4_gather_88 (by decide) (fun _ => ?_) (fun q => absurd q (by decide))
          refine mv_retv hX hE dX4_gather_105 ?_
          unfold o_gather
          first
            | (rw [if_pos hnr]
               exact h.th (by decide))
            | (rw [if_neg (fun q => q hrg), if_pos (fun q => by have := q.1; omega)]
               exact h.th (by decide))
            | (rw [if_neg (fun q => q hrg), if_pos (fun q => by have := q.2.1; omega)]
               exact h.th (by decide))
            | (rw [if_neg (fun q => q hrg), if_pos (fun q => absurd ((hl.trans q.2.2.1).symm.trans c_47) (by decide))]
               exact h.th (by decide))
            | (rw [if_neg (fun q => q hrg), if_pos (fun q => by
                 have := q.2.2.2
                 rw [sp_gslot_pad, this, c_56] at hg
                 exact absurd hg (by decide))]
               exact h.th (by decide))
            | (rw [if_neg (fun q => q hrg), if_neg (fun q => q ⟨by omega, by omega, by rw [← hl]; exact c_47, by
                 rw [sp_gslot_pad, c_56] at hg
                 cases e : sp_gslot s.d.hts 0 with
                 | none => rfl
                 | some x => rw [e] at hg; cases hg⟩), a3, b3]
               exact h.dr2 hb hp (by decide) (by decide))
        · skip
          refine rv_aload_n hX dX4_gather_50 rfl ?_
          refine nv_bipush hX (m := 16) (by decide) dX4_gather_51 ?_
          refine mv_callz hX iX4_236 rfl mdX4_isGathering (m_isGathering hG (d := d - 1) (h.2.1.mHd h.1.1.rel hw (show s.d.k ≠ 0 by omega))) (by omega) rfl rfl (Nat.le_of_ble_eq_true rfl) dX4_gather_53 (fun r_53 τ_53 h_53 => ?_)
          obtain ⟨rfl, hg⟩ := h_53
          first | refine zv_if_ne hX 63 dX4_gather_56 (by decide) (fun c_56 => ?_) (fun c_56 => ?_) | refine nv_if_ne hX 63 (by omega) dX4_gather_56 (by decide) (fun c_56 => ?_) (fun c_56 => ?_) | refine rv_if_ne hX 63 dX4_gather_56 (by decide) (fun c_56 => ?_) (fun c_56 => ?_)
          · skip
            refine nv_iconst hX (m := 0) (by decide) dX4_gather_63 ?_
            refine rv_istore hX dX4_gather_64 (rv_st_4 rfl) ?_
            refine rv_aload_n hX dX4_gather_66 rfl ?_
            refine rv_iload_n hX dX4_gather_67 rfl ?_
            refine rv_if_ne hX 75 dX4_gather_68 (by decide) (fun q => absurd q (by decide)) (fun _ => ?_)
            refine nv_iconst hX (m := 1) (by decide) dX4_gather_71 ?_
            refine rv_goto hX 85 dX4_gather_72 (by decide) ?_
            refine mv_callz hX iX4_266 rfl mdX4_goesWell (m_goesWellN hG (by decide) (by decide) (d := d - 1)) (by omega) rfl rfl (Nat.le_of_ble_eq_true rfl) dX4_gather_85 (fun r_85 τ_85 h_85 => ?_)
            obtain ⟨rfl, rfl⟩ := h_85
            refine rv_if_eq hX 105 dX4_gather_88 (by decide) (fun _ => ?_) (fun q => absurd q (by decide))
            refine mv_retv hX hE dX4_gather_105 ?_
            unfold o_gather
            first
              | (rw [if_pos hnr]
                 exact h.th (by decide))
              | (rw [if_neg (fun q => q hrg), if_pos (fun q => by have := q.1; omega)]
                 exact h.th (by decide))
              | (rw [if_neg (fun q => q hrg), if_pos (fun q => by have := q.2.1; omega)]
                 exact h.th (by decide))
              | (rw [if_neg (fun q => q hrg), if_pos (fun q => absurd ((hl.trans q.2.2.1).symm.trans c_47) (by decide))]
                 exact h.th (by decide))
              | (rw [if_neg (fun q => q hrg), if_pos (fun q => by
                   have := q.2.2.2
                   rw [sp_gslot_pad, this, c_56] at hg
                   exact absurd hg (by decide))]
                 exact h.th (by decide))
              | (rw [if_neg (fun q => q hrg), if_neg (fun q => q ⟨by omega, by omega, by rw [← hl]; exact c_47, by
                   rw [sp_gslot_pad, c_56] at hg
                   cases e : sp_gslot s.d.hts 0 with
                   | none => rfl
                   | some x => rw [e] at hg; cases hg⟩), a3, b3]
                 exact h.dr2 hb hp (by decide) (by decide))
          · skip
            refine nv_iconst hX (m := 1) (by decide) dX4_gather_59 ?_
            refine rv_goto hX 64 dX4_gather_60 (by decide) ?_
            refine rv_istore hX dX4_gather_64 (rv_st_4 rfl) ?_
            refine rv_aload_n hX dX4_gather_66 rfl ?_
            refine rv_iload_n hX dX4_gather_67 rfl ?_
            refine rv_if_ne hX 75 dX4_gather_68 (by decide) (fun q => absurd q (by decide)) (fun _ => ?_)
            refine nv_iconst hX (m := 1) (by decide) dX4_gather_71 ?_
            refine rv_goto hX 85 dX4_gather_72 (by decide) ?_
            refine mv_callz hX iX4_266 rfl mdX4_goesWell (m_goesWellN hG (by decide) (by decide) (d := d - 1)) (by omega) rfl rfl (Nat.le_of_ble_eq_true rfl) dX4_gather_85 (fun r_85 τ_85 h_85 => ?_)
            obtain ⟨rfl, rfl⟩ := h_85
            refine rv_if_eq hX 105 dX4_gather_88 (by decide) (fun _ => ?_) (fun q => absurd q (by decide))
            refine mv_retv hX hE dX4_gather_105 ?_
            unfold o_gather
            first
              | (rw [if_pos hnr]
                 exact h.th (by decide))
              | (rw [if_neg (fun q => q hrg), if_pos (fun q => by have := q.1; omega)]
                 exact h.th (by decide))
              | (rw [if_neg (fun q => q hrg), if_pos (fun q => by have := q.2.1; omega)]
                 exact h.th (by decide))
              | (rw [if_neg (fun q => q hrg), if_pos (fun q => absurd ((hl.trans q.2.2.1).symm.trans c_47) (by decide))]
                 exact h.th (by decide))
              | (rw [if_neg (fun q => q hrg), if_pos (fun q => by
                   have := q.2.2.2
                   rw [sp_gslot_pad, this, c_56] at hg
                   exact absurd hg (by decide))]
                 exact h.th (by decide))
              | (rw [if_neg (fun q => q hrg), if_neg (fun q => q ⟨by omega, by omega, by rw [← hl]; exact c_47, by
                   rw [sp_gslot_pad, c_56] at hg
                   cases e : sp_gslot s.d.hts 0 with
                   | none => rfl
                   | some x => rw [e] at hg; cases hg⟩), a3, b3]
                 exact h.dr2 hb hp (by decide) (by decide))
  · skip
    refine rv_iload_n hX dX4_gather_9 rfl ?_
    refine nv_iconst hX (m := 0) (by decide) dX4_gather_10 ?_
    refine nv_bipush hX (m := 7) (by decide) dX4_gather_11 ?_
    refine sv_callz hX iX4_135 mdX4_in (m_in hG (d := d - 1) (v := v)) (by omega) rfl rfl (Nat.le_of_ble_eq_true rfl) dX4_gather_13 (fun r_13 h_13 => ?_)
    have hv := h_13
    first | refine zv_if_eq hX 23 dX4_gather_16 (by decide) (fun c_16 => ?_) (fun c_16 => ?_) | refine nv_if_eq hX 23 (by omega) dX4_gather_16 (by decide) (fun c_16 => ?_) (fun c_16 => ?_) | refine rv_if_eq hX 23 dX4_gather_16 (by decide) (fun c_16 => ?_) (fun c_16 => ?_)
    · skip
      have hnr : ¬ (w_rng 0 3 kd ∧ w_rng 0 7 v) := fun q => by
        have := hv.mpr q.2
        rw [c_16] at this
        cases this
      refine nv_iconst hX (m := 0) (by decide) dX4_gather_23 ?_
      refine rv_istore_n hX dX4_gather_24 (rv_st_3 rfl) ?_
      refine rv_aload_n hX dX4_gather_25 rfl ?_
      refine mv_gi hX (k := 23) gX4_302_X4 (by decide) rfl dX4_gather_26 ?_
      rw [h.2.1.1]
      refine nv_iconst hX (m := 1) (by decide) dX4_gather_29 ?_
      first | refine nv_icmp_ne hX 63 (by omega) (by omega) dX4_gather_30 (by decide) (fun c_30 => ?_) (fun c_30 => ?_) | refine rv_icmp_ne hX 63 dX4_gather_30 (by decide) (fun c_30 => ?_) (fun c_30 => ?_)
      · skip
        refine nv_iconst hX (m := 0) (by decide) dX4_gather_63 ?_
        refine rv_istore hX dX4_gather_64 (rv_st_4 rfl) ?_
        refine rv_aload_n hX dX4_gather_66 rfl ?_
        refine rv_iload_n hX dX4_gather_67 rfl ?_
        refine rv_if_ne hX 75 dX4_gather_68 (by decide) (fun q => absurd q (by decide)) (fun _ => ?_)
        refine nv_iconst hX (m := 1) (by decide) dX4_gather_71 ?_
        refine rv_goto hX 85 dX4_gather_72 (by decide) ?_
        refine mv_callz hX iX4_266 rfl mdX4_goesWell (m_goesWellN hG (by decide) (by decide) (d := d - 1)) (by omega) rfl rfl (Nat.le_of_ble_eq_true rfl) dX4_gather_85 (fun r_85 τ_85 h_85 => ?_)
        obtain ⟨rfl, rfl⟩ := h_85
        refine rv_if_eq hX 105 dX4_gather_88 (by decide) (fun _ => ?_) (fun q => absurd q (by decide))
        refine mv_retv hX hE dX4_gather_105 ?_
        unfold o_gather
        first
          | (rw [if_pos hnr]
             exact h.th (by decide))
          | (rw [if_neg (fun q => q hrg), if_pos (fun q => by have := q.1; omega)]
             exact h.th (by decide))
          | (rw [if_neg (fun q => q hrg), if_pos (fun q => by have := q.2.1; omega)]
             exact h.th (by decide))
          | (rw [if_neg (fun q => q hrg), if_pos (fun q => absurd ((hl.trans q.2.2.1).symm.trans c_47) (by decide))]
             exact h.th (by decide))
          | (rw [if_neg (fun q => q hrg), if_pos (fun q => by
               have := q.2.2.2
               rw [sp_gslot_pad, this, c_56] at hg
               exact absurd hg (by decide))]
             exact h.th (by decide))
          | (rw [if_neg (fun q => q hrg), if_neg (fun q => q ⟨by omega, by omega, by rw [← hl]; exact c_47, by
               rw [sp_gslot_pad, c_56] at hg
               cases e : sp_gslot s.d.hts 0 with
               | none => rfl
               | some x => rw [e] at hg; cases hg⟩), a3, b3]
             exact h.dr2 hb hp (by decide) (by decide))
      · skip
        refine rv_aload_n hX dX4_gather_33 rfl ?_
        refine mv_ga hX (k := 6) (j := 6) gX4_25_X4 (by decide) rfl (by decide) dX4_gather_34 ?_
        refine nv_bipush hX (m := 16) (by decide) dX4_gather_37 ?_
        refine mv_ld hX (j := 6) (by decide) (by decide) rfl (by decide) (show _ < 17 by omega) dX4_gather_39 ?_
        obtain ⟨d1, d2, d3, d4, d5, d6, d7⟩ := h.2.1.2.2.2.2.2 (show s.d.k ≠ 0 by omega)
        rw [d3]
        first | refine zv_if_ne hX 63 dX4_gather_40 (by decide) (fun c_40 => ?_) (fun c_40 => ?_) | refine nv_if_ne hX 63 (by omega) dX4_gather_40 (by decide) (fun c_40 => ?_) (fun c_40 => ?_) | refine rv_if_ne hX 63 dX4_gather_40 (by decide) (fun c_40 => ?_) (fun c_40 => ?_)
        · skip
          refine nv_iconst hX (m := 0) (by decide) dX4_gather_63 ?_
          refine rv_istore hX dX4_gather_64 (rv_st_4 rfl) ?_
          refine rv_aload_n hX dX4_gather_66 rfl ?_
          refine rv_iload_n hX dX4_gather_67 rfl ?_
          refine rv_if_ne hX 75 dX4_gather_68 (by decide) (fun q => absurd q (by decide)) (fun _ => ?_)
          refine nv_iconst hX (m := 1) (by decide) dX4_gather_71 ?_
          refine rv_goto hX 85 dX4_gather_72 (by decide) ?_
          refine mv_callz hX iX4_266 rfl mdX4_goesWell (m_goesWellN hG (by decide) (by decide) (d := d - 1)) (by omega) rfl rfl (Nat.le_of_ble_eq_true rfl) dX4_gather_85 (fun r_85 τ_85 h_85 => ?_)
          obtain ⟨rfl, rfl⟩ := h_85
          refine rv_if_eq hX 105 dX4_gather_88 (by decide) (fun _ => ?_) (fun q => absurd q (by decide))
          refine mv_retv hX hE dX4_gather_105 ?_
          unfold o_gather
          first
            | (rw [if_pos hnr]
               exact h.th (by decide))
            | (rw [if_neg (fun q => q hrg), if_pos (fun q => by have := q.1; omega)]
               exact h.th (by decide))
            | (rw [if_neg (fun q => q hrg), if_pos (fun q => by have := q.2.1; omega)]
               exact h.th (by decide))
            | (rw [if_neg (fun q => q hrg), if_pos (fun q => absurd ((hl.trans q.2.2.1).symm.trans c_47) (by decide))]
               exact h.th (by decide))
            | (rw [if_neg (fun q => q hrg), if_pos (fun q => by
                 have := q.2.2.2
                 rw [sp_gslot_pad, this, c_56] at hg
                 exact absurd hg (by decide))]
               exact h.th (by decide))
            | (rw [if_neg (fun q => q hrg), if_neg (fun q => q ⟨by omega, by omega, by rw [← hl]; exact c_47, by
                 rw [sp_gslot_pad, c_56] at hg
                 cases e : sp_gslot s.d.hts 0 with
                 | none => rfl
                 | some x => rw [e] at hg; cases hg⟩), a3, b3]
               exact h.dr2 hb hp (by decide) (by decide))
        · skip
          refine rv_aload_n hX dX4_gather_43 rfl ?_
          refine mv_callz hX iX4_308 rfl mdX4_lacksTerm (m_lacksTerm hG (d := d - 1) (by omega) h.1.1.rel h.2.1 hw (by omega)) (by omega) rfl rfl (Nat.le_of_ble_eq_true rfl) dX4_gather_44 (fun r_44 τ_44 h_44 => ?_)
          obtain ⟨rfl, hl⟩ := h_44
          first | refine zv_if_eq hX 63 dX4_gather_47 (by decide) (fun c_47 => ?_) (fun c_47 => ?_) | refine nv_if_eq hX 63 (by omega) dX4_gather_47 (by decide) (fun c_47 => ?_) (fun c_47 => ?_) | refine rv_if_eq hX 63 dX4_gather_47 (by decide) (fun c_47 => ?_) (fun c_47 => ?_)
          · skip
            refine nv_iconst hX (m := 0) (by decide) dX4_gather_63 ?_
            refine rv_istore hX dX4_gather_64 (rv_st_4 rfl) ?_
            refine rv_aload_n hX dX4_gather_66 rfl ?_
            refine rv_iload_n hX dX4_gather_67 rfl ?_
            refine rv_if_ne hX 75 dX4_gather_68 (by decide) (fun q => absurd q (by decide)) (fun _ => ?_)
            refine nv_iconst hX (m := 1) (by decide) dX4_gather_71 ?_
            refine rv_goto hX 85 dX4_gather_72 (by decide) ?_
            refine mv_callz hX iX4_266 rfl mdX4_goesWell (m_goesWellN hG (by decide) (by decide) (d := d - 1)) (by omega) rfl rfl (Nat.le_of_ble_eq_true rfl) dX4_gather_85 (fun r_85 τ_85 h_85 => ?_)
            obtain ⟨rfl, rfl⟩ := h_85
            refine rv_if_eq hX 105 dX4_gather_88 (by decide) (fun _ => ?_) (fun q => absurd q (by decide))
            refine mv_retv hX hE dX4_gather_105 ?_
            unfold o_gather
            first
              | (rw [if_pos hnr]
                 exact h.th (by decide))
              | (rw [if_neg (fun q => q hrg), if_pos (fun q => by have := q.1; omega)]
                 exact h.th (by decide))
              | (rw [if_neg (fun q => q hrg), if_pos (fun q => by have := q.2.1; omega)]
                 exact h.th (by decide))
              | (rw [if_neg (fun q => q hrg), if_pos (fun q => absurd ((hl.trans q.2.2.1).symm.trans c_47) (by decide))]
                 exact h.th (by decide))
              | (rw [if_neg (fun q => q hrg), if_pos (fun q => by
                   have := q.2.2.2
                   rw [sp_gslot_pad, this, c_56] at hg
                   exact absurd hg (by decide))]
                 exact h.th (by decide))
              | (rw [if_neg (fun q => q hrg), if_neg (fun q => q ⟨by omega, by omega, by rw [← hl]; exact c_47, by
                   rw [sp_gslot_pad, c_56] at hg
                   cases e : sp_gslot s.d.hts 0 with
                   | none => rfl
                   | some x => rw [e] at hg; cases hg⟩), a3, b3]
                 exact h.dr2 hb hp (by decide) (by decide))
          · skip
            refine rv_aload_n hX dX4_gather_50 rfl ?_
            refine nv_bipush hX (m := 16) (by decide) dX4_gather_51 ?_
            refine mv_callz hX iX4_236 rfl mdX4_isGathering (m_isGathering hG (d := d - 1) (h.2.1.mHd h.1.1.rel hw (show s.d.k ≠ 0 by omega))) (by omega) rfl rfl (Nat.le_of_ble_eq_true rfl) dX4_gather_53 (fun r_53 τ_53 h_53 => ?_)
            obtain ⟨rfl, hg⟩ := h_53
            first | refine zv_if_ne hX 63 dX4_gather_56 (by decide) (fun c_56 => ?_) (fun c_56 => ?_) | refine nv_if_ne hX 63 (by omega) dX4_gather_56 (by decide) (fun c_56 => ?_) (fun c_56 => ?_) | refine rv_if_ne hX 63 dX4_gather_56 (by decide) (fun c_56 => ?_) (fun c_56 => ?_)
            · skip
              refine nv_iconst hX (m := 0) (by decide) dX4_gather_63 ?_
              refine rv_istore hX dX4_gather_64 (rv_st_4 rfl) ?_
              refine rv_aload_n hX dX4_gather_66 rfl ?_
              refine rv_iload_n hX dX4_gather_67 rfl ?_
              refine rv_if_ne hX 75 dX4_gather_68 (by decide) (fun q => absurd q (by decide)) (fun _ => ?_)
              refine nv_iconst hX (m := 1) (by decide) dX4_gather_71 ?_
              refine rv_goto hX 85 dX4_gather_72 (by decide) ?_
              refine mv_callz hX iX4_266 rfl mdX4_goesWell (m_goesWellN hG (by decide) (by decide) (d := d - 1)) (by omega) rfl rfl (Nat.le_of_ble_eq_true rfl) dX4_gather_85 (fun r_85 τ_85 h_85 => ?_)
              obtain ⟨rfl, rfl⟩ := h_85
              refine rv_if_eq hX 105 dX4_gather_88 (by decide) (fun _ => ?_) (fun q => absurd q (by decide))
              refine mv_retv hX hE dX4_gather_105 ?_
              unfold o_gather
              first
                | (rw [if_pos hnr]
                   exact h.th (by decide))
                | (rw [if_neg (fun q => q hrg), if_pos (fun q => by have := q.1; omega)]
                   exact h.th (by decide))
                | (rw [if_neg (fun q => q hrg), if_pos (fun q => by have := q.2.1; omega)]
                   exact h.th (by decide))
                | (rw [if_neg (fun q => q hrg), if_pos (fun q => absurd ((hl.trans q.2.2.1).symm.trans c_47) (by decide))]
                   exact h.th (by decide))
                | (rw [if_neg (fun q => q hrg), if_pos (fun q => by
                     have := q.2.2.2
                     rw [sp_gslot_pad, this, c_56] at hg
                     exact absurd hg (by decide))]
                   exact h.th (by decide))
                | (rw [if_neg (fun q => q hrg), if_neg (fun q => q ⟨by omega, by omega, by rw [← hl]; exact c_47, by
                     rw [sp_gslot_pad, c_56] at hg
                     cases e : sp_gslot s.d.hts 0 with
                     | none => rfl
                     | some x => rw [e] at hg; cases hg⟩), a3, b3]
                   exact h.dr2 hb hp (by decide) (by decide))
            · skip
              refine nv_iconst hX (m := 1) (by decide) dX4_gather_59 ?_
              refine rv_goto hX 64 dX4_gather_60 (by decide) ?_
              refine rv_istore hX dX4_gather_64 (rv_st_4 rfl) ?_
              refine rv_aload_n hX dX4_gather_66 rfl ?_
              refine rv_iload_n hX dX4_gather_67 rfl ?_
              refine rv_if_ne hX 75 dX4_gather_68 (by decide) (fun q => absurd q (by decide)) (fun _ => ?_)
              refine nv_iconst hX (m := 1) (by decide) dX4_gather_71 ?_
              refine rv_goto hX 85 dX4_gather_72 (by decide) ?_
              refine mv_callz hX iX4_266 rfl mdX4_goesWell (m_goesWellN hG (by decide) (by decide) (d := d - 1)) (by omega) rfl rfl (Nat.le_of_ble_eq_true rfl) dX4_gather_85 (fun r_85 τ_85 h_85 => ?_)
              obtain ⟨rfl, rfl⟩ := h_85
              refine rv_if_eq hX 105 dX4_gather_88 (by decide) (fun _ => ?_) (fun q => absurd q (by decide))
              refine mv_retv hX hE dX4_gather_105 ?_
              unfold o_gather
              first
                | (rw [if_pos hnr]
                   exact h.th (by decide))
                | (rw [if_neg (fun q => q hrg), if_pos (fun q => by have := q.1; omega)]
                   exact h.th (by decide))
                | (rw [if_neg (fun q => q hrg), if_pos (fun q => by have := q.2.1; omega)]
                   exact h.th (by decide))
                | (rw [if_neg (fun q => q hrg), if_pos (fun q => absurd ((hl.trans q.2.2.1).symm.trans c_47) (by decide))]
                   exact h.th (by decide))
                | (rw [if_neg (fun q => q hrg), if_pos (fun q => by
                     have := q.2.2.2
                     rw [sp_gslot_pad, this, c_56] at hg
                     exact absurd hg (by decide))]
                   exact h.th (by decide))
                | (rw [if_neg (fun q => q hrg), if_neg (fun q => q ⟨by omega, by omega, by rw [← hl]; exact c_47, by
                     rw [sp_gslot_pad, c_56] at hg
                     cases e : sp_gslot s.d.hts 0 with
                     | none => rfl
                     | some x => rw [e] at hg; cases hg⟩), a3, b3]
                   exact h.dr2 hb hp (by decide) (by decide))
    · skip
      have hrg : w_rng 0 3 kd ∧ w_rng 0 7 v := ⟨hkd.mp c_6, hv.mp c_16⟩
      refine nv_iconst hX (m := 1) (by decide) dX4_gather_19 ?_
      refine rv_goto hX 24 dX4_gather_20 (by decide) ?_
      refine rv_istore_n hX dX4_gather_24 (rv_st_3 rfl) ?_
      refine rv_aload_n hX dX4_gather_25 rfl ?_
      refine mv_gi hX (k := 23) gX4_302_X4 (by decide) rfl dX4_gather_26 ?_
      rw [h.2.1.1]
      refine nv_iconst hX (m := 1) (by decide) dX4_gather_29 ?_
      first | refine nv_icmp_ne hX 63 (by omega) (by omega) dX4_gather_30 (by decide) (fun c_30 => ?_) (fun c_30 => ?_) | refine rv_icmp_ne hX 63 dX4_gather_30 (by decide) (fun c_30 => ?_) (fun c_30 => ?_)
      · skip
        refine nv_iconst hX (m := 0) (by decide) dX4_gather_63 ?_
        refine rv_istore hX dX4_gather_64 (rv_st_4 rfl) ?_
        refine rv_aload_n hX dX4_gather_66 rfl ?_
        refine rv_iload_n hX dX4_gather_67 rfl ?_
        refine rv_if_ne hX 75 dX4_gather_68 (by decide) (fun _ => ?_) (fun q => absurd q (by decide))
        refine rv_iload hX dX4_gather_75 rfl ?_
        refine rv_if_eq hX 84 dX4_gather_77 (by decide) (fun _ => ?_) (fun q => absurd q (by decide))
        refine nv_iconst hX (m := 2) (by decide) dX4_gather_84 ?_
        refine mv_callz hX iX4_266 rfl mdX4_goesWell (m_goesWellN hG (by decide) (by decide) (d := d - 1)) (by omega) rfl rfl (Nat.le_of_ble_eq_true rfl) dX4_gather_85 (fun r_85 τ_85 h_85 => ?_)
        obtain ⟨rfl, rfl⟩ := h_85
        refine rv_if_eq hX 105 dX4_gather_88 (by decide) (fun _ => ?_) (fun q => absurd q (by decide))
        refine mv_retv hX hE dX4_gather_105 ?_
        unfold o_gather
        first
          | (rw [if_pos hnr]
             exact h.th (by decide))
          | (rw [if_neg (fun q => q hrg), if_pos (fun q => by have := q.1; omega)]
             exact h.th (by decide))
          | (rw [if_neg (fun q => q hrg), if_pos (fun q => by have := q.2.1; omega)]
             exact h.th (by decide))
          | (rw [if_neg (fun q => q hrg), if_pos (fun q => absurd ((hl.trans q.2.2.1).symm.trans c_47) (by decide))]
             exact h.th (by decide))
          | (rw [if_neg (fun q => q hrg), if_pos (fun q => by
               have := q.2.2.2
               rw [sp_gslot_pad, this, c_56] at hg
               exact absurd hg (by decide))]
             exact h.th (by decide))
          | (rw [if_neg (fun q => q hrg), if_neg (fun q => q ⟨by omega, by omega, by rw [← hl]; exact c_47, by
               rw [sp_gslot_pad, c_56] at hg
               cases e : sp_gslot s.d.hts 0 with
               | none => rfl
               | some x => rw [e] at hg; cases hg⟩), a3, b3]
             exact h.dr2 hb hp (by decide) (by decide))
      · skip
        refine rv_aload_n hX dX4_gather_33 rfl ?_
        refine mv_ga hX (k := 6) (j := 6) gX4_25_X4 (by decide) rfl (by decide) dX4_gather_34 ?_
        refine nv_bipush hX (m := 16) (by decide) dX4_gather_37 ?_
        refine mv_ld hX (j := 6) (by decide) (by decide) rfl (by decide) (show _ < 17 by omega) dX4_gather_39 ?_
        obtain ⟨d1, d2, d3, d4, d5, d6, d7⟩ := h.2.1.2.2.2.2.2 (show s.d.k ≠ 0 by omega)
        rw [d3]
        first | refine zv_if_ne hX 63 dX4_gather_40 (by decide) (fun c_40 => ?_) (fun c_40 => ?_) | refine nv_if_ne hX 63 (by omega) dX4_gather_40 (by decide) (fun c_40 => ?_) (fun c_40 => ?_) | refine rv_if_ne hX 63 dX4_gather_40 (by decide) (fun c_40 => ?_) (fun c_40 => ?_)
        · skip
          refine nv_iconst hX (m := 0) (by decide) dX4_gather_63 ?_
          refine rv_istore hX dX4_gather_64 (rv_st_4 rfl) ?_
          refine rv_aload_n hX dX4_gather_66 rfl ?_
          refine rv_iload_n hX dX4_gather_67 rfl ?_
          refine rv_if_ne hX 75 dX4_gather_68 (by decide) (fun _ => ?_) (fun q => absurd q (by decide))
          refine rv_iload hX dX4_gather_75 rfl ?_
          refine rv_if_eq hX 84 dX4_gather_77 (by decide) (fun _ => ?_) (fun q => absurd q (by decide))
          refine nv_iconst hX (m := 2) (by decide) dX4_gather_84 ?_
          refine mv_callz hX iX4_266 rfl mdX4_goesWell (m_goesWellN hG (by decide) (by decide) (d := d - 1)) (by omega) rfl rfl (Nat.le_of_ble_eq_true rfl) dX4_gather_85 (fun r_85 τ_85 h_85 => ?_)
          obtain ⟨rfl, rfl⟩ := h_85
          refine rv_if_eq hX 105 dX4_gather_88 (by decide) (fun _ => ?_) (fun q => absurd q (by decide))
          refine mv_retv hX hE dX4_gather_105 ?_
          unfold o_gather
          first
            | (rw [if_pos hnr]
               exact h.th (by decide))
            | (rw [if_neg (fun q => q hrg), if_pos (fun q => by have := q.1; omega)]
               exact h.th (by decide))
            | (rw [if_neg (fun q => q hrg), if_pos (fun q => by have := q.2.1; omega)]
               exact h.th (by decide))
            | (rw [if_neg (fun q => q hrg), if_pos (fun q => absurd ((hl.trans q.2.2.1).symm.trans c_47) (by decide))]
               exact h.th (by decide))
            | (rw [if_neg (fun q => q hrg), if_pos (fun q => by
                 have := q.2.2.2
                 rw [sp_gslot_pad, this, c_56] at hg
                 exact absurd hg (by decide))]
               exact h.th (by decide))
            | (rw [if_neg (fun q => q hrg), if_neg (fun q => q ⟨by omega, by omega, by rw [← hl]; exact c_47, by
                 rw [sp_gslot_pad, c_56] at hg
                 cases e : sp_gslot s.d.hts 0 with
                 | none => rfl
                 | some x => rw [e] at hg; cases hg⟩), a3, b3]
               exact h.dr2 hb hp (by decide) (by decide))
        · skip
          refine rv_aload_n hX dX4_gather_43 rfl ?_
          refine mv_callz hX iX4_308 rfl mdX4_lacksTerm (m_lacksTerm hG (d := d - 1) (by omega) h.1.1.rel h.2.1 hw (by omega)) (by omega) rfl rfl (Nat.le_of_ble_eq_true rfl) dX4_gather_44 (fun r_44 τ_44 h_44 => ?_)
          obtain ⟨rfl, hl⟩ := h_44
          first | refine zv_if_eq hX 63 dX4_gather_47 (by decide) (fun c_47 => ?_) (fun c_47 => ?_) | refine nv_if_eq hX 63 (by omega) dX4_gather_47 (by decide) (fun c_47 => ?_) (fun c_47 => ?_) | refine rv_if_eq hX 63 dX4_gather_47 (by decide) (fun c_47 => ?_) (fun c_47 => ?_)
          · skip
            refine nv_iconst hX (m := 0) (by decide) dX4_gather_63 ?_
            refine rv_istore hX dX4_gather_64 (rv_st_4 rfl) ?_
            refine rv_aload_n hX dX4_gather_66 rfl ?_
            refine rv_iload_n hX dX4_gather_67 rfl ?_
            refine rv_if_ne hX 75 dX4_gather_68 (by decide) (fun _ => ?_) (fun q => absurd q (by decide))
            refine rv_iload hX dX4_gather_75 rfl ?_
            refine rv_if_eq hX 84 dX4_gather_77 (by decide) (fun _ => ?_) (fun q => absurd q (by decide))
            refine nv_iconst hX (m := 2) (by decide) dX4_gather_84 ?_
            refine mv_callz hX iX4_266 rfl mdX4_goesWell (m_goesWellN hG (by decide) (by decide) (d := d - 1)) (by omega) rfl rfl (Nat.le_of_ble_eq_true rfl) dX4_gather_85 (fun r_85 τ_85 h_85 => ?_)
            obtain ⟨rfl, rfl⟩ := h_85
            refine rv_if_eq hX 105 dX4_gather_88 (by decide) (fun _ => ?_) (fun q => absurd q (by decide))
            refine mv_retv hX hE dX4_gather_105 ?_
            unfold o_gather
            first
              | (rw [if_pos hnr]
                 exact h.th (by decide))
              | (rw [if_neg (fun q => q hrg), if_pos (fun q => by have := q.1; omega)]
                 exact h.th (by decide))
              | (rw [if_neg (fun q => q hrg), if_pos (fun q => by have := q.2.1; omega)]
                 exact h.th (by decide))
              | (rw [if_neg (fun q => q hrg), if_pos (fun q => absurd ((hl.trans q.2.2.1).symm.trans c_47) (by decide))]
                 exact h.th (by decide))
              | (rw [if_neg (fun q => q hrg), if_pos (fun q => by
                   have := q.2.2.2
                   rw [sp_gslot_pad, this, c_56] at hg
                   exact absurd hg (by decide))]
                 exact h.th (by decide))
              | (rw [if_neg (fun q => q hrg), if_neg (fun q => q ⟨by omega, by omega, by rw [← hl]; exact c_47, by
                   rw [sp_gslot_pad, c_56] at hg
                   cases e : sp_gslot s.d.hts 0 with
                   | none => rfl
                   | some x => rw [e] at hg; cases hg⟩), a3, b3]
                 exact h.dr2 hb hp (by decide) (by decide))
          · skip
            refine rv_aload_n hX dX4_gather_50 rfl ?_
            refine nv_bipush hX (m := 16) (by decide) dX4_gather_51 ?_
            refine mv_callz hX iX4_236 rfl mdX4_isGathering (m_isGathering hG (d := d - 1) (h.2.1.mHd h.1.1.rel hw (show s.d.k ≠ 0 by omega))) (by omega) rfl rfl (Nat.le_of_ble_eq_true rfl) dX4_gather_53 (fun r_53 τ_53 h_53 => ?_)
            obtain ⟨rfl, hg⟩ := h_53
            first | refine zv_if_ne hX 63 dX4_gather_56 (by decide) (fun c_56 => ?_) (fun c_56 => ?_) | refine nv_if_ne hX 63 (by omega) dX4_gather_56 (by decide) (fun c_56 => ?_) (fun c_56 => ?_) | refine rv_if_ne hX 63 dX4_gather_56 (by decide) (fun c_56 => ?_) (fun c_56 => ?_)
            · skip
              refine nv_iconst hX (m := 0) (by decide) dX4_gather_63 ?_
              refine rv_istore hX dX4_gather_64 (rv_st_4 rfl) ?_
              refine rv_aload_n hX dX4_gather_66 rfl ?_
              refine rv_iload_n hX dX4_gather_67 rfl ?_
              refine rv_if_ne hX 75 dX4_gather_68 (by decide) (fun _ => ?_) (fun q => absurd q (by decide))
              refine rv_iload hX dX4_gather_75 rfl ?_
              refine rv_if_eq hX 84 dX4_gather_77 (by decide) (fun _ => ?_) (fun q => absurd q (by decide))
              refine nv_iconst hX (m := 2) (by decide) dX4_gather_84 ?_
              refine mv_callz hX iX4_266 rfl mdX4_goesWell (m_goesWellN hG (by decide) (by decide) (d := d - 1)) (by omega) rfl rfl (Nat.le_of_ble_eq_true rfl) dX4_gather_85 (fun r_85 τ_85 h_85 => ?_)
              obtain ⟨rfl, rfl⟩ := h_85
              refine rv_if_eq hX 105 dX4_gather_88 (by decide) (fun _ => ?_) (fun q => absurd q (by decide))
              refine mv_retv hX hE dX4_gather_105 ?_
              unfold o_gather
              first
                | (rw [if_pos hnr]
                   exact h.th (by decide))
                | (rw [if_neg (fun q => q hrg), if_pos (fun q => by have := q.1; omega)]
                   exact h.th (by decide))
                | (rw [if_neg (fun q => q hrg), if_pos (fun q => by have := q.2.1; omega)]
                   exact h.th (by decide))
                | (rw [if_neg (fun q => q hrg), if_pos (fun q => absurd ((hl.trans q.2.2.1).symm.trans c_47) (by decide))]
                   exact h.th (by decide))
                | (rw [if_neg (fun q => q hrg), if_pos (fun q => by
                     have := q.2.2.2
                     rw [sp_gslot_pad, this, c_56] at hg
                     exact absurd hg (by decide))]
                   exact h.th (by decide))
                | (rw [if_neg (fun q => q hrg), if_neg (fun q => q ⟨by omega, by omega, by rw [← hl]; exact c_47, by
                     rw [sp_gslot_pad, c_56] at hg
                     cases e : sp_gslot s.d.hts 0 with
                     | none => rfl
                     | some x => rw [e] at hg; cases hg⟩), a3, b3]
                   exact h.dr2 hb hp (by decide) (by decide))
            · skip
              refine nv_iconst hX (m := 1) (by decide) dX4_gather_59 ?_
              refine rv_goto hX 64 dX4_gather_60 (by decide) ?_
              refine rv_istore hX dX4_gather_64 (rv_st_4 rfl) ?_
              refine rv_aload_n hX dX4_gather_66 rfl ?_
              refine rv_iload_n hX dX4_gather_67 rfl ?_
              refine rv_if_ne hX 75 dX4_gather_68 (by decide) (fun _ => ?_) (fun q => absurd q (by decide))
              refine rv_iload hX dX4_gather_75 rfl ?_
              refine rv_if_eq hX 84 dX4_gather_77 (by decide) (fun q => absurd q (by decide)) (fun _ => ?_)
              refine nv_iconst hX (m := 0) (by decide) dX4_gather_80 ?_
              refine rv_goto hX 85 dX4_gather_81 (by decide) ?_
              refine mv_callz hX iX4_266 rfl mdX4_goesWell (m_goesWell0 hG (d := d - 1)) (by omega) rfl rfl (Nat.le_of_ble_eq_true rfl) dX4_gather_85 (fun r_85 τ_85 h_85 => ?_)
              obtain ⟨rfl, rfl⟩ := h_85
              refine rv_if_eq hX 105 dX4_gather_88 (by decide) (fun q => absurd q (by decide)) (fun _ => ?_)
              obtain ⟨a, a1, a2, rfl, a3⟩ := w_rng_nat (by decide) (by decide) hrg.1
              obtain ⟨b, b1, b2, rfl, b3⟩ := w_rng_nat (by decide) (by decide) hrg.2
              refine rv_aload_n hX dX4_gather_91 rfl ?_
              refine nv_sipush hX (m := 200) (by decide) dX4_gather_92 ?_
              refine nv_bipush hX (m := 8) (by decide) dX4_gather_95 ?_
              refine rv_iload_n hX dX4_gather_97 rfl ?_
              first | refine nv_imul hX dX4_gather_98 ?_ | refine rv_imul hX dX4_gather_98 ?_
              first | refine nv_iadd hX dX4_gather_99 ?_ | refine rv_iadd hX dX4_gather_99 ?_
              refine rv_iload_n hX dX4_gather_100 rfl ?_
              first | refine nv_iadd hX dX4_gather_101 ?_ | refine rv_iadd hX dX4_gather_101 ?_
              refine mv_callv hX iX4_311 rfl mdX4_addTerm (m_addTerm hG (d := d - 1) (h.thrown (nI 0)).1.1.rel (h.thrown (nI 0)).2.1 hw (by omega) (by rw [← hl]; exact c_47)) (by omega) rfl rfl (Nat.le_of_ble_eq_true rfl) dX4_gather_102 (fun τ_102 h_102 => ?_)
              have hp := h_102
              refine mv_retv hX hE dX4_gather_105 ?_
              unfold o_gather
              first
                | (rw [if_pos hnr]
                   exact h.th (by decide))
                | (rw [if_neg (fun q => q hrg), if_pos (fun q => by have := q.1; omega)]
                   exact h.th (by decide))
                | (rw [if_neg (fun q => q hrg), if_pos (fun q => by have := q.2.1; omega)]
                   exact h.th (by decide))
                | (rw [if_neg (fun q => q hrg), if_pos (fun q => absurd ((hl.trans q.2.2.1).symm.trans c_47) (by decide))]
                   exact h.th (by decide))
                | (rw [if_neg (fun q => q hrg), if_pos (fun q => by
                     have := q.2.2.2
                     rw [sp_gslot_pad, this, c_56] at hg
                     exact absurd hg (by decide))]
                   exact h.th (by decide))
                | (rw [if_neg (fun q => q hrg), if_neg (fun q => q ⟨by omega, by omega, by rw [← hl]; exact c_47, by
                     rw [sp_gslot_pad, c_56] at hg
                     cases e : sp_gslot s.d.hts 0 with
                     | none => rfl
                     | some x => rw [e] at hg; cases hg⟩), a3, b3]
                   exact h.dr2 hb hp (by decide) (by decide))
theorem m_canAdd {G : rv_G} (hG : rv_GK G) {d : Nat} (hd : 3 ≤ d) {σ : rv_S} {S : List Nat} {dr : wDr} (hS : mRel σ S) (h : mDraft σ S dr) (hw : wfD S dr) : mC G d yX4_canAdd wX4_canAdd [] σ (mPz (fun r τ => τ = σ ∧ r = dr.can S)) := by
  refine mv_start hG (by decide +kernel) (Nat.le_of_ble_eq_true rfl) (fun X Hb o hX1 hX hE => ?_)
  subst hX1
  show rv_V X (rv_mh Hb o _) 0 [some (.ref o)] []
  have hk2 := h.2.1
  refine rv_aload_n hX dX4_canAdd_0 rfl ?_
  refine mv_gi hX (k := 23) gX4_302_X4 (by decide) rfl dX4_canAdd_1 ?_
  rw [h.1]
  first | refine nv_if_le hX 30 (by omega) dX4_canAdd_4 (by decide) (fun c_4 => ?_) (fun c_4 => ?_) | refine rv_if_le hX 30 dX4_canAdd_4 (by decide) (fun c_4 => ?_) (fun c_4 => ?_)
  · skip
    refine nv_iconst hX (m := 0) (by decide) dX4_canAdd_30 ?_
    refine mv_retz hX hE (b := false) rfl dX4_canAdd_31 ?_
    unfold wDr.can
    refine ⟨rfl, ?_⟩
    first
      | (rw [← hl, c_11, decide_eq_true (show 0 < dr.k by omega), decide_eq_true (show dr.its.length < 6 by omega)]
         rfl)
      | (rw [← hl, c_11, decide_eq_true (show 0 < dr.k by omega), decide_eq_false (show ¬ dr.its.length < 6 by omega)]
         rfl)
      | (rw [← hl, c_11]
         cases decide (0 < dr.k) <;> rfl)
      | (rw [decide_eq_false (show ¬ 0 < dr.k by omega)]
         rfl)
  · skip
    refine rv_aload_n hX dX4_canAdd_7 rfl ?_
    refine mv_callz hX iX4_308 rfl mdX4_lacksTerm (m_lacksTerm hG (d := d - 1) (by omega) hS h hw (by omega)) (by omega) rfl rfl (Nat.le_of_ble_eq_true rfl) dX4_canAdd_8 (fun r_8 τ_8 h_8 => ?_)
    obtain ⟨rfl, hl⟩ := h_8
    first | refine zv_if_ne hX 30 dX4_canAdd_11 (by decide) (fun c_11 => ?_) (fun c_11 => ?_) | refine nv_if_ne hX 30 (by omega) dX4_canAdd_11 (by decide) (fun c_11 => ?_) (fun c_11 => ?_) | refine rv_if_ne hX 30 dX4_canAdd_11 (by decide) (fun c_11 => ?_) (fun c_11 => ?_)
    · skip
      refine nv_iconst hX (m := 0) (by decide) dX4_canAdd_30 ?_
      refine mv_retz hX hE (b := false) rfl dX4_canAdd_31 ?_
      unfold wDr.can
      refine ⟨rfl, ?_⟩
      first
        | (rw [← hl, c_11, decide_eq_true (show 0 < dr.k by omega), decide_eq_true (show dr.its.length < 6 by omega)]
           rfl)
        | (rw [← hl, c_11, decide_eq_true (show 0 < dr.k by omega), decide_eq_false (show ¬ dr.its.length < 6 by omega)]
           rfl)
        | (rw [← hl, c_11]
           cases decide (0 < dr.k) <;> rfl)
        | (rw [decide_eq_false (show ¬ 0 < dr.k by omega)]
           rfl)
    · skip
      refine rv_aload_n hX dX4_canAdd_14 rfl ?_
      refine mv_ga hX (k := 6) (j := 6) gX4_25_X4 (by decide) rfl (by decide) dX4_canAdd_15 ?_
      refine nv_bipush hX (m := 16) (by decide) dX4_canAdd_18 ?_
      refine mv_ld hX (j := 6) (by decide) (by decide) rfl (by decide) (show _ < 17 by omega) dX4_canAdd_20 ?_
      obtain ⟨d1, d2, d3, d4, d5, d6, d7⟩ := h.2.2.2.2.2 (show dr.k ≠ 0 by omega)
      rw [d3]
      refine nv_bipush hX (m := 6) (by decide) dX4_canAdd_21 ?_
      first | refine nv_icmp_ge hX 30 (by omega) (by omega) dX4_canAdd_23 (by decide) (fun c_23 => ?_) (fun c_23 => ?_) | refine rv_icmp_ge hX 30 dX4_canAdd_23 (by decide) (fun c_23 => ?_) (fun c_23 => ?_)
      · skip
        refine nv_iconst hX (m := 0) (by decide) dX4_canAdd_30 ?_
        refine mv_retz hX hE (b := false) rfl dX4_canAdd_31 ?_
        unfold wDr.can
        refine ⟨rfl, ?_⟩
        first
          | (rw [← hl, c_11, decide_eq_true (show 0 < dr.k by omega), decide_eq_true (show dr.its.length < 6 by omega)]
             rfl)
          | (rw [← hl, c_11, decide_eq_true (show 0 < dr.k by omega), decide_eq_false (show ¬ dr.its.length < 6 by omega)]
             rfl)
          | (rw [← hl, c_11]
             cases decide (0 < dr.k) <;> rfl)
          | (rw [decide_eq_false (show ¬ 0 < dr.k by omega)]
             rfl)
      · skip
        refine nv_iconst hX (m := 1) (by decide) dX4_canAdd_26 ?_
        refine rv_goto hX 31 dX4_canAdd_27 (by decide) ?_
        refine mv_retz hX hE (b := true) rfl dX4_canAdd_31 ?_
        unfold wDr.can
        refine ⟨rfl, ?_⟩
        first
          | (rw [← hl, c_11, decide_eq_true (show 0 < dr.k by omega), decide_eq_true (show dr.its.length < 6 by omega)]
             rfl)
          | (rw [← hl, c_11, decide_eq_true (show 0 < dr.k by omega), decide_eq_false (show ¬ dr.its.length < 6 by omega)]
             rfl)
          | (rw [← hl, c_11]
             cases decide (0 < dr.k) <;> rfl)
          | (rw [decide_eq_false (show ¬ 0 < dr.k by omega)]
             rfl)
theorem m_addItem {G : rv_G} (hG : rv_GK G) {d : Nat} {σ : rv_S} {S : List Nat} {dr : wDr} {kind what : Nat} (h : mDraft σ S dr) (hk : dr.k ≠ 0) (hl : dr.its.length < 6) : mC G d yX4_addItem wX4_addItem [.int (nI kind), .int (nI what)] σ (mPv (fun τ => mDraft τ S (dr.addI kind what) ∧ mAgr σ τ ∧ rv_same [24] [6, 7, 8] σ τ)) := by
  refine mv_start hG (by decide +kernel) (Nat.le_of_ble_eq_true rfl) (fun X Hb o hX1 hX hE => ?_)
  subst hX1
  show rv_V X (rv_mh Hb o _) 0 [some (.ref o), some (.int (nI kind)), some (.int (nI what))] []
  obtain ⟨m1, m2, m3, m4, m5, m6⟩ := h
  obtain ⟨h1, h2, h3, h4, h5, h6, h7⟩ := m6 hk
  have e1 : (rv_sU σ 7 (96 + dr.its.length) (nI kind)).2.1 6 16 = nI dr.its.length := by rw [rv_sU_2, if_neg (fun q => absurd q.1 (by decide))]; exact h3
  have e2 : (rv_sU (rv_sU σ 7 (96 + dr.its.length) (nI kind)) 8 (96 + dr.its.length) (nI what)).2.1 6 16 = nI dr.its.length := by rw [rv_sU_2, if_neg (fun q => absurd q.1 (by decide))]; exact e1
  refine rv_aload_n hX dX4_addItem_0 rfl ?_
  refine mv_ga hX (k := 7) (j := 7) gX4_28_X4 (by decide) rfl (by decide) dX4_addItem_1 ?_
  refine nv_bipush hX (m := 96) (by decide) dX4_addItem_4 ?_
  refine rv_aload_n hX dX4_addItem_6 rfl ?_
  refine mv_ga hX (k := 6) (j := 6) gX4_25_X4 (by decide) rfl (by decide) dX4_addItem_7 ?_
  refine nv_bipush hX (m := 16) (by decide) dX4_addItem_10 ?_
  refine mv_ld hX (j := 6) (by decide) (by decide) rfl (by decide) (show _ < 17 by omega) dX4_addItem_12 ?_
  rw [h3]
  first | refine nv_iadd hX dX4_addItem_13 ?_ | refine rv_iadd hX dX4_addItem_13 ?_
  refine rv_iload_n hX dX4_addItem_14 rfl ?_
  refine mv_st hX (j := 7) (by decide) (by decide) rfl (by decide) (show _ < 102 by omega) dX4_addItem_15 ?_
  refine rv_aload_n hX dX4_addItem_16 rfl ?_
  refine mv_ga hX (k := 8) (j := 8) gX4_31_X4 (by decide) rfl (by decide) dX4_addItem_17 ?_
  refine nv_bipush hX (m := 96) (by decide) dX4_addItem_20 ?_
  refine rv_aload_n hX dX4_addItem_22 rfl ?_
  refine mv_ga hX (k := 6) (j := 6) gX4_25_X4 (by decide) rfl (by decide) dX4_addItem_23 ?_
  refine nv_bipush hX (m := 16) (by decide) dX4_addItem_26 ?_
  refine mv_ld hX (j := 6) (by decide) (by decide) rfl (by decide) (show _ < 17 by omega) dX4_addItem_28 ?_
  rw [e1]
  first | refine nv_iadd hX dX4_addItem_29 ?_ | refine rv_iadd hX dX4_addItem_29 ?_
  refine rv_iload_n hX dX4_addItem_30 rfl ?_
  refine mv_st hX (j := 8) (by decide) (by decide) rfl (by decide) (show _ < 102 by omega) dX4_addItem_31 ?_
  refine rv_aload_n hX dX4_addItem_32 rfl ?_
  refine mv_ga hX (k := 6) (j := 6) gX4_25_X4 (by decide) rfl (by decide) dX4_addItem_33 ?_
  refine nv_bipush hX (m := 16) (by decide) dX4_addItem_36 ?_
  refine rv_dup2 hX dX4_addItem_38 rfl rfl ?_
  refine mv_ld hX (j := 6) (by decide) (by decide) rfl (by decide) (show _ < 17 by omega) dX4_addItem_39 ?_
  rw [e2]
  refine nv_iconst hX (m := 1) (by decide) dX4_addItem_40 ?_
  first | refine nv_iadd hX dX4_addItem_41 ?_ | refine rv_iadd hX dX4_addItem_41 ?_
  refine mv_st hX (j := 6) (by decide) (by decide) rfl (by decide) (show _ < 17 by omega) dX4_addItem_42 ?_
  refine rv_aload_n hX dX4_addItem_43 rfl ?_
  refine nv_iconst hX (m := 0) (by decide) dX4_addItem_44 ?_
  refine mv_pi hX (k := 24) pX4_296_X4 (by decide) rfl rfl rfl dX4_addItem_45 ?_
  refine mv_retv hX hE dX4_addItem_48 ?_
  have hs : rv_same [24] [6, 7, 8] σ (rv_sF (rv_sU (rv_sU (rv_sU σ 7 (96 + dr.its.length) (nI kind)) 8 (96 + dr.its.length) (nI what)) 6 16 (nI (dr.its.length + 1))) 24 (nI 0)) := (((rv_same.u (by decide)).tr (.u (by decide))).tr (.u (by decide))).tr (.f (by decide))
  have g6 : ∀ j, (rv_sF (rv_sU (rv_sU (rv_sU σ 7 (96 + dr.its.length) (nI kind)) 8 (96 + dr.its.length) (nI what)) 6 16 (nI (dr.its.length + 1))) 24 (nI 0)).2.1 6 j = if j = 16 then nI (dr.its.length + 1) else σ.2.1 6 j := fun j => by
    show (rv_sU _ 6 16 _).2.1 6 j = _
    rw [rv_sU_2]
    by_cases q : j = 16
    · rw [if_pos ⟨rfl, q⟩, if_pos q]
    · rw [if_neg (fun q2 => q q2.2), if_neg q, rv_sU_2, if_neg (fun q => absurd q.1 (by decide)), rv_sU_2, if_neg (fun q => absurd q.1 (by decide))]
  have g7 : ∀ j, (rv_sF (rv_sU (rv_sU (rv_sU σ 7 (96 + dr.its.length) (nI kind)) 8 (96 + dr.its.length) (nI what)) 6 16 (nI (dr.its.length + 1))) 24 (nI 0)).2.1 7 j = if j = 96 + dr.its.length then nI kind else σ.2.1 7 j := fun j => by
    show (rv_sU _ 6 16 _).2.1 7 j = _
    rw [rv_sU_2, if_neg (fun q => absurd q.1 (by decide)), rv_sU_2, if_neg (fun q => absurd q.1 (by decide)), rv_sU_2]
    by_cases q : j = 96 + dr.its.length
    · rw [if_pos ⟨rfl, q⟩, if_pos q]
    · rw [if_neg (fun q2 => q q2.2), if_neg q]
  have g8 : ∀ j, (rv_sF (rv_sU (rv_sU (rv_sU σ 7 (96 + dr.its.length) (nI kind)) 8 (96 + dr.its.length) (nI what)) 6 16 (nI (dr.its.length + 1))) 24 (nI 0)).2.1 8 j = if j = 96 + dr.its.length then nI what else σ.2.1 8 j := fun j => by
    show (rv_sU _ 6 16 _).2.1 8 j = _
    rw [rv_sU_2, if_neg (fun q => absurd q.1 (by decide)), rv_sU_2]
    by_cases q : j = 96 + dr.its.length
    · rw [if_pos ⟨rfl, q⟩, if_pos q]
    · rw [if_neg (fun q2 => q q2.2), if_neg q, rv_sU_2, if_neg (fun q => absurd q.1 (by decide))]
  have g24 : (rv_sF (rv_sU (rv_sU (rv_sU σ 7 (96 + dr.its.length) (nI kind)) 8 (96 + dr.its.length) (nI what)) 6 16 (nI (dr.its.length + 1))) 24 (nI 0)).1 24 = nI 0 := rfl
  generalize rv_sF (rv_sU (rv_sU (rv_sU σ 7 (96 + dr.its.length) (nI kind)) 8 (96 + dr.its.length) (nI what)) 6 16 (nI (dr.its.length + 1))) 24 (nI 0) = τ at hs g6 g7 g8 g24
  refine ⟨⟨by rw [hs.1 23 (by decide)]; exact m1, m2, by rw [hs.2.1 10 (by decide)]; exact m3, by rw [hs.2.1 11 (by decide)]; exact m4, by rw [hs.2.1 12 (by decide)]; exact m5, fun _ => ⟨by rw [hs.2.1 4 (by decide)]; exact h1, h2, ?_, ?_, ?_, fun k hk3 => by rw [hs.2.1 5 (by decide)]; exact h6 k hk3, fun i x hx => ?_⟩⟩, mAgr.of hs (fun e he hj i hi => ?_), hs⟩
  · rw [g6]
    show _ = nI (dr.its ++ [(kind, what, [])]).length
    rw [List.length_append]
    rfl
  · show (dr.its ++ [(kind, what, [])]).length ≤ 6
    rw [List.length_append]
    exact hl
  · rw [g24]
    congr 1
    show _ = match (dr.its ++ [(kind, what, [])]).getLast? with
      | none => dr.hts.length
      | some it => it.2.2.length
    rw [List.getLast?_concat]
    rfl
  · have hx' : (dr.its ++ [(kind, what, [])])[i]? = some x := hx
    by_cases q : i = dr.its.length
    · rw [q, List.getElem?_append_right (Nat.le_refl _), Nat.sub_self] at hx'
      cases hx'
      exact ⟨by rw [g7, if_pos (by omega)], by rw [g8, if_pos (by omega)], fun k t e => by cases e⟩
    · have hi1 : i < dr.its.length := by
        have hk9 := (List.getElem?_eq_some_iff.mp hx').1
        rw [List.length_append] at hk9
        have hk8 : i < dr.its.length + 1 := hk9
        omega
      rw [List.getElem?_append_left hi1] at hx'
      obtain ⟨i1, i2, i3⟩ := h7 i x hx'
      exact ⟨by rw [g7, if_neg (by omega)]; exact i1, by rw [g8, if_neg (by omega)]; exact i2, fun k t e => by rw [hs.2.1 9 (by decide)]; exact i3 k t e⟩
  · have : e = (6, 16) ∨ e = (7, 96) ∨ e = (8, 96) := by
      clear hi
      revert hj
      revert he
      revert e
      decide
    rcases this with rfl | rfl | rfl
    · rw [g6, if_neg (by have : i < 16 := hi; omega)]
    · rw [g7, if_neg (by have : i < 96 := hi; omega)]
    · rw [g8, if_neg (by have : i < 96 := hi; omega)]
