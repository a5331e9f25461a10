/-! THE REFERENCE: leaves -/
set_option maxRecDepth 100000
theorem m_in {G : rv_G} (hG : rv_GK G) {d : Nat} {v a b : Int32} : sC G d yX4_in wX4_in [.int v, .int a, .int b] (sPz (fun r => r = true ↔ (a ≤ v ∧ v ≤ b))) := by
  refine sv_start hG (by decide +kernel) (Nat.le_of_ble_eq_true rfl) (fun X h hX1 hX hE => ?_)
  subst hX1
  show rv_V X h 0 [some (.int v), some (.int a), some (.int b)] []
  refine rv_iload_n hX dX4_in_0 rfl ?_
  refine rv_iload_n hX dX4_in_1 rfl ?_
  first | refine nv_icmp_lt hX 14 (by omega) (by omega) dX4_in_2 (by decide) (fun c_2 => ?_) (fun c_2 => ?_) | refine rv_icmp_lt hX 14 dX4_in_2 (by decide) (fun c_2 => ?_) (fun c_2 => ?_)
  · skip
    refine nv_iconst hX (m := 0) (by decide) dX4_in_14 ?_
    refine sv_retz hX hE (b := false) rfl dX4_in_15 ?_
    first
    | exact ⟨fun _ => ⟨Int32.not_lt.mp c_2, Int32.not_lt.mp c_7⟩, fun _ => rfl⟩
    | exact ⟨fun h => (by cases h), fun h => absurd c_7 (Int32.not_lt.mpr h.2)⟩
    | exact ⟨fun h => (by cases h), fun h => absurd c_2 (Int32.not_lt.mpr h.1)⟩
  · skip
    refine rv_iload_n hX dX4_in_5 rfl ?_
    refine rv_iload_n hX dX4_in_6 rfl ?_
    first | refine nv_icmp_gt hX 14 (by omega) (by omega) dX4_in_7 (by decide) (fun c_7 => ?_) (fun c_7 => ?_) | refine rv_icmp_gt hX 14 dX4_in_7 (by decide) (fun c_7 => ?_) (fun c_7 => ?_)
    · skip
      refine nv_iconst hX (m := 0) (by decide) dX4_in_14 ?_
      refine sv_retz hX hE (b := false) rfl dX4_in_15 ?_
      first
      | exact ⟨fun _ => ⟨Int32.not_lt.mp c_2, Int32.not_lt.mp c_7⟩, fun _ => rfl⟩
      | exact ⟨fun h => (by cases h), fun h => absurd c_7 (Int32.not_lt.mpr h.2)⟩
      | exact ⟨fun h => (by cases h), fun h => absurd c_2 (Int32.not_lt.mpr h.1)⟩
    · skip
      refine nv_iconst hX (m := 1) (by decide) dX4_in_10 ?_
      refine rv_goto hX 15 dX4_in_11 (by decide) ?_
      refine sv_retz hX hE (b := true) rfl dX4_in_15 ?_
      first
      | exact ⟨fun _ => ⟨Int32.not_lt.mp c_2, Int32.not_lt.mp c_7⟩, fun _ => rfl⟩
      | exact ⟨fun h => (by cases h), fun h => absurd c_7 (Int32.not_lt.mpr h.2)⟩
      | exact ⟨fun h => (by cases h), fun h => absurd c_2 (Int32.not_lt.mpr h.1)⟩
theorem m_slotOf {G : rv_G} (hG : rv_GK G) {d : Nat} {f s : Nat} (hf : f < 8000000) (hs : s < 3) : sC G d yX4_slotOf wX4_slotOf [.int (nI f), .int (nI s)] (sPi (fun r => r = nI (sp_slot f s))) := by
  refine sv_start hG (by decide +kernel) (Nat.le_of_ble_eq_true rfl) (fun X h hX1 hX hE => ?_)
  subst hX1
  show rv_V X h 0 [some (.int (nI f)), some (.int (nI s))] []
  refine rv_iload_n hX dX4_slotOf_0 rfl ?_
  first | refine zv_if_ne hX 15 dX4_slotOf_1 (by decide) (fun c_1 => ?_) (fun c_1 => ?_) | refine nv_if_ne hX 15 (by omega) dX4_slotOf_1 (by decide) (fun c_1 => ?_) (fun c_1 => ?_) | refine rv_if_ne hX 15 dX4_slotOf_1 (by decide) (fun c_1 => ?_) (fun c_1 => ?_)
  · skip
    refine rv_iload_n hX dX4_slotOf_15 rfl ?_
    refine nv_iconst hX (m := 1) (by decide) dX4_slotOf_16 ?_
    first | refine nv_icmp_ne hX 30 (by omega) (by omega) dX4_slotOf_17 (by decide) (fun c_17 => ?_) (fun c_17 => ?_) | refine rv_icmp_ne hX 30 dX4_slotOf_17 (by decide) (fun c_17 => ?_) (fun c_17 => ?_)
    · skip
      refine rv_iload_n hX dX4_slotOf_30 rfl ?_
      refine nv_bipush hX (m := 100) (by decide) dX4_slotOf_31 ?_
      first | refine nv_irem hX (by omega) (by omega) (by omega) dX4_slotOf_33 ?_ | refine rv_irem hX dX4_slotOf_33 (by decide) ?_
      refine sv_reti hX hE dX4_slotOf_34 ?_
      unfold sp_slot
      first
        | (rw [if_pos (by omega)])
        | (rw [if_neg (by omega), if_pos (by omega)])
        | (rw [if_neg (by omega), if_neg (by omega)])
    · skip
      refine rv_iload_n hX dX4_slotOf_20 rfl ?_
      refine nv_bipush hX (m := 100) (by decide) dX4_slotOf_21 ?_
      first | refine nv_idiv hX (by omega) (by omega) (by omega) dX4_slotOf_23 ?_ | refine rv_idiv hX dX4_slotOf_23 (by decide) ?_
      refine nv_bipush hX (m := 100) (by decide) dX4_slotOf_24 ?_
      first | refine nv_irem hX (by omega) (by omega) (by omega) dX4_slotOf_26 ?_ | refine rv_irem hX dX4_slotOf_26 (by decide) ?_
      refine rv_goto hX 34 dX4_slotOf_27 (by decide) ?_
      refine sv_reti hX hE dX4_slotOf_34 ?_
      unfold sp_slot
      first
        | (rw [if_pos (by omega)])
        | (rw [if_neg (by omega), if_pos (by omega)])
        | (rw [if_neg (by omega), if_neg (by omega)])
  · skip
    refine rv_iload_n hX dX4_slotOf_4 rfl ?_
    refine nv_sipush hX (m := 10000) (by decide) dX4_slotOf_5 ?_
    first | refine nv_idiv hX (by omega) (by omega) (by omega) dX4_slotOf_8 ?_ | refine rv_idiv hX dX4_slotOf_8 (by decide) ?_
    refine nv_bipush hX (m := 100) (by decide) dX4_slotOf_9 ?_
    first | refine nv_irem hX (by omega) (by omega) (by omega) dX4_slotOf_11 ?_ | refine rv_irem hX dX4_slotOf_11 (by decide) ?_
    refine rv_goto hX 34 dX4_slotOf_12 (by decide) ?_
    refine sv_reti hX hE dX4_slotOf_34 ?_
    unfold sp_slot
    first
      | (rw [if_pos (by omega)])
      | (rw [if_neg (by omega), if_pos (by omega)])
      | (rw [if_neg (by omega), if_neg (by omega)])
theorem m_weight {G : rv_G} (hG : rv_GK G) {d : Nat} {s : Nat} (hs : s < 3) : sC G d yX4_weight wX4_weight [.int (nI s)] (sPi (fun r => r = nI (sp_wt s))) := by
  refine sv_start hG (by decide +kernel) (Nat.le_of_ble_eq_true rfl) (fun X h hX1 hX hE => ?_)
  subst hX1
  show rv_V X h 0 [some (.int (nI s))] []
  refine rv_iload_n hX dX4_weight_0 rfl ?_
  first | refine zv_if_ne hX 10 dX4_weight_1 (by decide) (fun c_1 => ?_) (fun c_1 => ?_) | refine nv_if_ne hX 10 (by omega) dX4_weight_1 (by decide) (fun c_1 => ?_) (fun c_1 => ?_) | refine rv_if_ne hX 10 dX4_weight_1 (by decide) (fun c_1 => ?_) (fun c_1 => ?_)
  · skip
    refine rv_iload_n hX dX4_weight_10 rfl ?_
    refine nv_iconst hX (m := 1) (by decide) dX4_weight_11 ?_
    first | refine nv_icmp_ne hX 20 (by omega) (by omega) dX4_weight_12 (by decide) (fun c_12 => ?_) (fun c_12 => ?_) | refine rv_icmp_ne hX 20 dX4_weight_12 (by decide) (fun c_12 => ?_) (fun c_12 => ?_)
    · skip
      refine nv_iconst hX (m := 1) (by decide) dX4_weight_20 ?_
      refine sv_reti hX hE dX4_weight_21 ?_
      unfold sp_wt
      first
        | (rw [if_pos (by omega)])
        | (rw [if_neg (by omega), if_pos (by omega)])
        | (rw [if_neg (by omega), if_neg (by omega)])
    · skip
      refine nv_bipush hX (m := 100) (by decide) dX4_weight_15 ?_
      refine rv_goto hX 21 dX4_weight_17 (by decide) ?_
      refine sv_reti hX hE dX4_weight_21 ?_
      unfold sp_wt
      first
        | (rw [if_pos (by omega)])
        | (rw [if_neg (by omega), if_pos (by omega)])
        | (rw [if_neg (by omega), if_neg (by omega)])
  · skip
    refine nv_sipush hX (m := 10000) (by decide) dX4_weight_4 ?_
    refine rv_goto hX 21 dX4_weight_7 (by decide) ?_
    refine sv_reti hX hE dX4_weight_21 ?_
    unfold sp_wt
    first
      | (rw [if_pos (by omega)])
      | (rw [if_neg (by omega), if_pos (by omega)])
      | (rw [if_neg (by omega), if_neg (by omega)])
theorem m_kindOf {G : rv_G} (hG : rv_GK G) {d : Nat} {σ : rv_S} {b i : Nat} (h : 6 * b + i < 102) : mC G d yX4_kindOf wX4_kindOf [.int (nI b), .int (nI i)] σ (mPi (fun r τ => τ = σ ∧ r = σ.2.1 7 (6 * b + i))) := by
  refine mv_start hG (by decide +kernel) (Nat.le_of_ble_eq_true rfl) (fun X hb o hX1 hX hE => ?_)
  subst hX1
  show rv_V X (rv_mh hb o _) 0 [some (.ref o), some (.int (nI b)), some (.int (nI i))] []
  refine rv_aload_n hX dX4_kindOf_0 rfl ?_
  refine mv_ga hX (k := 7) (j := 7) gX4_28_X4 (by decide) rfl (by decide) dX4_kindOf_1 ?_
  refine nv_bipush hX (m := 6) (by decide) dX4_kindOf_4 ?_
  refine rv_iload_n hX dX4_kindOf_6 rfl ?_
  first | refine nv_imul hX dX4_kindOf_7 ?_ | refine rv_imul hX dX4_kindOf_7 ?_
  refine rv_iload_n hX dX4_kindOf_8 rfl ?_
  first | refine nv_iadd hX dX4_kindOf_9 ?_ | refine rv_iadd hX dX4_kindOf_9 ?_
  refine mv_ld hX (j := 7) (by decide) (by decide) rfl (by decide) (show _ < 102 by omega) dX4_kindOf_10 ?_
  refine mv_reti hX hE dX4_kindOf_11 ?_
  exact ⟨rfl, rfl⟩
theorem m_whatOf {G : rv_G} (hG : rv_GK G) {d : Nat} {σ : rv_S} {b i : Nat} (h : 6 * b + i < 102) : mC G d yX4_whatOf wX4_whatOf [.int (nI b), .int (nI i)] σ (mPi (fun r τ => τ = σ ∧ r = σ.2.1 8 (6 * b + i))) := by
  refine mv_start hG (by decide +kernel) (Nat.le_of_ble_eq_true rfl) (fun X hb o hX1 hX hE => ?_)
  subst hX1
  show rv_V X (rv_mh hb o _) 0 [some (.ref o), some (.int (nI b)), some (.int (nI i))] []
  refine rv_aload_n hX dX4_whatOf_0 rfl ?_
  refine mv_ga hX (k := 8) (j := 8) gX4_31_X4 (by decide) rfl (by decide) dX4_whatOf_1 ?_
  refine nv_bipush hX (m := 6) (by decide) dX4_whatOf_4 ?_
  refine rv_iload_n hX dX4_whatOf_6 rfl ?_
  first | refine nv_imul hX dX4_whatOf_7 ?_ | refine rv_imul hX dX4_whatOf_7 ?_
  refine rv_iload_n hX dX4_whatOf_8 rfl ?_
  first | refine nv_iadd hX dX4_whatOf_9 ?_ | refine rv_iadd hX dX4_whatOf_9 ?_
  refine mv_ld hX (j := 8) (by decide) (by decide) rfl (by decide) (show _ < 102 by omega) dX4_whatOf_10 ?_
  refine mv_reti hX hE dX4_whatOf_11 ?_
  exact ⟨rfl, rfl⟩
theorem m_termOf {G : rv_G} (hG : rv_GK G) {d : Nat} {σ : rv_S} {b i k : Nat} (h : 3 * (6 * b + i) + k < 306) : mC G d yX4_termOf wX4_termOf [.int (nI b), .int (nI i), .int (nI k)] σ (mPi (fun r τ => τ = σ ∧ r = σ.2.1 9 (3 * (6 * b + i) + k))) := by
  refine mv_start hG (by decide +kernel) (Nat.le_of_ble_eq_true rfl) (fun X hb o hX1 hX hE => ?_)
  subst hX1
  show rv_V X (rv_mh hb o _) 0 [some (.ref o), some (.int (nI b)), some (.int (nI i)), some (.int (nI k))] []
  refine rv_aload_n hX dX4_termOf_0 rfl ?_
  refine mv_ga hX (k := 9) (j := 9) gX4_34_X4 (by decide) rfl (by decide) dX4_termOf_1 ?_
  refine nv_iconst hX (m := 3) (by decide) dX4_termOf_4 ?_
  refine nv_bipush hX (m := 6) (by decide) dX4_termOf_5 ?_
  refine rv_iload_n hX dX4_termOf_7 rfl ?_
  first | refine nv_imul hX dX4_termOf_8 ?_ | refine rv_imul hX dX4_termOf_8 ?_
  refine rv_iload_n hX dX4_termOf_9 rfl ?_
  first | refine nv_iadd hX dX4_termOf_10 ?_ | refine rv_iadd hX dX4_termOf_10 ?_
  first | refine nv_imul hX dX4_termOf_11 ?_ | refine rv_imul hX dX4_termOf_11 ?_
  refine rv_iload_n hX dX4_termOf_12 rfl ?_
  first | refine nv_iadd hX dX4_termOf_13 ?_ | refine rv_iadd hX dX4_termOf_13 ?_
  refine mv_ld hX (j := 9) (by decide) (by decide) rfl (by decide) (show _ < 306 by omega) dX4_termOf_14 ?_
  refine mv_reti hX hE dX4_termOf_15 ?_
  exact ⟨rfl, rfl⟩
theorem m_termsOf {G : rv_G} (hG : rv_GK G) {d : Nat} (hd : 1 ≤ d) {σ : rv_S} {S : List Nat} {b i : Nat} {it : sp_I} (h : 6 * b + i < 102) (hS : mRel σ S) (hi : mItem σ b i it) (hw : sp_wfI S it) : mC G d yX4_termsOf wX4_termsOf [.int (nI b), .int (nI i)] σ (mPi (fun r τ => τ = σ ∧ r = nI it.2.2.length)) := by
  refine mv_start hG (by decide +kernel) (Nat.le_of_ble_eq_true rfl) (fun X hb o hX1 hX hE => ?_)
  subst hX1
  show rv_V X (rv_mh hb o _) 0 [some (.ref o), some (.int (nI b)), some (.int (nI i)), none] []
  obtain ⟨w1, w2, w3, w4, w5⟩ := hw
  refine rv_aload_n hX dX4_termsOf_0 rfl ?_
  refine rv_iload_n hX dX4_termsOf_1 rfl ?_
  refine rv_iload_n hX dX4_termsOf_2 rfl ?_
  refine mv_calli hX iX4_148 rfl mdX4_kindOf (m_kindOf hG (d := d - 1) h) (by omega) rfl rfl (Nat.le_of_ble_eq_true rfl) dX4_termsOf_3 (fun r_3 τ_3 h_3 => ?_)
  obtain ⟨rfl, rfl⟩ := h_3
  rw [hi.1]
  refine rv_istore_n hX dX4_termsOf_6 (rv_st_3 rfl) ?_
  refine rv_iload_n hX dX4_termsOf_7 rfl ?_
  refine nv_iconst hX (m := 2) (by decide) dX4_termsOf_8 ?_
  first | refine nv_icmp_ge hX 26 (by omega) (by omega) dX4_termsOf_9 (by decide) (fun c_9 => ?_) (fun c_9 => ?_) | refine rv_icmp_ge hX 26 dX4_termsOf_9 (by decide) (fun c_9 => ?_) (fun c_9 => ?_)
  · skip
    refine rv_iload_n hX dX4_termsOf_26 rfl ?_
    refine nv_iconst hX (m := 2) (by decide) dX4_termsOf_27 ?_
    first | refine nv_icmp_ne hX 35 (by omega) (by omega) dX4_termsOf_28 (by decide) (fun c_28 => ?_) (fun c_28 => ?_) | refine rv_icmp_ne hX 35 dX4_termsOf_28 (by decide) (fun c_28 => ?_) (fun c_28 => ?_)
    · skip
      refine nv_iconst hX (m := 3) (by decide) dX4_termsOf_35 ?_
      refine mv_reti hX hE dX4_termsOf_36 ?_
      first
      | exact ⟨rfl, rfl⟩
      | exact ⟨rfl, by rw [(w3 (by omega)).2]⟩
      | exact ⟨rfl, by rw [(w4 (by omega)).2]⟩
    · skip
      refine nv_iconst hX (m := 2) (by decide) dX4_termsOf_31 ?_
      refine rv_goto hX 36 dX4_termsOf_32 (by decide) ?_
      refine mv_reti hX hE dX4_termsOf_36 ?_
      first
      | exact ⟨rfl, rfl⟩
      | exact ⟨rfl, by rw [(w3 (by omega)).2]⟩
      | exact ⟨rfl, by rw [(w4 (by omega)).2]⟩
  · skip
    have hlt := (List.getElem?_eq_some_iff.mp (w2 (by omega))).1
    have hS8 := hS.2.1
    refine rv_aload_n hX dX4_termsOf_12 rfl ?_
    refine mv_ga hX (k := 2) (j := 2) gX4_13_X4 (by decide) rfl (by decide) dX4_termsOf_13 ?_
    refine rv_aload_n hX dX4_termsOf_16 rfl ?_
    refine rv_iload_n hX dX4_termsOf_17 rfl ?_
    refine rv_iload_n hX dX4_termsOf_18 rfl ?_
    refine mv_calli hX iX4_152 rfl mdX4_whatOf (m_whatOf hG (d := d - 1) h) (by omega) rfl rfl (Nat.le_of_ble_eq_true rfl) dX4_termsOf_19 (fun r_19 τ_19 h_19 => ?_)
    obtain ⟨rfl, rfl⟩ := h_19
    rw [hi.2.1]
    refine mv_ld hX (j := 2) (by decide) (by decide) rfl (by decide) (show _ < 8 by omega) dX4_termsOf_22 ?_
    rw [hS.2.2.2 _ _ (w2 (by omega))]
    refine rv_goto hX 36 dX4_termsOf_23 (by decide) ?_
    refine mv_reti hX hE dX4_termsOf_36 ?_
    first
    | exact ⟨rfl, rfl⟩
    | exact ⟨rfl, by rw [(w3 (by omega)).2]⟩
    | exact ⟨rfl, by rw [(w4 (by omega)).2]⟩
theorem m_valueOf {G : rv_G} (hG : rv_GK G) {d : Nat} {σ : rv_S} {v : sp_V} (hv : mVal σ v) {t : Nat} (ht : t < 108) : mC G d yX4_valueOf wX4_valueOf [.int (nI t)] σ (mPi (fun r τ => τ = σ ∧ r = rv_oi (sp_val v t))) := by
  refine mv_start hG (by decide +kernel) (Nat.le_of_ble_eq_true rfl) (fun X hb o hX1 hX hE => ?_)
  subst hX1
  show rv_V X (rv_mh hb o _) 0 [some (.ref o), some (.int (nI t))] []
  refine rv_iload_n hX dX4_valueOf_0 rfl ?_
  refine nv_bipush hX (m := 100) (by decide) dX4_valueOf_1 ?_
  first | refine nv_icmp_ge hX 10 (by omega) (by omega) dX4_valueOf_3 (by decide) (fun c_3 => ?_) (fun c_3 => ?_) | refine rv_icmp_ge hX 10 dX4_valueOf_3 (by decide) (fun c_3 => ?_) (fun c_3 => ?_)
  · skip
    refine rv_aload_n hX dX4_valueOf_10 rfl ?_
    refine mv_ga hX (k := 37) (j := 28) gX4_91_X4 (by decide) rfl (by decide) dX4_valueOf_11 ?_
    refine rv_iload_n hX dX4_valueOf_14 rfl ?_
    refine nv_bipush hX (m := 100) (by decide) dX4_valueOf_15 ?_
    first | refine nv_isub hX (by omega) dX4_valueOf_17 ?_ | refine rv_isub hX dX4_valueOf_17 ?_
    refine mv_ld hX (j := 28) (by decide) (by decide) rfl (by decide) (show _ < 8 by omega) dX4_valueOf_18 ?_
    try rw [hv.1 _ (by omega)]
    refine mv_reti hX hE dX4_valueOf_19 ?_
    unfold sp_val
    first
      | exact ⟨rfl, by rw [if_pos (by omega)]; rfl⟩
      | exact ⟨rfl, by rw [if_neg (by omega)]⟩
  · skip
    refine rv_iload_n hX dX4_valueOf_6 rfl ?_
    refine rv_goto hX 19 dX4_valueOf_7 (by decide) ?_
    try rw [hv.1 _ (by omega)]
    refine mv_reti hX hE dX4_valueOf_19 ?_
    unfold sp_val
    first
      | exact ⟨rfl, by rw [if_pos (by omega)]; rfl⟩
      | exact ⟨rfl, by rw [if_neg (by omega)]⟩
theorem m_indexOf {G : rv_G} (hG : rv_GK G) {d : Nat} {σ : rv_S} {F : List Nat} (hF : mFacts σ F) {f : Nat} (hf : f < 8000000) : mC G d yX4_indexOf wX4_indexOf [.int (nI f)] σ (mPi (fun r τ => τ = σ ∧ ((f ∉ F ∧ r = -1) ∨ ∃ k, F[k]? = some f ∧ r = nI k))) := by
  refine mv_start hG (by decide +kernel) (Nat.le_of_ble_eq_true rfl) (fun X hb o hX1 hX hE => ?_)
  subst hX1
  show rv_V X (rv_mh hb o _) 0 [some (.ref o), some (.int (nI f)), none, none] []
  obtain ⟨h6, hlen, hbd, hel⟩ := hF
  have loop : ∀ (n k : Nat) (r : Int32), k ≤ F.length → F.length - k < n → ((f ∉ F.take k ∧ r = -1) ∨ ∃ k, F[k]? = some f ∧ r = nI k) → rv_V X (rv_mh hb o σ) 4 [some (.ref o), some (.int (nI f)), some (.int r), some (.int (nI k))] [] := by
    intro n
    induction n with
    | zero => intro k r h1 h2; omega
    | succ n ih =>
      intro k r hk hn hr
      refine rv_iload_n hX dX4_indexOf_4 rfl ?_
      refine rv_aload_n hX dX4_indexOf_5 rfl ?_
      refine mv_ga hX (k := 1) (j := 1) gX4_7_X4 (by decide) rfl (by decide) dX4_indexOf_6 ?_
      refine nv_bipush hX (m := 6) (by decide) dX4_indexOf_9 ?_
      refine mv_ld hX (j := 1) (by decide) (by decide) rfl (by decide) (show _ < 11 by omega) dX4_indexOf_11 ?_
      rw [h6]
      first | refine nv_icmp_ge hX 37 (by omega) (by omega) dX4_indexOf_12 (by decide) (fun c_12 => ?_) (fun c_12 => ?_) | refine rv_icmp_ge hX 37 dX4_indexOf_12 (by decide) (fun c_12 => ?_) (fun c_12 => ?_)
      · skip
        have hkl : k = F.length := by omega
        refine rv_iload_n hX dX4_indexOf_37 rfl ?_
        refine mv_reti hX hE dX4_indexOf_38 ?_
        refine ⟨rfl, ?_⟩
        rw [hkl, List.take_length] at hr
        exact hr
      · skip
        obtain ⟨g, hg⟩ : ∃ g, F[k]? = some g := ⟨F[k], List.getElem?_eq_getElem (by omega)⟩
        have hgb := hbd g (List.mem_of_getElem? hg)
        refine rv_aload_n hX dX4_indexOf_15 rfl ?_
        refine mv_ga hX (k := 15) (j := 15) gX4_52_X4 (by decide) rfl (by decide) dX4_indexOf_16 ?_
        refine rv_iload_n hX dX4_indexOf_19 rfl ?_
        refine mv_ld hX (j := 15) (by decide) (by decide) rfl (by decide) (show _ < 62 by omega) dX4_indexOf_20 ?_
        rw [hel k g hg]
        refine rv_iload_n hX dX4_indexOf_21 rfl ?_
        first | refine nv_icmp_ne hX 29 (by omega) (by omega) dX4_indexOf_22 (by decide) (fun c_22 => ?_) (fun c_22 => ?_) | refine rv_icmp_ne hX 29 dX4_indexOf_22 (by decide) (fun c_22 => ?_) (fun c_22 => ?_)
        · skip
          have hne : g ≠ f := c_22
          refine rv_iload_n hX dX4_indexOf_29 rfl ?_
          refine rv_istore_n hX dX4_indexOf_30 (rv_st_2 rfl) ?_
          first | refine nv_iinc hX (m := 1) dX4_indexOf_31 rfl (by decide) (rv_st_3 rfl) ?_ | refine rv_iinc hX dX4_indexOf_31 rfl rfl (rv_st_3 rfl) ?_
          refine rv_goto hX 4 dX4_indexOf_34 (by decide) ?_
          refine ih (k + 1) _ (by omega) (by omega) ?_
          first
            | exact Or.inr ⟨k, by rw [hg, hge], rfl⟩
            | (rcases hr with ⟨h1, h2⟩ | h1
               · refine Or.inl ⟨?_, h2⟩
                 rw [List.take_add_one, hg]
                 simp only [List.mem_append, Option.toList_some, List.mem_singleton, not_or]
                 exact ⟨h1, fun e => hne e.symm⟩
               · exact Or.inr h1)
        · skip
          have hge : g = f := c_22
          refine rv_iload_n hX dX4_indexOf_25 rfl ?_
          refine rv_goto hX 30 dX4_indexOf_26 (by decide) ?_
          refine rv_istore_n hX dX4_indexOf_30 (rv_st_2 rfl) ?_
          first | refine nv_iinc hX (m := 1) dX4_indexOf_31 rfl (by decide) (rv_st_3 rfl) ?_ | refine rv_iinc hX dX4_indexOf_31 rfl rfl (rv_st_3 rfl) ?_
          refine rv_goto hX 4 dX4_indexOf_34 (by decide) ?_
          refine ih (k + 1) _ (by omega) (by omega) ?_
          first
            | exact Or.inr ⟨k, by rw [hg, hge], rfl⟩
            | (rcases hr with ⟨h1, h2⟩ | h1
               · refine Or.inl ⟨?_, h2⟩
                 rw [List.take_add_one, hg]
                 simp only [List.mem_append, Option.toList_some, List.mem_singleton, not_or]
                 exact ⟨h1, fun e => hne e.symm⟩
               · exact Or.inr h1)
  refine rv_iconst hX (v := -1) dX4_indexOf_0 (by decide) ?_
  refine rv_istore_n hX dX4_indexOf_1 (rv_st_2 rfl) ?_
  refine nv_iconst hX (m := 0) (by decide) dX4_indexOf_2 ?_
  refine rv_istore_n hX dX4_indexOf_3 (rv_st_3 rfl) ?_
  exact loop (F.length + 1) 0 (-1) (Nat.zero_le _) (by omega) (Or.inl ⟨by simp, rfl⟩)
theorem m_isRelation {G : rv_G} (hG : rv_GK G) {d : Nat} (hd : 1 ≤ d) {σ : rv_S} {S : List Nat} (hS : mRel σ S) {r : Int32} : mC G d yX4_isRelation wX4_isRelation [.int r] σ (mPz (fun b τ => τ = σ ∧ (b = true ↔ ∃ k, k < S.length ∧ r = nI k))) := by
  refine mv_start hG (by decide +kernel) (Nat.le_of_ble_eq_true rfl) (fun X hb o hX1 hX hE => ?_)
  subst hX1
  show rv_V X (rv_mh hb o _) 0 [some (.ref o), some (.int r)] []
  refine rv_iload_n hX dX4_isRelation_0 rfl ?_
  refine nv_iconst hX (m := 0) (by decide) dX4_isRelation_1 ?_
  refine rv_aload_n hX dX4_isRelation_2 rfl ?_
  refine mv_ga hX (k := 1) (j := 1) gX4_7_X4 (by decide) rfl (by decide) dX4_isRelation_3 ?_
  refine nv_iconst hX (m := 0) (by decide) dX4_isRelation_6 ?_
  refine mv_ld hX (j := 1) (by decide) (by decide) rfl (by decide) (show _ < 11 by omega) dX4_isRelation_7 ?_
  rw [hS.1]
  refine nv_iconst hX (m := 1) (by decide) dX4_isRelation_8 ?_
  first | refine nv_isub hX (by omega) dX4_isRelation_9 ?_ | refine rv_isub hX dX4_isRelation_9 ?_
  refine sv_callz hX iX4_135 mdX4_in (m_in hG (d := d - 1)) (by omega) rfl rfl (Nat.le_of_ble_eq_true rfl) dX4_isRelation_10 (fun r_10 h_10 => ?_)
  have hbb := h_10
  refine mv_retz hX hE rfl dX4_isRelation_13 ?_
  refine ⟨rfl, hbb.trans ?_⟩
  have hS8 := hS.2.1
  have e : nI S.length - nI 1 = Int32.ofInt (S.length - 1 : Int) := by
    rcases Nat.eq_zero_or_pos S.length with h0 | h0
    · rw [h0]; decide
    · rw [pk_sub h0]
      show Int32.ofNat _ = _
      rw [show ((S.length : Int) - 1) = ((S.length - 1 : Nat) : Int) by omega]
      rfl
  constructor
  · rintro ⟨h1, h2⟩
    obtain ⟨k, hk, rfl⟩ := nI_of (x := r) (by intro h3; exact absurd h1 (Int32.not_le.mpr h3))
    rcases Nat.eq_zero_or_pos S.length with h0 | h0
    · rw [h0] at h2
      have h3 : nI k ≤ (-1 : Int32) := h2
      rw [Int32.le_iff_toInt_le, nI_toInt hk] at h3
      have h4 : (-1 : Int32).toInt = -1 := by decide
      omega
    · rw [pk_sub h0] at h2
      have := (nI_leI hk (by omega)).mp h2
      exact ⟨k, by omega, rfl⟩
  · rintro ⟨k, hk, rfl⟩
    refine ⟨nI_le (Nat.zero_le k) (by omega), ?_⟩
    rw [pk_sub (by omega)]
    exact nI_le (by omega) (by omega)
theorem m_forget {G : rv_G} (hG : rv_GK G) {d : Nat} {σ : rv_S} : mC G d yX4_forget wX4_forget [] σ (mPv (fun τ => mVal τ (fun _ => none) ∧ mKb τ (fun _ => none) ∧ rv_same [] [28, 29] σ τ)) := by
  refine mv_start hG (by decide +kernel) (Nat.le_of_ble_eq_true rfl) (fun X hb o hX1 hX hE => ?_)
  subst hX1
  show rv_V X (rv_mh hb o _) 0 [some (.ref o), none] []
  have loop : ∀ (n k : Nat) (τ : rv_S), k ≤ 8 → 8 - k < n → (∀ x, x < k → τ.2.1 28 x = -1 ∧ τ.2.1 29 x = -1) → rv_same [] [28, 29] σ τ → rv_V X (rv_mh hb o τ) 2 [some (.ref o), some (.int (nI k))] [] := by
    intro n
    induction n with
    | zero => intro k τ h1 h2; omega
    | succ n ih =>
      intro k τ hk hn hx hs
      refine rv_iload_n hX dX4_forget_2 rfl ?_
      refine nv_bipush hX (m := 8) (by decide) dX4_forget_3 ?_
      first | refine nv_icmp_ge hX 28 (by omega) (by omega) dX4_forget_5 (by decide) (fun c_5 => ?_) (fun c_5 => ?_) | refine rv_icmp_ge hX 28 dX4_forget_5 (by decide) (fun c_5 => ?_) (fun c_5 => ?_)
      · skip
        refine mv_retv hX hE dX4_forget_28 ?_
        exact ⟨⟨fun x h8 => (hx x (by omega)).1, fun x a h => (by cases h)⟩, ⟨fun x h8 => (hx x (by omega)).2, fun x a h => (by cases h)⟩, hs⟩
      · skip
        refine rv_aload_n hX dX4_forget_8 rfl ?_
        refine mv_ga hX (k := 37) (j := 28) gX4_91_X4 (by decide) rfl (by decide) dX4_forget_9 ?_
        refine rv_iload_n hX dX4_forget_12 rfl ?_
        refine rv_iconst hX (v := -1) dX4_forget_13 (by decide) ?_
        refine mv_st hX (j := 28) (by decide) (by decide) rfl (by decide) (show _ < 8 by omega) dX4_forget_14 ?_
        refine rv_aload_n hX dX4_forget_15 rfl ?_
        refine mv_ga hX (k := 38) (j := 29) gX4_94_X4 (by decide) rfl (by decide) dX4_forget_16 ?_
        refine rv_iload_n hX dX4_forget_19 rfl ?_
        refine rv_iconst hX (v := -1) dX4_forget_20 (by decide) ?_
        refine mv_st hX (j := 29) (by decide) (by decide) rfl (by decide) (show _ < 8 by omega) dX4_forget_21 ?_
        first | refine nv_iinc hX (m := 1) dX4_forget_22 rfl (by decide) (rv_st_1 rfl) ?_ | refine rv_iinc hX dX4_forget_22 rfl rfl (rv_st_1 rfl) ?_
        refine rv_goto hX 2 dX4_forget_25 (by decide) ?_
        refine ih (k + 1) _ (by omega) (by omega) (fun x hx1 => ?_) ((hs.tr (.u (by decide))).tr (.u (by decide)))
        have h9 := hx x
        simp only [rv_sU_2]
        constructor
        · by_cases e : x = k
          · simp [e]
          · simp [e, (h9 (by omega)).1]
        · by_cases e : x = k
          · simp [e]
          · simp [e, (h9 (by omega)).2]
  refine nv_iconst hX (m := 0) (by decide) dX4_forget_0 ?_
  refine rv_istore_n hX dX4_forget_1 (rv_st_1 rfl) ?_
  exact loop 9 0 σ (by omega) (by omega) (fun x h => absurd h (by omega)) .rf
theorem m_beginMatches {G : rv_G} (hG : rv_GK G) {d : Nat} {σ : rv_S} {b m : Int32} : mC G d yX4_beginMatches wX4_beginMatches [.int b, .int m] σ (mPv (fun τ => τ.1 31 = b ∧ τ.1 32 = m ∧ τ.1 33 = 0 ∧ τ.1 34 = 0 ∧ (∀ i, i < 6 → τ.2.1 26 i = nI i) ∧ rv_same [31, 32, 33, 34] [26] σ τ)) := by
  refine mv_start hG (by decide +kernel) (Nat.le_of_ble_eq_true rfl) (fun X hb o hX1 hX hE => ?_)
  subst hX1
  show rv_V X (rv_mh hb o _) 0 [some (.ref o), some (.int b), some (.int m), none] []
  have loop : ∀ (n k : Nat) (τ : rv_S), k ≤ 6 → 6 - k < n → (∀ x, x < k → τ.2.1 26 x = nI x) → τ.1 31 = b ∧ τ.1 32 = m ∧ τ.1 33 = 0 ∧ τ.1 34 = 0 → rv_same [31, 32, 33, 34] [26] σ τ → rv_V X (rv_mh hb o τ) 22 [some (.ref o), some (.int b), some (.int m), some (.int (nI k))] [] := by
    intro n
    induction n with
    | zero => intro k τ h1 h2; omega
    | succ n ih =>
      intro k τ hk hn hx hf hs
      refine rv_iload_n hX dX4_beginMatches_22 rfl ?_
      refine nv_bipush hX (m := 6) (by decide) dX4_beginMatches_23 ?_
      first | refine nv_icmp_ge hX 41 (by omega) (by omega) dX4_beginMatches_25 (by decide) (fun c_25 => ?_) (fun c_25 => ?_) | refine rv_icmp_ge hX 41 dX4_beginMatches_25 (by decide) (fun c_25 => ?_) (fun c_25 => ?_)
      · skip
        refine mv_retv hX hE dX4_beginMatches_41 ?_
        exact ⟨hf.1, hf.2.1, hf.2.2.1, hf.2.2.2, fun i hi => hx i (by omega), hs⟩
      · skip
        refine rv_aload_n hX dX4_beginMatches_28 rfl ?_
        refine mv_ga hX (k := 35) (j := 26) gX4_85_X4 (by decide) rfl (by decide) dX4_beginMatches_29 ?_
        refine rv_iload_n hX dX4_beginMatches_32 rfl ?_
        refine rv_iload_n hX dX4_beginMatches_33 rfl ?_
        refine mv_st hX (j := 26) (by decide) (by decide) rfl (by decide) (show _ < 6 by omega) dX4_beginMatches_34 ?_
        first | refine nv_iinc hX (m := 1) dX4_beginMatches_35 rfl (by decide) (rv_st_3 rfl) ?_ | refine rv_iinc hX dX4_beginMatches_35 rfl rfl (rv_st_3 rfl) ?_
        refine rv_goto hX 22 dX4_beginMatches_38 (by decide) ?_
        refine ih (k + 1) _ (by omega) (by omega) (fun x hx1 => ?_) hf (hs.tr (.u (by decide)))
        have h9 := hx x
        simp only [rv_sU_2]
        by_cases e : x = k
        · simp [e]
        · simp [e, h9 (by omega)]
  refine rv_aload_n hX dX4_beginMatches_0 rfl ?_
  refine rv_iload_n hX dX4_beginMatches_1 rfl ?_
  refine mv_pi hX (k := 31) pX4_155_X4 (by decide) rfl rfl rfl dX4_beginMatches_2 ?_
  refine rv_aload_n hX dX4_beginMatches_5 rfl ?_
  refine rv_iload_n hX dX4_beginMatches_6 rfl ?_
  refine mv_pi hX (k := 32) pX4_158_X4 (by decide) rfl rfl rfl dX4_beginMatches_7 ?_
  refine rv_aload_n hX dX4_beginMatches_10 rfl ?_
  refine nv_iconst hX (m := 0) (by decide) dX4_beginMatches_11 ?_
  refine mv_pi hX (k := 33) pX4_161_X4 (by decide) rfl rfl rfl dX4_beginMatches_12 ?_
  refine rv_aload_n hX dX4_beginMatches_15 rfl ?_
  refine nv_iconst hX (m := 0) (by decide) dX4_beginMatches_16 ?_
  refine mv_pi hX (k := 34) pX4_165_X4 (by decide) rfl rfl rfl dX4_beginMatches_17 ?_
  refine nv_iconst hX (m := 0) (by decide) dX4_beginMatches_20 ?_
  refine rv_istore_n hX dX4_beginMatches_21 (rv_st_3 rfl) ?_
  exact loop 7 0 _ (by omega) (by omega) (fun x h => absurd h (by omega)) ⟨rfl, rfl, rfl, rfl⟩ ((((rv_same.f (by decide)).tr (.f (by decide))).tr (.f (by decide))).tr (.f (by decide)))
/-- what a variable is known by, behind new values -/
def sp_kb (v w : sp_V) (kb : Nat → Option Nat) (p : Option Nat) : Nat → Option Nat := fun x => if v x = w x then kb x else p
def sp_le (v w : sp_V) : Prop := ∀ x, v x = none ∨ v x = w x
theorem sp_le.rf {v : sp_V} : sp_le v v := fun _ => Or.inr rfl
theorem sp_le.tr {u v w : sp_V} (h1 : sp_le u v) (h2 : sp_le v w) : sp_le u w := fun x => by
  rcases h1 x with h | h
  · exact Or.inl h
  · rcases h2 x with g | g
    · exact Or.inl (h.trans g)
    · exact Or.inr (h.trans g)
theorem sp_kb_self {v : sp_V} {kb : Nat → Option Nat} {p : Option Nat} : sp_kb v v kb p = kb := by
  funext x
  simp [sp_kb]
theorem sp_kb_tr {u v w : sp_V} {kb : Nat → Option Nat} {p : Option Nat} (h1 : sp_le u v) (h2 : sp_le v w) : sp_kb v w (sp_kb u v kb p) p = sp_kb u w kb p := by
  funext x
  unfold sp_kb
  by_cases e : v x = w x
  · rw [if_pos e, e]
  · rw [if_neg e]
    have hv : v x = none := by
      rcases h2 x with h | h
      · exact h
      · exact absurd h e
    have hu : u x = none := by
      rcases h1 x with h | h
      · exact h
      · rw [h]; exact hv
    rw [if_neg (by rw [hu, ← hv]; exact e)]
theorem sp_bind_le {v w : sp_V} {t a : Nat} (h : sp_bind v t a = some w) : sp_le v w := by
  unfold sp_bind at h
  cases hv : sp_val v t with
  | none =>
    rw [hv] at h
    cases h
    intro x
    unfold sp_up
    by_cases e : x = t - 100
    · left
      unfold sp_val at hv
      split at hv
      · cases hv
      · rw [e]; exact hv
    · right
      rw [if_neg e]
  | some b =>
    rw [hv] at h
    simp only at h
    split at h
    · cases h
      exact .rf
    · cases h
theorem sp_binds_le {f : Nat} {ts : List Nat} : ∀ {v w : sp_V} {s : Nat}, sp_binds v f ts s = some w → sp_le v w := by
  induction ts with
  | nil => intro v w s h; cases h; exact .rf
  | cons t ts ih =>
    intro v w s h
    unfold sp_binds at h
    cases hb : sp_bind v t (sp_slot f s) with
    | none => rw [hb] at h; cases h
    | some u =>
      rw [hb] at h
      exact (sp_bind_le hb).tr (ih h)
theorem m_unbind {G : rv_G} (hG : rv_GK G) {d : Nat} {σ : rv_S} {w : sp_V} {kb : Nat → Option Nat} {p : Nat} (hp : p < 6) (hw : mVal σ w) (hk : mKb σ kb) : mC G d yX4_unbind wX4_unbind [.int (nI p)] σ (mPv (fun τ => mVal τ (fun x => if kb x = some p then none else w x) ∧ mKb τ (fun x => if kb x = some p then none else kb x) ∧ rv_same [] [28, 29] σ τ)) := by
  refine mv_start hG (by decide +kernel) (Nat.le_of_ble_eq_true rfl) (fun X hb o hX1 hX hE => ?_)
  subst hX1
  show rv_V X (rv_mh hb o _) 0 [some (.ref o), some (.int (nI p)), none] []
  have loop : ∀ (n k : Nat) (τ : rv_S), k ≤ 8 → 8 - k < n → (∀ x, x < 8 → τ.2.1 28 x = rv_oi (if x < k ∧ kb x = some p then none else w x)) → (∀ x, x < 8 → τ.2.1 29 x = rv_oi (if x < k ∧ kb x = some p then none else kb x)) → rv_same [] [28, 29] σ τ → rv_V X (rv_mh hb o τ) 2 [some (.ref o), some (.int (nI p)), some (.int (nI k))] [] := by
    intro n
    induction n with
    | zero => intro k τ h1 h2; omega
    | succ n ih =>
      intro k τ hk8 hn hx hy hs
      refine rv_iload_n hX dX4_unbind_2 rfl ?_
      refine nv_bipush hX (m := 8) (by decide) dX4_unbind_3 ?_
      first | refine nv_icmp_ge hX 38 (by omega) (by omega) dX4_unbind_5 (by decide) (fun c_5 => ?_) (fun c_5 => ?_) | refine rv_icmp_ge hX 38 dX4_unbind_5 (by decide) (fun c_5 => ?_) (fun c_5 => ?_)
      · skip
        refine mv_retv hX hE dX4_unbind_38 ?_
        have hk9 : k = 8 := by omega
        subst hk9
        refine ⟨⟨fun x h8 => ?_, fun x a h => ?_⟩, ⟨fun x h8 => ?_, fun x a h => ?_⟩, hs⟩
        · rw [hx x h8]; simp [h8]
        · have h : (if kb x = some p then none else w x) = some a := h
          split at h
          · cases h
          · exact hw.2 x a h
        · rw [hy x h8]; simp [h8]
        · have h : (if kb x = some p then none else kb x) = some a := h
          split at h
          · cases h
          · exact hk.2 x a h
      · skip
        refine rv_aload_n hX dX4_unbind_8 rfl ?_
        refine mv_ga hX (k := 38) (j := 29) gX4_94_X4 (by decide) rfl (by decide) dX4_unbind_9 ?_
        refine rv_iload_n hX dX4_unbind_12 rfl ?_
        refine mv_ld hX (j := 29) (by decide) (by decide) rfl (by decide) (show _ < 8 by omega) dX4_unbind_13 ?_
        rw [hy k (by omega), if_neg (by omega)]
        refine rv_iload_n hX dX4_unbind_14 rfl ?_
        first | refine nv_icmp_ne hX 32 (by omega) (by omega) dX4_unbind_15 (by decide) (fun c_15 => ?_) (fun c_15 => ?_) | refine rv_icmp_ne hX 32 dX4_unbind_15 (by decide) (fun c_15 => ?_) (fun c_15 => ?_)
        · skip
          first | refine nv_iinc hX (m := 1) dX4_unbind_32 rfl (by decide) (rv_st_2 rfl) ?_ | refine rv_iinc hX dX4_unbind_32 rfl rfl (rv_st_2 rfl) ?_
          refine rv_goto hX 2 dX4_unbind_35 (by decide) ?_
          have hkp : kb k = some p ↔ rv_oi (kb k) = nI p := (rv_oi_inj (y := some p) (fun a h => by have := hk.2 k a h; omega) (fun a h => by cases h; omega)).symm
          refine ih (k + 1) _ (by omega) (by omega) (fun x h8 => ?_) (fun x h8 => ?_) (by first | exact (hs.tr (.u (by decide))).tr (.u (by decide)) | exact hs)
          · first
              | (have e1 : kb k = some p := hkp.mpr c_15
                 simp only [rv_sU_2]
                 by_cases e : x = k
                 · subst e; simp [e1, rv_oi]
                 · have e2 : x < k + 1 ↔ x < k := by omega
                   simp [e, hx x h8, e2])
              | (have e1 : ¬ kb k = some p := fun q => c_15 (hkp.mp q)
                 rw [hx x h8]
                 by_cases e : x = k
                 · subst e; simp [e1]
                 · have e2 : x < k + 1 ↔ x < k := by omega
                   simp [e2])
          · first
              | (have e1 : kb k = some p := hkp.mpr c_15
                 simp only [rv_sU_2]
                 by_cases e : x = k
                 · subst e; simp [e1, rv_oi]
                 · have e2 : x < k + 1 ↔ x < k := by omega
                   simp [e, hy x h8, e2])
              | (have e1 : ¬ kb k = some p := fun q => c_15 (hkp.mp q)
                 rw [hy x h8]
                 by_cases e : x = k
                 · subst e; simp [e1]
                 · have e2 : x < k + 1 ↔ x < k := by omega
                   simp [e2])
        · skip
          refine rv_aload_n hX dX4_unbind_18 rfl ?_
          refine mv_ga hX (k := 37) (j := 28) gX4_91_X4 (by decide) rfl (by decide) dX4_unbind_19 ?_
          refine rv_iload_n hX dX4_unbind_22 rfl ?_
          refine rv_iconst hX (v := -1) dX4_unbind_23 (by decide) ?_
          refine mv_st hX (j := 28) (by decide) (by decide) rfl (by decide) (show _ < 8 by omega) dX4_unbind_24 ?_
          refine rv_aload_n hX dX4_unbind_25 rfl ?_
          refine mv_ga hX (k := 38) (j := 29) gX4_94_X4 (by decide) rfl (by decide) dX4_unbind_26 ?_
          refine rv_iload_n hX dX4_unbind_29 rfl ?_
          refine rv_iconst hX (v := -1) dX4_unbind_30 (by decide) ?_
          refine mv_st hX (j := 29) (by decide) (by decide) rfl (by decide) (show _ < 8 by omega) dX4_unbind_31 ?_
          first | refine nv_iinc hX (m := 1) dX4_unbind_32 rfl (by decide) (rv_st_2 rfl) ?_ | refine rv_iinc hX dX4_unbind_32 rfl rfl (rv_st_2 rfl) ?_
          refine rv_goto hX 2 dX4_unbind_35 (by decide) ?_
          have hkp : kb k = some p ↔ rv_oi (kb k) = nI p := (rv_oi_inj (y := some p) (fun a h => by have := hk.2 k a h; omega) (fun a h => by cases h; omega)).symm
          refine ih (k + 1) _ (by omega) (by omega) (fun x h8 => ?_) (fun x h8 => ?_) (by first | exact (hs.tr (.u (by decide))).tr (.u (by decide)) | exact hs)
          · first
              | (have e1 : kb k = some p := hkp.mpr c_15
                 simp only [rv_sU_2]
                 by_cases e : x = k
                 · subst e; simp [e1, rv_oi]
                 · have e2 : x < k + 1 ↔ x < k := by omega
                   simp [e, hx x h8, e2])
              | (have e1 : ¬ kb k = some p := fun q => c_15 (hkp.mp q)
                 rw [hx x h8]
                 by_cases e : x = k
                 · subst e; simp [e1]
                 · have e2 : x < k + 1 ↔ x < k := by omega
                   simp [e2])
          · first
              | (have e1 : kb k = some p := hkp.mpr c_15
                 simp only [rv_sU_2]
                 by_cases e : x = k
                 · subst e; simp [e1, rv_oi]
                 · have e2 : x < k + 1 ↔ x < k := by omega
                   simp [e, hy x h8, e2])
              | (have e1 : ¬ kb k = some p := fun q => c_15 (hkp.mp q)
                 rw [hy x h8]
                 by_cases e : x = k
                 · subst e; simp [e1]
                 · have e2 : x < k + 1 ↔ x < k := by omega
                   simp [e2])
  refine nv_iconst hX (m := 0) (by decide) dX4_unbind_0 ?_
  refine rv_istore_n hX dX4_unbind_1 (rv_st_2 rfl) ?_
  exact loop 9 0 σ (by omega) (by omega) (fun x h => by rw [if_neg (by omega)]; exact hw.1 x h) (fun x h => by rw [if_neg (by omega)]; exact hk.1 x h) .rf
theorem m_fits {G : rv_G} (hG : rv_GK G) {d : Nat} (hd : 1 ≤ d) {σ : rv_S} {v : sp_V} {kb : Nat → Option Nat} {t a : Nat} {p : Option Nat} (hv : mVal σ v) (hk : mKb σ kb) (ht : t < 108) (ha : a < 100) (hp : ∀ q, p = some q → q < 6) : mC G d yX4_fits wX4_fits [.int (nI t), .int (nI a), .int (rv_oi p)] σ (mPz (fun b τ => (b = true ↔ (sp_bind v t a).isSome = true) ∧ mVal τ ((sp_bind v t a).getD v) ∧ mKb τ (sp_kb v ((sp_bind v t a).getD v) kb p) ∧ rv_same [] [28, 29] σ τ)) := by
  refine mv_start hG (by decide +kernel) (Nat.le_of_ble_eq_true rfl) (fun X hb o hX1 hX hE => ?_)
  subst hX1
  show rv_V X (rv_mh hb o _) 0 [some (.ref o), some (.int (nI t)), some (.int (nI a)), some (.int (rv_oi p))] []
  have hlt : ∀ b, sp_val v t = some b → b < 2147483648 := fun b h => by have := sp_val_lt hv.2 h; omega
  cases hsv : sp_val v t with
  | none =>
    have ht1 : ¬ t < 100 := fun h => by unfold sp_val at hsv; rw [if_pos h] at hsv; cases hsv
    have hvn : v (t - 100) = none := by unfold sp_val at hsv; rw [if_neg ht1] at hsv; exact hsv
    have hb : sp_bind v t a = some (sp_up v (t - 100) a) := by unfold sp_bind; rw [hsv]
    have hv2 : mVal (rv_sU (rv_sU σ 28 (t - 100) (nI a)) 29 (t - 100) (rv_oi p)) (sp_up v (t - 100) a) := by
      refine ⟨fun x h8 => ?_, fun x b h => ?_⟩
      · simp only [rv_sU_2]
        unfold sp_up
        by_cases e : x = t - 100
        · simp [e, rv_oi]
        · simp [e, hv.1 x h8]
      · unfold sp_up at h
        split at h
        · cases h; exact ha
        · exact hv.2 x b h
    have hsv2 : sp_val (sp_up v (t - 100) a) t = some a := by unfold sp_val sp_up; rw [if_neg ht1, if_pos rfl]
    rw [hb] at hE
    refine rv_aload_n hX dX4_fits_0 rfl ?_
    refine rv_iload_n hX dX4_fits_1 rfl ?_
    refine mv_calli hX iX4_168 rfl mdX4_valueOf (m_valueOf hG (d := d - 1) hv ht) (by omega) rfl rfl (Nat.le_of_ble_eq_true rfl) dX4_fits_2 (fun r_2 τ_2 h_2 => ?_)
    obtain ⟨rfl, rfl⟩ := h_2
    rw [hsv]
    refine rv_iconst hX (v := -1) dX4_fits_5 (by decide) ?_
    first | refine nv_icmp_ne hX 29 (by omega) (by omega) dX4_fits_6 (by decide) (fun c_6 => ?_) (fun c_6 => ?_) | refine rv_icmp_ne hX 29 dX4_fits_6 (by decide) (fun c_6 => ?_) (fun c_6 => ?_)
    · skip
      exact absurd rfl c_6 --done
    · skip
      refine rv_aload_n hX dX4_fits_9 rfl ?_
      refine mv_ga hX (k := 37) (j := 28) gX4_91_X4 (by decide) rfl (by decide) dX4_fits_10 ?_
      refine rv_iload_n hX dX4_fits_13 rfl ?_
      refine nv_bipush hX (m := 100) (by decide) dX4_fits_14 ?_
      first | refine nv_isub hX (by omega) dX4_fits_16 ?_ | refine rv_isub hX dX4_fits_16 ?_
      refine rv_iload_n hX dX4_fits_17 rfl ?_
      refine mv_st hX (j := 28) (by decide) (by decide) rfl (by decide) (show _ < 8 by omega) dX4_fits_18 ?_
      refine rv_aload_n hX dX4_fits_19 rfl ?_
      refine mv_ga hX (k := 38) (j := 29) gX4_94_X4 (by decide) rfl (by decide) dX4_fits_20 ?_
      refine rv_iload_n hX dX4_fits_23 rfl ?_
      refine nv_bipush hX (m := 100) (by decide) dX4_fits_24 ?_
      first | refine nv_isub hX (by omega) dX4_fits_26 ?_ | refine rv_isub hX dX4_fits_26 ?_
      refine rv_iload_n hX dX4_fits_27 rfl ?_
      refine mv_st hX (j := 29) (by decide) (by decide) rfl (by decide) (show _ < 8 by omega) dX4_fits_28 ?_
      refine rv_aload_n hX dX4_fits_29 rfl ?_
      refine rv_iload_n hX dX4_fits_30 rfl ?_
      refine mv_calli hX iX4_168 rfl mdX4_valueOf (m_valueOf hG (d := d - 1) hv2 ht) (by omega) rfl rfl (Nat.le_of_ble_eq_true rfl) dX4_fits_31 (fun r_31 τ_31 h_31 => ?_)
      obtain ⟨rfl, rfl⟩ := h_31
      rw [hsv2]
      show rv_V X _ _ _ [.int (nI a)]
      refine rv_iload_n hX dX4_fits_34 rfl ?_
      first | refine nv_icmp_ne hX 42 (by omega) (by omega) dX4_fits_35 (by decide) (fun c_35 => ?_) (fun c_35 => ?_) | refine rv_icmp_ne hX 42 dX4_fits_35 (by decide) (fun c_35 => ?_) (fun c_35 => ?_)
      · skip
        exact absurd rfl c_35 --done
      · skip
        refine nv_iconst hX (m := 1) (by decide) dX4_fits_38 ?_
        refine rv_goto hX 43 dX4_fits_39 (by decide) ?_
        refine mv_retz hX hE (b := true) rfl dX4_fits_43 ?_
        refine ⟨⟨fun _ => rfl, fun _ => rfl⟩, hv2, ⟨fun x h8 => ?_, fun x q h => ?_⟩, (rv_same.u (by decide)).tr (.u (by decide))⟩
        · simp only [rv_sU_2]
          unfold sp_kb
          by_cases e : x = t - 100
          · subst e
            simp [hvn, sp_up]
          · simp [e, sp_up, hk.1 x h8]
        · unfold sp_kb at h
          split at h
          · exact hk.2 x q h
          · exact hp q h
  | some b =>
    have hb1 := sp_val_lt hv.2 hsv
    refine rv_aload_n hX dX4_fits_0 rfl ?_
    refine rv_iload_n hX dX4_fits_1 rfl ?_
    refine mv_calli hX iX4_168 rfl mdX4_valueOf (m_valueOf hG (d := d - 1) hv ht) (by omega) rfl rfl (Nat.le_of_ble_eq_true rfl) dX4_fits_2 (fun r_2 τ_2 h_2 => ?_)
    obtain ⟨rfl, rfl⟩ := h_2
    rw [hsv]
    refine rv_iconst hX (v := -1) dX4_fits_5 (by decide) ?_
    first | refine nv_icmp_ne hX 29 (by omega) (by omega) dX4_fits_6 (by decide) (fun c_6 => ?_) (fun c_6 => ?_) | refine rv_icmp_ne hX 29 dX4_fits_6 (by decide) (fun c_6 => ?_) (fun c_6 => ?_)
    · skip
      refine rv_aload_n hX dX4_fits_29 rfl ?_
      refine rv_iload_n hX dX4_fits_30 rfl ?_
      refine mv_calli hX iX4_168 rfl mdX4_valueOf (m_valueOf hG (d := d - 1) hv ht) (by omega) rfl rfl (Nat.le_of_ble_eq_true rfl) dX4_fits_31 (fun r_31 τ_31 h_31 => ?_)
      obtain ⟨rfl, rfl⟩ := h_31
      rw [hsv]
      show rv_V X _ _ _ [.int (nI b)]
      refine rv_iload_n hX dX4_fits_34 rfl ?_
      first | refine nv_icmp_ne hX 42 (by omega) (by omega) dX4_fits_35 (by decide) (fun c_35 => ?_) (fun c_35 => ?_) | refine rv_icmp_ne hX 42 dX4_fits_35 (by decide) (fun c_35 => ?_) (fun c_35 => ?_)
      · skip
        refine nv_iconst hX (m := 0) (by decide) dX4_fits_42 ?_
        refine mv_retz hX hE (b := false) rfl dX4_fits_43 ?_
        first
        | (have e : sp_bind v t a = some v := by unfold sp_bind; rw [hsv]; simp only; rw [if_pos c_35]
           rw [e] at *
           exact ⟨⟨fun _ => rfl, fun _ => rfl⟩, hv, by rw [Option.getD_some, sp_kb_self]; exact hk, .rf⟩)
        | (have e : sp_bind v t a = none := by unfold sp_bind; rw [hsv]; simp only; rw [if_neg c_35]
           rw [e]
           exact ⟨⟨fun h => (by cases h), fun h => (by cases h)⟩, hv, by rw [Option.getD_none, sp_kb_self]; exact hk, .rf⟩)
      · skip
        refine nv_iconst hX (m := 1) (by decide) dX4_fits_38 ?_
        refine rv_goto hX 43 dX4_fits_39 (by decide) ?_
        refine mv_retz hX hE (b := true) rfl dX4_fits_43 ?_
        first
        | (have e : sp_bind v t a = some v := by unfold sp_bind; rw [hsv]; simp only; rw [if_pos c_35]
           rw [e] at *
           exact ⟨⟨fun _ => rfl, fun _ => rfl⟩, hv, by rw [Option.getD_some, sp_kb_self]; exact hk, .rf⟩)
        | (have e : sp_bind v t a = none := by unfold sp_bind; rw [hsv]; simp only; rw [if_neg c_35]
           rw [e]
           exact ⟨⟨fun h => (by cases h), fun h => (by cases h)⟩, hv, by rw [Option.getD_none, sp_kb_self]; exact hk, .rf⟩)
    · skip
      exact absurd c_6 (nI_m1 (hlt b hsv)) --done
