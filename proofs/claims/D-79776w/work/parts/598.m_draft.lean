/-! THE REFERENCE: the draft -/
set_option maxRecDepth 100000
theorem m_termsOf2 {G : rv_G} (hG : rv_GK G) {d : Nat} (hd : 1 ≤ d) {σ : rv_S} {S : List Nat} {b i : Nat} {it : sp_I} (h : 6 * b + i < 102) (hS : mRel σ S) (hi : mItem σ b i it) (hw : sp_pre S it) : mC G d yX4_termsOf wX4_termsOf [.int (nI b), .int (nI i)] σ (mPi (fun r τ => τ = σ ∧ r = nI (sp_tof S it))) := by
  refine mv_start hG (by decide +kernel) (Nat.le_of_ble_eq_true rfl) (fun X Hb o hX1 hX hE => ?_)
  subst hX1
  show rv_V X (rv_mh Hb o _) 0 [some (.ref o), some (.int (nI b)), some (.int (nI i)), none] []
  obtain ⟨w1, w2, w3, w4, w5⟩ := hw
  refine rv_aload_n hX dX4_termsOf_0 rfl ?_
  refine rv_iload_n hX dX4_termsOf_1 rfl ?_
  refine rv_iload_n hX dX4_termsOf_2 rfl ?_
  refine mv_calli hX iX4_148 rfl mdX4_kindOf (m_kindOf hG (d := d - 1) h) (by omega) rfl rfl (Nat.le_of_ble_eq_true rfl) dX4_termsOf_3 (fun r_3 τ_3 h_3 => ?_)
  obtain ⟨rfl, rfl⟩ := h_3
  rw [hi.1]
  refine rv_istore_n hX dX4_termsOf_6 (rv_st_3 rfl) ?_
  refine rv_iload_n hX dX4_termsOf_7 rfl ?_
  refine nv_iconst hX (m := 2) (by decide) dX4_termsOf_8 ?_
  first | refine nv_icmp_ge hX 26 (by omega) (by omega) dX4_termsOf_9 (by decide) (fun c_9 => ?_) (fun c_9 => ?_) | refine rv_icmp_ge hX 26 dX4_termsOf_9 (by decide) (fun c_9 => ?_) (fun c_9 => ?_)
  · skip
    refine rv_iload_n hX dX4_termsOf_26 rfl ?_
    refine nv_iconst hX (m := 2) (by decide) dX4_termsOf_27 ?_
    first | refine nv_icmp_ne hX 35 (by omega) (by omega) dX4_termsOf_28 (by decide) (fun c_28 => ?_) (fun c_28 => ?_) | refine rv_icmp_ne hX 35 dX4_termsOf_28 (by decide) (fun c_28 => ?_) (fun c_28 => ?_)
    · skip
      refine nv_iconst hX (m := 3) (by decide) dX4_termsOf_35 ?_
      refine mv_reti hX hE dX4_termsOf_36 ?_
      unfold sp_tof
      first
        | exact ⟨rfl, by rw [if_pos (by omega)]⟩
        | exact ⟨rfl, by rw [if_neg (by omega), if_pos (by omega)]⟩
        | exact ⟨rfl, by rw [if_neg (by omega), if_neg (by omega)]⟩
    · skip
      refine nv_iconst hX (m := 2) (by decide) dX4_termsOf_31 ?_
      refine rv_goto hX 36 dX4_termsOf_32 (by decide) ?_
      refine mv_reti hX hE dX4_termsOf_36 ?_
      unfold sp_tof
      first
        | exact ⟨rfl, by rw [if_pos (by omega)]⟩
        | exact ⟨rfl, by rw [if_neg (by omega), if_pos (by omega)]⟩
        | exact ⟨rfl, by rw [if_neg (by omega), if_neg (by omega)]⟩
  · skip
    have hlt := w2 (by omega)
    have hS8 := hS.2.1
    refine rv_aload_n hX dX4_termsOf_12 rfl ?_
    refine mv_ga hX (k := 2) (j := 2) gX4_13_X4 (by decide) rfl (by decide) dX4_termsOf_13 ?_
    refine rv_aload_n hX dX4_termsOf_16 rfl ?_
    refine rv_iload_n hX dX4_termsOf_17 rfl ?_
    refine rv_iload_n hX dX4_termsOf_18 rfl ?_
    refine mv_calli hX iX4_152 rfl mdX4_whatOf (m_whatOf hG (d := d - 1) h) (by omega) rfl rfl (Nat.le_of_ble_eq_true rfl) dX4_termsOf_19 (fun r_19 τ_19 h_19 => ?_)
    obtain ⟨rfl, rfl⟩ := h_19
    rw [hi.2.1]
    refine mv_ld hX (j := 2) (by decide) (by decide) rfl (by decide) (show _ < 8 by omega) dX4_termsOf_22 ?_
    rw [hS.2.2.2 _ _ (sp_S_getD hlt)]
    refine rv_goto hX 36 dX4_termsOf_23 (by decide) ?_
    refine mv_reti hX hE dX4_termsOf_36 ?_
    unfold sp_tof
    first
      | exact ⟨rfl, by rw [if_pos (by omega)]⟩
      | exact ⟨rfl, by rw [if_neg (by omega), if_pos (by omega)]⟩
      | exact ⟨rfl, by rw [if_neg (by omega), if_neg (by omega)]⟩
theorem sp_last_get {α : Type} {l : List α} (h : l ≠ []) : ∃ x, l.getLast? = some x ∧ l[l.length - 1]? = some x := by
  refine ⟨l.getLast h, List.getLast?_eq_some_getLast h, ?_⟩
  rw [← List.getLast?_eq_getElem?]
  exact List.getLast?_eq_some_getLast h
theorem m_lacksTerm {G : rv_G} (hG : rv_GK G) {d : Nat} (hd : 2 ≤ d) {σ : rv_S} {S : List Nat} {dr : wDr} (hS : mRel σ S) (h : mDraft σ S dr) (hw : wfD S dr) (hk : dr.k ≠ 0) : mC G d yX4_lacksTerm wX4_lacksTerm [] σ (mPz (fun r τ => τ = σ ∧ r = dr.lacks S)) := by
  refine mv_start hG (by decide +kernel) (Nat.le_of_ble_eq_true rfl) (fun X Hb o hX1 hX hE => ?_)
  subst hX1
  show rv_V X (rv_mh Hb o _) 0 [some (.ref o)] []
  obtain ⟨h1, h2, h3, h4, h5, h6, h7⟩ := h.2.2.2.2.2 hk
  obtain ⟨w1, w2, w3, w4, w5, w6, w7, w8, w9⟩ := hw.2.2.2 hk
  have hS8 := hS.2.1
  have hrel := sp_S_getD h2
  have hr3 := hS.2.2.1 _ (List.mem_of_getElem? hrel)
  refine rv_aload_n hX dX4_lacksTerm_0 rfl ?_
  refine mv_gi hX (k := 24) gX4_296_X4 (by decide) rfl dX4_lacksTerm_1 ?_
  rw [h5]
  refine rv_aload_n hX dX4_lacksTerm_4 rfl ?_
  refine mv_ga hX (k := 6) (j := 6) gX4_25_X4 (by decide) rfl (by decide) dX4_lacksTerm_5 ?_
  refine nv_bipush hX (m := 16) (by decide) dX4_lacksTerm_8 ?_
  refine mv_ld hX (j := 6) (by decide) (by decide) rfl (by decide) (show _ < 17 by omega) dX4_lacksTerm_10 ?_
  rw [h3]
  first | refine zv_if_ne hX 29 dX4_lacksTerm_11 (by decide) (fun c_11 => ?_) (fun c_11 => ?_) | refine nv_if_ne hX 29 (by omega) dX4_lacksTerm_11 (by decide) (fun c_11 => ?_) (fun c_11 => ?_) | refine rv_if_ne hX 29 dX4_lacksTerm_11 (by decide) (fun c_11 => ?_) (fun c_11 => ?_)
  · skip
    obtain ⟨it, hit1, hit2⟩ := sp_last_get (l := dr.its) (fun e => by rw [e] at c_11; exact absurd c_11 (by decide))
    have hpre := w8 it (List.mem_of_getElem? hit2)
    have ht : dr.typed = it.2.2.length := by unfold wDr.typed; rw [hit1]
    have hwt : dr.want S = sp_tof S it := by unfold wDr.want; rw [hit1]
    have htof : sp_tof S it ≤ 3 := by
      unfold sp_tof
      split
      · rename_i q
        exact (hS.2.2.1 _ (List.mem_of_getElem? (sp_S_getD (hpre.2.1 q)))).2
      · split <;> omega
    have hle := hpre.2.2.2.2.1
    refine rv_aload_n hX dX4_lacksTerm_29 rfl ?_
    refine nv_bipush hX (m := 16) (by decide) dX4_lacksTerm_30 ?_
    refine rv_aload_n hX dX4_lacksTerm_32 rfl ?_
    refine mv_ga hX (k := 6) (j := 6) gX4_25_X4 (by decide) rfl (by decide) dX4_lacksTerm_33 ?_
    refine nv_bipush hX (m := 16) (by decide) dX4_lacksTerm_36 ?_
    refine mv_ld hX (j := 6) (by decide) (by decide) rfl (by decide) (show _ < 17 by omega) dX4_lacksTerm_38 ?_
    rw [h3]
    refine nv_iconst hX (m := 1) (by decide) dX4_lacksTerm_39 ?_
    first | refine nv_isub hX (by omega) dX4_lacksTerm_40 ?_ | refine rv_isub hX dX4_lacksTerm_40 ?_
    refine mv_calli hX iX4_299 rfl mdX4_termsOf (m_termsOf2 hG (d := d - 1) (b := 16) (i := dr.its.length - 1) (by omega) (by omega) hS (h7 _ it hit2) hpre) (by omega) rfl rfl (Nat.le_of_ble_eq_true rfl) dX4_lacksTerm_41 (fun r_41 τ_41 h_41 => ?_)
    obtain ⟨rfl, rfl⟩ := h_41
    first | refine nv_icmp_ge hX 51 (by omega) (by omega) dX4_lacksTerm_44 (by decide) (fun c_44 => ?_) (fun c_44 => ?_) | refine rv_icmp_ge hX 51 dX4_lacksTerm_44 (by decide) (fun c_44 => ?_) (fun c_44 => ?_)
    · skip
      refine nv_iconst hX (m := 0) (by decide) dX4_lacksTerm_51 ?_
      refine mv_retz hX hE (b := false) rfl dX4_lacksTerm_52 ?_
      unfold wDr.lacks
      first
        | exact ⟨rfl, by rw [decide_eq_true (by omega)]⟩
        | exact ⟨rfl, by rw [decide_eq_false (by omega)]⟩
    · skip
      refine nv_iconst hX (m := 1) (by decide) dX4_lacksTerm_47 ?_
      refine rv_goto hX 52 dX4_lacksTerm_48 (by decide) ?_
      refine mv_retz hX hE (b := true) rfl dX4_lacksTerm_52 ?_
      unfold wDr.lacks
      first
        | exact ⟨rfl, by rw [decide_eq_true (by omega)]⟩
        | exact ⟨rfl, by rw [decide_eq_false (by omega)]⟩
  · skip
    have hn : dr.its = [] := List.eq_nil_of_length_eq_zero (by omega)
    have ht : dr.typed = dr.hts.length := by unfold wDr.typed; rw [hn]; rfl
    have hwt : dr.want S = S.getD dr.rel 0 := by unfold wDr.want; rw [hn]; rfl
    refine rv_aload_n hX dX4_lacksTerm_14 rfl ?_
    refine mv_ga hX (k := 2) (j := 2) gX4_13_X4 (by decide) rfl (by decide) dX4_lacksTerm_15 ?_
    refine rv_aload_n hX dX4_lacksTerm_18 rfl ?_
    refine mv_ga hX (k := 4) (j := 4) gX4_19_X4 (by decide) rfl (by decide) dX4_lacksTerm_19 ?_
    refine nv_bipush hX (m := 16) (by decide) dX4_lacksTerm_22 ?_
    refine mv_ld hX (j := 4) (by decide) (by decide) rfl (by decide) (show _ < 17 by omega) dX4_lacksTerm_24 ?_
    rw [h1]
    refine mv_ld hX (j := 2) (by decide) (by decide) rfl (by decide) (show _ < 8 by omega) dX4_lacksTerm_25 ?_
    rw [hS.2.2.2 _ _ hrel]
    refine rv_goto hX 44 dX4_lacksTerm_26 (by decide) ?_
    first | refine nv_icmp_ge hX 51 (by omega) (by omega) dX4_lacksTerm_44 (by decide) (fun c_44 => ?_) (fun c_44 => ?_) | refine rv_icmp_ge hX 51 dX4_lacksTerm_44 (by decide) (fun c_44 => ?_) (fun c_44 => ?_)
    · skip
      refine nv_iconst hX (m := 0) (by decide) dX4_lacksTerm_51 ?_
      refine mv_retz hX hE (b := false) rfl dX4_lacksTerm_52 ?_
      unfold wDr.lacks
      first
        | exact ⟨rfl, by rw [decide_eq_true (by omega)]⟩
        | exact ⟨rfl, by rw [decide_eq_false (by omega)]⟩
    · skip
      refine nv_iconst hX (m := 1) (by decide) dX4_lacksTerm_47 ?_
      refine rv_goto hX 52 dX4_lacksTerm_48 (by decide) ?_
      refine mv_retz hX hE (b := true) rfl dX4_lacksTerm_52 ?_
      unfold wDr.lacks
      first
        | exact ⟨rfl, by rw [decide_eq_true (by omega)]⟩
        | exact ⟨rfl, by rw [decide_eq_false (by omega)]⟩
theorem m_beginDraft {G : rv_G} (hG : rv_GK G) {d : Nat} {σ : rv_S} {k rel : Nat} : mC G d yX4_beginDraft wX4_beginDraft [.int (nI k), .int (nI rel)] σ (mPv (fun τ => rv_same [23, 24] [4, 5, 6] σ τ ∧ τ.1 23 = nI k ∧ τ.1 24 = nI 0 ∧ τ.2.1 4 16 = nI rel ∧ (∀ i, i ≠ 16 → τ.2.1 4 i = σ.2.1 4 i) ∧ τ.2.1 6 16 = nI 0 ∧ (∀ i, i ≠ 16 → τ.2.1 6 i = σ.2.1 6 i) ∧ (∀ i, i < 3 → τ.2.1 5 (48 + i) = nI 0) ∧ ∀ i, i < 48 → τ.2.1 5 i = σ.2.1 5 i)) := by
  refine mv_start hG (by decide +kernel) (Nat.le_of_ble_eq_true rfl) (fun X Hb o hX1 hX hE => ?_)
  subst hX1
  show rv_V X (rv_mh Hb o _) 0 [some (.ref o), some (.int (nI k)), some (.int (nI rel)), none] []
  have loop : ∀ (n m : Nat) (τ : rv_S), m ≤ 3 → 3 - m < n → rv_same [23, 24] [4, 5, 6] σ τ → τ.1 23 = nI k → τ.1 24 = nI 0 → τ.2.1 4 16 = nI rel → (∀ i, i ≠ 16 → τ.2.1 4 i = σ.2.1 4 i) → τ.2.1 6 16 = nI 0 → (∀ i, i ≠ 16 → τ.2.1 6 i = σ.2.1 6 i) → (∀ i, i < m → τ.2.1 5 (48 + i) = nI 0) → (∀ i, i < 48 → τ.2.1 5 i = σ.2.1 5 i) → rv_V X (rv_mh Hb o τ) 28 [some (.ref o), some (.int (nI k)), some (.int (nI rel)), some (.int (nI m))] [] := by
    intro n
    induction n with
    | zero => intro m τ h1 h2; omega
    | succ n ih =>
      intro m τ h1 h2 h3 a1 a2 a3 a4 a5 a6 a7 a8
      refine rv_iload_n hX dX4_beginDraft_28 rfl ?_
      refine nv_iconst hX (m := 3) (by decide) dX4_beginDraft_29 ?_
      first | refine nv_icmp_ge hX 49 (by omega) (by omega) dX4_beginDraft_30 (by decide) (fun c_30 => ?_) (fun c_30 => ?_) | refine rv_icmp_ge hX 49 dX4_beginDraft_30 (by decide) (fun c_30 => ?_) (fun c_30 => ?_)
      · skip
        refine mv_retv hX hE dX4_beginDraft_49 ?_
        exact ⟨h3, a1, a2, a3, a4, a5, a6, fun i hi => a7 i (by omega), a8⟩
      · skip
        refine rv_aload_n hX dX4_beginDraft_33 rfl ?_
        refine mv_ga hX (k := 5) (j := 5) gX4_22_X4 (by decide) rfl (by decide) dX4_beginDraft_34 ?_
        refine nv_bipush hX (m := 48) (by decide) dX4_beginDraft_37 ?_
        refine rv_iload_n hX dX4_beginDraft_39 rfl ?_
        first | refine nv_iadd hX dX4_beginDraft_40 ?_ | refine rv_iadd hX dX4_beginDraft_40 ?_
        refine nv_iconst hX (m := 0) (by decide) dX4_beginDraft_41 ?_
        refine mv_st hX (j := 5) (by decide) (by decide) rfl (by decide) (show _ < 51 by omega) dX4_beginDraft_42 ?_
        first | refine nv_iinc hX (m := 1) dX4_beginDraft_43 rfl (by decide) (rv_st_3 rfl) ?_ | refine rv_iinc hX dX4_beginDraft_43 rfl rfl (rv_st_3 rfl) ?_
        refine rv_goto hX 28 dX4_beginDraft_46 (by decide) ?_
        refine ih (m + 1) _ (by omega) (by omega) (h3.tr (.u (by decide))) a1 a2 a3 a4 a5 a6 (fun i hi => ?_) (fun i hi => ?_)
        · rw [rv_sU_2]
          by_cases q : i = m
          · rw [if_pos ⟨rfl, by omega⟩]
          · rw [if_neg (fun q2 => q (by have := q2.2; omega))]
            exact a7 i (by omega)
        · rw [rv_sU_2, if_neg (fun q2 => by have := q2.2; omega)]
          exact a8 i hi
  refine rv_aload_n hX dX4_beginDraft_0 rfl ?_
  refine rv_iload_n hX dX4_beginDraft_1 rfl ?_
  refine mv_pi hX (k := 23) pX4_302_X4 (by decide) rfl rfl rfl dX4_beginDraft_2 ?_
  refine rv_aload_n hX dX4_beginDraft_5 rfl ?_
  refine nv_iconst hX (m := 0) (by decide) dX4_beginDraft_6 ?_
  refine mv_pi hX (k := 24) pX4_296_X4 (by decide) rfl rfl rfl dX4_beginDraft_7 ?_
  refine rv_aload_n hX dX4_beginDraft_10 rfl ?_
  refine mv_ga hX (k := 4) (j := 4) gX4_19_X4 (by decide) rfl (by decide) dX4_beginDraft_11 ?_
  refine nv_bipush hX (m := 16) (by decide) dX4_beginDraft_14 ?_
  refine rv_iload_n hX dX4_beginDraft_16 rfl ?_
  refine mv_st hX (j := 4) (by decide) (by decide) rfl (by decide) (show _ < 17 by omega) dX4_beginDraft_17 ?_
  refine rv_aload_n hX dX4_beginDraft_18 rfl ?_
  refine mv_ga hX (k := 6) (j := 6) gX4_25_X4 (by decide) rfl (by decide) dX4_beginDraft_19 ?_
  refine nv_bipush hX (m := 16) (by decide) dX4_beginDraft_22 ?_
  refine nv_iconst hX (m := 0) (by decide) dX4_beginDraft_24 ?_
  refine mv_st hX (j := 6) (by decide) (by decide) rfl (by decide) (show _ < 17 by omega) dX4_beginDraft_25 ?_
  refine nv_iconst hX (m := 0) (by decide) dX4_beginDraft_26 ?_
  refine rv_istore_n hX dX4_beginDraft_27 (rv_st_3 rfl) ?_
  refine loop _ 0 _ (Nat.zero_le _) (Nat.lt_succ_self _) (((((rv_same.f (by decide)).tr (.f (by decide))).tr (.u (by decide))).tr (.u (by decide)))) rfl rfl rfl (fun i hi => ?_) rfl (fun i hi => ?_) (fun i hi => absurd hi (by omega)) (fun i hi => rfl)
  · rw [rv_sU_2, if_neg (fun q => absurd q.1 (by decide)), rv_sU_2, if_neg (fun q => hi q.2)]
    rfl
  · rw [rv_sU_2, if_neg (fun q => hi q.2), rv_sU_2, if_neg (fun q => absurd q.1 (by decide))]
    rfl
