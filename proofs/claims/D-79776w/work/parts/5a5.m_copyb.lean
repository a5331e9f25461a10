/-! THE REFERENCE: a body copied -/
set_option maxRecDepth 100000
/-- body b of τ is body a of σ, the others stay -/
def mCpB (σ : rv_S) (a b : Nat) (τ : rv_S) : Prop := (∀ j, j ∈ [3, 4, 6, 10, 11, 12] → ∀ i, τ.2.1 j i = if i = b then σ.2.1 j a else σ.2.1 j i) ∧ ((∀ i, i < 3 → τ.2.1 5 (3 * b + i) = σ.2.1 5 (3 * a + i)) ∧ ∀ i, i < 3 * b ∨ 3 * b + 3 ≤ i → τ.2.1 5 i = σ.2.1 5 i) ∧ (∀ j, j ∈ [7, 8] → (∀ i, i < 6 → τ.2.1 j (6 * b + i) = σ.2.1 j (6 * a + i)) ∧ ∀ i, i < 6 * b ∨ 6 * b + 6 ≤ i → τ.2.1 j i = σ.2.1 j i) ∧ ((∀ i, i < 18 → τ.2.1 9 (18 * b + i) = σ.2.1 9 (18 * a + i)) ∧ ∀ i, i < 18 * b ∨ 18 * b + 18 ≤ i → τ.2.1 9 i = σ.2.1 9 i) ∧ rv_same [] [3, 4, 5, 6, 7, 8, 9, 10, 11, 12] σ τ
theorem mBody.cp {σ τ : rv_S} {a b : Nat} {S : List Nat} (hS : ∀ n, n ∈ S → 1 ≤ n ∧ n ≤ 3) (h : mCpB σ a b τ) {C : sp_C} (hw : sp_wfC S C) (hB : mBody σ a C) : mBody τ b C := by
  obtain ⟨h1, h2, h3, h4, h5⟩ := h
  have e1 : ∀ j, j ∈ [3, 4, 6, 10, 11, 12] → τ.2.1 j b = σ.2.1 j a := fun j hj => by rw [h1 j hj, if_pos rfl]
  have hl := hw.len
  refine ⟨by rw [e1 3 (by decide)]; exact hB.num, by rw [e1 4 (by decide)]; exact hB.rel, fun k t e => ?_, by rw [e1 6 (by decide)]; exact hB.len, fun i it e => ?_, by rw [e1 10 (by decide)]; exact hB.mod, by rw [e1 11 (by decide)]; exact hB.sal, by rw [e1 12 (by decide)]; exact hB.tells⟩
  · have q1 := (List.getElem?_eq_some_iff.mp e).1
    have q2 := hw.ht3 hS
    rw [h2.1 k (by omega)]
    exact hB.hts k t e
  · have q1 := (List.getElem?_eq_some_iff.mp e).1
    obtain ⟨i1, i2, i3⟩ := hB.its i it e
    have q3 := ((hw.its it (List.mem_of_getElem? e)).len hS).2
    refine ⟨by rw [(h3 7 (by decide)).1 i (by omega)]; exact i1, by rw [(h3 8 (by decide)).1 i (by omega)]; exact i2, fun k t e2 => ?_⟩
    have q4 := (List.getElem?_eq_some_iff.mp e2).1
    rw [show 3 * (6 * b + i) + k = 18 * b + (3 * i + k) by omega, h4.1 _ (by omega), show 18 * a + (3 * i + k) = 3 * (6 * a + i) + k by omega]
    exact i3 k t e2
theorem mBody.cpo {σ τ : rv_S} {a b c : Nat} {S : List Nat} (hS : ∀ n, n ∈ S → 1 ≤ n ∧ n ≤ 3) (h : mCpB σ a b τ) {C : sp_C} (hw : sp_wfC S C) (hB : mBody σ c C) (hc : c ≠ b) : mBody τ c C := by
  obtain ⟨h1, h2, h3, h4, h5⟩ := h
  have e1 : ∀ j, j ∈ [3, 4, 6, 10, 11, 12] → τ.2.1 j c = σ.2.1 j c := fun j hj => by rw [h1 j hj, if_neg hc]
  have hl := hw.len
  refine ⟨by rw [e1 3 (by decide)]; exact hB.num, by rw [e1 4 (by decide)]; exact hB.rel, fun k t e => ?_, by rw [e1 6 (by decide)]; exact hB.len, fun i it e => ?_, by rw [e1 10 (by decide)]; exact hB.mod, by rw [e1 11 (by decide)]; exact hB.sal, by rw [e1 12 (by decide)]; exact hB.tells⟩
  · have q1 := (List.getElem?_eq_some_iff.mp e).1
    have q2 := hw.ht3 hS
    rw [h2.2 _ (by omega)]
    exact hB.hts k t e
  · have q1 := (List.getElem?_eq_some_iff.mp e).1
    obtain ⟨i1, i2, i3⟩ := hB.its i it e
    have q3 := ((hw.its it (List.mem_of_getElem? e)).len hS).2
    refine ⟨by rw [(h3 7 (by decide)).2 _ (by omega)]; exact i1, by rw [(h3 8 (by decide)).2 _ (by omega)]; exact i2, fun k t e2 => ?_⟩
    have q4 := (List.getElem?_eq_some_iff.mp e2).1
    rw [h4.2 _ (by omega)]
    exact i3 k t e2
theorem mDraft.cpo {σ τ : rv_S} {a b : Nat} {S : List Nat} (hS : ∀ n, n ∈ S → 1 ≤ n ∧ n ≤ 3) {dr : wDr} (h : mCpB σ a b τ) (hb : b < 16) (hw : wfD S dr) (hd : mDraft σ S dr) : mDraft τ S dr := by
  obtain ⟨h1, h2, h3, h4, h5⟩ := h
  obtain ⟨m1, m2, m3, m4, m5, m6⟩ := hd
  have e1 : ∀ j, j ∈ [3, 4, 6, 10, 11, 12] → τ.2.1 j 16 = σ.2.1 j 16 := fun j hj => by rw [h1 j hj, if_neg (by omega)]
  refine ⟨by rw [h5.1 23 (by decide)]; exact m1, m2, by rw [e1 10 (by decide)]; exact m3, by rw [e1 11 (by decide)]; exact m4, by rw [e1 12 (by decide)]; exact m5, fun hk => ?_⟩
  obtain ⟨d1, d2, d3, d4, d5, d6, d7⟩ := m6 hk
  refine ⟨by rw [e1 4 (by decide)]; exact d1, d2, by rw [e1 6 (by decide)]; exact d3, d4, by rw [h5.1 24 (by decide)]; exact d5, fun k hk => by rw [h2.2 _ (by omega)]; exact d6 k hk, fun i it e => ?_⟩
  have q1 := (List.getElem?_eq_some_iff.mp e).1
  obtain ⟨i1, i2, i3⟩ := d7 i it e
  have q3 : it.2.2.length ≤ 3 := by
    obtain ⟨p1, p2, p3, p4, p5, p6⟩ := (hw.2.2.2 hk).2.2.2.2.2.2.2.1 it (List.mem_of_getElem? e)
    unfold sp_tof at p5
    split at p5
    · rename_i q
      have := (hS _ (List.mem_of_getElem? (sp_S_getD (p2 q)))).2
      omega
    · split at p5 <;> omega
  refine ⟨by rw [(h3 7 (by decide)).2 _ (by omega)]; exact i1, by rw [(h3 8 (by decide)).2 _ (by omega)]; exact i2, fun k t e2 => ?_⟩
  have q4 := (List.getElem?_eq_some_iff.mp e2).1
  rw [h4.2 _ (by omega)]
  exact i3 k t e2
theorem m_copyBody {G : rv_G} (hG : rv_GK G) {d : Nat} (hd : 1 ≤ d) {σ : rv_S} {a b : Nat} (ha : a < 17) (hb : b < 17) (hab : a ≠ b) : mC G d yX4_copyBody wX4_copyBody [.int (nI a), .int (nI b)] σ (mPv (fun τ => mCpB σ a b τ)) := by
  refine mv_start hG (by decide +kernel) (Nat.le_of_ble_eq_true rfl) (fun X Hb o hX1 hX hE => ?_)
  subst hX1
  show rv_V X (rv_mh Hb o _) 0 [some (.ref o), some (.int (nI a)), some (.int (nI b)), none] []
  refine rv_aload_n hX dX4_copyBody_0 rfl ?_
  refine mv_ga hX (k := 3) (j := 3) gX4_16_X4 (by decide) rfl (by decide) dX4_copyBody_1 ?_
  refine rv_iload_n hX dX4_copyBody_4 rfl ?_
  refine rv_aload_n hX dX4_copyBody_5 rfl ?_
  refine mv_ga hX (k := 3) (j := 3) gX4_16_X4 (by decide) rfl (by decide) dX4_copyBody_6 ?_
  refine rv_iload_n hX dX4_copyBody_9 rfl ?_
  refine mv_ld hX (j := 3) (by decide) (by decide) rfl (by decide) (show _ < 17 by omega) dX4_copyBody_10 ?_
  refine mv_st hX (j := 3) (by decide) (by decide) rfl (by decide) (show _ < 17 by omega) dX4_copyBody_11 ?_
  refine rv_aload_n hX dX4_copyBody_12 rfl ?_
  refine mv_ga hX (k := 4) (j := 4) gX4_19_X4 (by decide) rfl (by decide) dX4_copyBody_13 ?_
  refine rv_iload_n hX dX4_copyBody_16 rfl ?_
  refine rv_aload_n hX dX4_copyBody_17 rfl ?_
  refine mv_ga hX (k := 4) (j := 4) gX4_19_X4 (by decide) rfl (by decide) dX4_copyBody_18 ?_
  refine rv_iload_n hX dX4_copyBody_21 rfl ?_
  refine mv_ld hX (j := 4) (by decide) (by decide) rfl (by decide) (show _ < 17 by omega) dX4_copyBody_22 ?_
  refine mv_st hX (j := 4) (by decide) (by decide) rfl (by decide) (show _ < 17 by omega) dX4_copyBody_23 ?_
  refine rv_aload_n hX dX4_copyBody_24 rfl ?_
  refine mv_ga hX (k := 6) (j := 6) gX4_25_X4 (by decide) rfl (by decide) dX4_copyBody_25 ?_
  refine rv_iload_n hX dX4_copyBody_28 rfl ?_
  refine rv_aload_n hX dX4_copyBody_29 rfl ?_
  refine mv_ga hX (k := 6) (j := 6) gX4_25_X4 (by decide) rfl (by decide) dX4_copyBody_30 ?_
  refine rv_iload_n hX dX4_copyBody_33 rfl ?_
  refine mv_ld hX (j := 6) (by decide) (by decide) rfl (by decide) (show _ < 17 by omega) dX4_copyBody_34 ?_
  refine mv_st hX (j := 6) (by decide) (by decide) rfl (by decide) (show _ < 17 by omega) dX4_copyBody_35 ?_
  refine rv_aload_n hX dX4_copyBody_36 rfl ?_
  refine mv_ga hX (k := 10) (j := 10) gX4_37_X4 (by decide) rfl (by decide) dX4_copyBody_37 ?_
  refine rv_iload_n hX dX4_copyBody_40 rfl ?_
  refine rv_aload_n hX dX4_copyBody_41 rfl ?_
  refine mv_ga hX (k := 10) (j := 10) gX4_37_X4 (by decide) rfl (by decide) dX4_copyBody_42 ?_
  refine rv_iload_n hX dX4_copyBody_45 rfl ?_
  refine mv_ld hX (j := 10) (by decide) (by decide) rfl (by decide) (show _ < 17 by omega) dX4_copyBody_46 ?_
  refine mv_st hX (j := 10) (by decide) (by decide) rfl (by decide) (show _ < 17 by omega) dX4_copyBody_47 ?_
  refine rv_aload_n hX dX4_copyBody_48 rfl ?_
  refine mv_ga hX (k := 11) (j := 11) gX4_40_X4 (by decide) rfl (by decide) dX4_copyBody_49 ?_
  refine rv_iload_n hX dX4_copyBody_52 rfl ?_
  refine rv_aload_n hX dX4_copyBody_53 rfl ?_
  refine mv_ga hX (k := 11) (j := 11) gX4_40_X4 (by decide) rfl (by decide) dX4_copyBody_54 ?_
  refine rv_iload_n hX dX4_copyBody_57 rfl ?_
  refine mv_ld hX (j := 11) (by decide) (by decide) rfl (by decide) (show _ < 17 by omega) dX4_copyBody_58 ?_
  refine mv_st hX (j := 11) (by decide) (by decide) rfl (by decide) (show _ < 17 by omega) dX4_copyBody_59 ?_
  refine rv_aload_n hX dX4_copyBody_60 rfl ?_
  refine mv_ga hX (k := 12) (j := 12) gX4_43_X4 (by decide) rfl (by decide) dX4_copyBody_61 ?_
  refine rv_iload_n hX dX4_copyBody_64 rfl ?_
  refine rv_aload_n hX dX4_copyBody_65 rfl ?_
  refine mv_ga hX (k := 12) (j := 12) gX4_43_X4 (by decide) rfl (by decide) dX4_copyBody_66 ?_
  refine rv_iload_n hX dX4_copyBody_69 rfl ?_
  refine mv_ld hX (j := 12) (by decide) (by decide) rfl (by decide) (show _ < 17 by omega) dX4_copyBody_70 ?_
  refine mv_st hX (j := 12) (by decide) (by decide) rfl (by decide) (show _ < 17 by omega) dX4_copyBody_71 ?_
  have hs0 : rv_same [] [3, 4, 6, 10, 11, 12] σ (rv_sU (rv_sU (rv_sU (rv_sU (rv_sU (rv_sU σ 3 b (σ.2.1 3 a)) 4 b (σ.2.1 4 a)) 6 b (σ.2.1 6 a)) 10 b (σ.2.1 10 a)) 11 b (σ.2.1 11 a)) 12 b (σ.2.1 12 a)) := (((((rv_same.u (by decide)).tr (.u (by decide))).tr (.u (by decide))).tr (.u (by decide))).tr (.u (by decide))).tr (.u (by decide))
  have hg : ∀ j, j ∈ [3, 4, 6, 10, 11, 12] → ∀ i, (rv_sU (rv_sU (rv_sU (rv_sU (rv_sU (rv_sU σ 3 b (σ.2.1 3 a)) 4 b (σ.2.1 4 a)) 6 b (σ.2.1 6 a)) 10 b (σ.2.1 10 a)) 11 b (σ.2.1 11 a)) 12 b (σ.2.1 12 a)).2.1 j i = if i = b then σ.2.1 j a else σ.2.1 j i := by
    intro j hj i
    simp only [rv_sU_2]
    by_cases q : i = b
    · simp only [q, and_true]
      rcases List.mem_cons.mp hj with rfl | hj
      · rfl
      · rcases List.mem_cons.mp hj with rfl | hj
        · rfl
        · rcases List.mem_cons.mp hj with rfl | hj
          · rfl
          · rcases List.mem_cons.mp hj with rfl | hj
            · rfl
            · rcases List.mem_cons.mp hj with rfl | hj
              · rfl
              · rw [List.mem_singleton.mp hj]
                rfl
    · simp only [q, and_false, if_false]
  have hwrap : rv_V X (rv_mh Hb o (rv_sU (rv_sU (rv_sU (rv_sU (rv_sU (rv_sU σ 3 b (σ.2.1 3 a)) 4 b (σ.2.1 4 a)) 6 b (σ.2.1 6 a)) 10 b (σ.2.1 10 a)) 11 b (σ.2.1 11 a)) 12 b (σ.2.1 12 a))) 72 [some (.ref o), some (.int (nI a)), some (.int (nI b)), none] [] := by
    generalize rv_sU (rv_sU (rv_sU (rv_sU (rv_sU (rv_sU σ 3 b (σ.2.1 3 a)) 4 b (σ.2.1 4 a)) 6 b (σ.2.1 6 a)) 10 b (σ.2.1 10 a)) 11 b (σ.2.1 11 a)) 12 b (σ.2.1 12 a) = υ at hs0 hg
    refine rv_aload_n hX dX4_copyBody_72 rfl ?_
    refine mv_ga hX (k := 5) (j := 5) gX4_22_X4 (by decide) rfl (by decide) dX4_copyBody_73 ?_
    refine nv_iconst hX (m := 3) (by decide) dX4_copyBody_76 ?_
    refine rv_iload_n hX dX4_copyBody_77 rfl ?_
    first | refine nv_imul hX dX4_copyBody_78 ?_ | refine rv_imul hX dX4_copyBody_78 ?_
    refine rv_aload_n hX dX4_copyBody_79 rfl ?_
    refine mv_ga hX (k := 5) (j := 5) gX4_22_X4 (by decide) rfl (by decide) dX4_copyBody_80 ?_
    refine nv_iconst hX (m := 3) (by decide) dX4_copyBody_83 ?_
    refine rv_iload_n hX dX4_copyBody_84 rfl ?_
    first | refine nv_imul hX dX4_copyBody_85 ?_ | refine rv_imul hX dX4_copyBody_85 ?_
    refine nv_iconst hX (m := 3) (by decide) dX4_copyBody_86 ?_
    refine mv_copyE hX iX4_144 hG (j1 := 5) (j2 := 5) ⟨by decide, by decide, rfl, by decide⟩ ⟨by decide, by decide, rfl, by decide⟩ (show _ ≤ 51 by omega) (show _ ≤ 51 by omega) (Or.inr (by omega)) (by omega) rfl (Nat.le_of_ble_eq_true rfl) dX4_copyBody_87 (fun τ_87 h_87 => ?_)
    refine rv_istore_n hX dX4_copyBody_90 (rv_st_3 rfl) ?_
    refine rv_aload_n hX dX4_copyBody_91 rfl ?_
    refine mv_ga hX (k := 7) (j := 7) gX4_28_X4 (by decide) rfl (by decide) dX4_copyBody_92 ?_
    refine nv_bipush hX (m := 6) (by decide) dX4_copyBody_95 ?_
    refine rv_iload_n hX dX4_copyBody_97 rfl ?_
    first | refine nv_imul hX dX4_copyBody_98 ?_ | refine rv_imul hX dX4_copyBody_98 ?_
    refine rv_aload_n hX dX4_copyBody_99 rfl ?_
    refine mv_ga hX (k := 7) (j := 7) gX4_28_X4 (by decide) rfl (by decide) dX4_copyBody_100 ?_
    refine nv_bipush hX (m := 6) (by decide) dX4_copyBody_103 ?_
    refine rv_iload_n hX dX4_copyBody_105 rfl ?_
    first | refine nv_imul hX dX4_copyBody_106 ?_ | refine rv_imul hX dX4_copyBody_106 ?_
    refine nv_bipush hX (m := 6) (by decide) dX4_copyBody_107 ?_
    refine mv_copyE hX iX4_144 hG (j1 := 7) (j2 := 7) ⟨by decide, by decide, rfl, by decide⟩ ⟨by decide, by decide, rfl, by decide⟩ (show _ ≤ 102 by omega) (show _ ≤ 102 by omega) (Or.inr (by omega)) (by omega) rfl (Nat.le_of_ble_eq_true rfl) dX4_copyBody_109 (fun τ_109 h_109 => ?_)
    refine rv_istore_n hX dX4_copyBody_112 (rv_st_3 rfl) ?_
    refine rv_aload_n hX dX4_copyBody_113 rfl ?_
    refine mv_ga hX (k := 8) (j := 8) gX4_31_X4 (by decide) rfl (by decide) dX4_copyBody_114 ?_
    refine nv_bipush hX (m := 6) (by decide) dX4_copyBody_117 ?_
    refine rv_iload_n hX dX4_copyBody_119 rfl ?_
    first | refine nv_imul hX dX4_copyBody_120 ?_ | refine rv_imul hX dX4_copyBody_120 ?_
    refine rv_aload_n hX dX4_copyBody_121 rfl ?_
    refine mv_ga hX (k := 8) (j := 8) gX4_31_X4 (by decide) rfl (by decide) dX4_copyBody_122 ?_
    refine nv_bipush hX (m := 6) (by decide) dX4_copyBody_125 ?_
    refine rv_iload_n hX dX4_copyBody_127 rfl ?_
    first | refine nv_imul hX dX4_copyBody_128 ?_ | refine rv_imul hX dX4_copyBody_128 ?_
    refine nv_bipush hX (m := 6) (by decide) dX4_copyBody_129 ?_
    refine mv_copyE hX iX4_144 hG (j1 := 8) (j2 := 8) ⟨by decide, by decide, rfl, by decide⟩ ⟨by decide, by decide, rfl, by decide⟩ (show _ ≤ 102 by omega) (show _ ≤ 102 by omega) (Or.inr (by omega)) (by omega) rfl (Nat.le_of_ble_eq_true rfl) dX4_copyBody_131 (fun τ_131 h_131 => ?_)
    refine rv_istore_n hX dX4_copyBody_134 (rv_st_3 rfl) ?_
    refine rv_aload_n hX dX4_copyBody_135 rfl ?_
    refine mv_ga hX (k := 9) (j := 9) gX4_34_X4 (by decide) rfl (by decide) dX4_copyBody_136 ?_
    refine nv_bipush hX (m := 18) (by decide) dX4_copyBody_139 ?_
    refine rv_iload_n hX dX4_copyBody_141 rfl ?_
    first | refine nv_imul hX dX4_copyBody_142 ?_ | refine rv_imul hX dX4_copyBody_142 ?_
    refine rv_aload_n hX dX4_copyBody_143 rfl ?_
    refine mv_ga hX (k := 9) (j := 9) gX4_34_X4 (by decide) rfl (by decide) dX4_copyBody_144 ?_
    refine nv_bipush hX (m := 18) (by decide) dX4_copyBody_147 ?_
    refine rv_iload_n hX dX4_copyBody_149 rfl ?_
    first | refine nv_imul hX dX4_copyBody_150 ?_ | refine rv_imul hX dX4_copyBody_150 ?_
    refine nv_bipush hX (m := 18) (by decide) dX4_copyBody_151 ?_
    refine mv_copyE hX iX4_144 hG (j1 := 9) (j2 := 9) ⟨by decide, by decide, rfl, by decide⟩ ⟨by decide, by decide, rfl, by decide⟩ (show _ ≤ 306 by omega) (show _ ≤ 306 by omega) (Or.inr (by omega)) (by omega) rfl (Nat.le_of_ble_eq_true rfl) dX4_copyBody_153 (fun τ_153 h_153 => ?_)
    refine rv_istore_n hX dX4_copyBody_156 (rv_st_3 rfl) ?_
    refine mv_retv hX hE dX4_copyBody_157 ?_
    have a1 := h_87.2.2
    have a2 := h_109.2.2
    have a3 := h_131.2.2
    have a4 := h_153.2.2
    refine ⟨fun j hj i => ?_, ⟨fun i hi => ?_, fun i hi => ?_⟩, fun j hj => ?_, ⟨fun i hi => ?_, fun i hi => ?_⟩, ?_⟩
    · rw [a4.2.1 j (fun q => absurd (List.mem_singleton.mp q) (by rintro rfl; revert hj; decide)), a3.2.1 j (fun q => absurd (List.mem_singleton.mp q) (by rintro rfl; revert hj; decide)), a2.2.1 j (fun q => absurd (List.mem_singleton.mp q) (by rintro rfl; revert hj; decide)), a1.2.1 j (fun q => absurd (List.mem_singleton.mp q) (by rintro rfl; revert hj; decide))]
      exact hg j hj i
    · rw [a4.2.1 5 (by decide), a3.2.1 5 (by decide), a2.2.1 5 (by decide), h_87.1 i hi, hs0.2.1 5 (by decide)]
    · rw [a4.2.1 5 (by decide), a3.2.1 5 (by decide), a2.2.1 5 (by decide), h_87.2.1 i hi, hs0.2.1 5 (by decide)]
    · rcases List.mem_cons.mp hj with rfl | hj
      · refine ⟨fun i hi => ?_, fun i hi => ?_⟩
        · rw [a4.2.1 7 (by decide), a3.2.1 7 (by decide), h_109.1 i hi, a1.2.1 7 (by decide), hs0.2.1 7 (by decide)]
        · rw [a4.2.1 7 (by decide), a3.2.1 7 (by decide), h_109.2.1 i hi, a1.2.1 7 (by decide), hs0.2.1 7 (by decide)]
      · rw [List.mem_singleton.mp hj]
        refine ⟨fun i hi => ?_, fun i hi => ?_⟩
        · rw [a4.2.1 8 (by decide), h_131.1 i hi, a2.2.1 8 (by decide), a1.2.1 8 (by decide), hs0.2.1 8 (by decide)]
        · rw [a4.2.1 8 (by decide), h_131.2.1 i hi, a2.2.1 8 (by decide), a1.2.1 8 (by decide), hs0.2.1 8 (by decide)]
    · rw [h_153.1 i hi, a3.2.1 9 (by decide), a2.2.1 9 (by decide), a1.2.1 9 (by decide), hs0.2.1 9 (by decide)]
    · rw [h_153.2.1 i hi, a3.2.1 9 (by decide), a2.2.1 9 (by decide), a1.2.1 9 (by decide), hs0.2.1 9 (by decide)]
    · exact ((((hs0.mn (by decide) (by decide)).tr (a1.mn (by decide) (by decide))).tr (a2.mn (by decide) (by decide))).tr (a3.mn (by decide) (by decide))).tr (a4.mn (by decide) (by decide))
  exact hwrap
