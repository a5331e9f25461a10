/-! THE REFERENCE: firing -/
set_option maxRecDepth 100000
theorem mW0.chKE {fs js : List Nat} {σ τ : rv_S} {w : wW} {k : Nat} {E : List (Nat × Nat × Nat × Nat)} (h : mW0 σ w) (hs : rv_same fs js σ τ) (hj : ∀ j, j ∈ [2, 3, 4, 5, 6, 7, 8, 9, 10, 11, 12, 13, 14, 15, 16, 17] → j ∉ js) (h1 : ∀ i, i ≠ 8 → i ≠ 10 → τ.2.1 1 i = σ.2.1 1 i) (hk : k < w.K.length) (h8 : τ.2.1 1 8 = nI (k + 1)) (h10 : τ.2.1 1 10 = nI E.length) (hE : E.length ≤ 5000) : mW0 τ ((w.setK (w.K.take (k + 1))).setE E) := by
  have e1 : ∀ i, i ≠ 8 → i ≠ 10 → τ.2.1 1 i = σ.2.1 1 i := h1
  have hl : (w.K.take (k + 1)).length = k + 1 := by rw [List.length_take]; omega
  have hK := h.stk
  have hK8 := hK.2.2.1
  refine ⟨h.rules.same2 hs (e1 0 (by decide) (by decide)) (e1 1 (by decide) (by decide)) (fun j hj2 => hj j (by revert j; decide)), h.deeds.same2 hs (e1 0 (by decide) (by decide)) (e1 2 (by decide) (by decide)) (fun j hj2 => hj j (by revert j; decide)), by rw [e1 3 (by decide) (by decide)]; exact h.nr, by rw [e1 4 (by decide) (by decide)]; exact h.nd, h.tl.same2 hs (e1 5 (by decide) (by decide)) ⟨hj 13 (by decide), hj 14 (by decide)⟩, ⟨by rw [e1 6 (by decide) (by decide)]; exact h.facts.1, h.facts.2.1, h.facts.2.2.1, fun k f e => by rw [hs.2.1 15 (hj 15 (by decide))]; exact h.facts.2.2.2 k f e⟩, h.tags.same hs (hj 16 (by decide)), by rw [e1 7 (by decide) (by decide)]; exact h.g, ⟨?_, ?_, ?_, fun i m e => ?_⟩, by rw [e1 9 (by decide) (by decide)]; exact h.now, h10, hE⟩
  · rw [h8]
    show _ = nI (w.K.take (k + 1)).length
    rw [hl]
  · show 1 ≤ (w.K.take (k + 1)).length
    omega
  · show (w.K.take (k + 1)).length ≤ 8
    omega
  · have e' : (w.K.take (k + 1))[i]? = some m := e
    rw [List.getElem?_take] at e'
    split at e'
    · rw [hs.2.1 17 (hj 17 (by decide))]
      exact hK.2.2.2 i m e'
    · cases e'
theorem mEnt.keep {σ τ : rv_S} {n : Nat} {D : List (Nat × Nat × Nat × Nat)} (h : mEnt σ D) (hk : ∀ i, i < 4 * n → τ.2.1 18 i = σ.2.1 18 i) (hl : D.length ≤ n) : mEnt τ D := fun k e he => by
  have := (List.getElem?_eq_some_iff.mp he).1
  obtain ⟨⟨a, b, c, d⟩, r⟩ := h k e he
  exact ⟨⟨by rw [hk _ (by omega)]; exact a, by rw [hk _ (by omega)]; exact b, by rw [hk _ (by omega)]; exact c, by rw [hk _ (by omega)]; exact d⟩, r⟩
theorem mBeg.keep {fs js : List Nat} {σ τ : rv_S} {B : List wW} {n : Nat} (h : mBeg σ B) (hs : rv_same fs js σ τ) (hf : 22 ∉ fs) (hj : 19 ∉ js ∧ 20 ∉ js ∧ 21 ∉ js) (hk : ∀ i, i < 4 * n → τ.2.1 18 i = σ.2.1 18 i) (hl : ∀ w, w ∈ B → w.E.length ≤ n) : mBeg τ B := ⟨by rw [hs.1 22 hf]; exact h.1, h.2.1, fun i w e => by
  obtain ⟨υ, a, b, c⟩ := h.2.2 i w e
  exact ⟨υ, a, b.same hs hj, c.keep hk (hl w (List.mem_of_getElem? e))⟩⟩
theorem mSv.keep {fs js : List Nat} {σ τ : rv_S} {i n : Nat} {w : wW} (h : mSv σ i w) (hs : rv_same fs js σ τ) (hj : 19 ∉ js ∧ 20 ∉ js ∧ 21 ∉ js) (hk : ∀ i, i < 4 * n → τ.2.1 18 i = σ.2.1 18 i) (hl : w.E.length ≤ n) : mSv τ i w := by
  obtain ⟨⟨υ, a, b⟩, c, d⟩ := h
  exact ⟨⟨υ, a, b.same hs hj⟩, c.keep hk hl, d⟩
theorem wfP.tv {n ng ne nn : Nat} {w : wW} (h : wfP n ng ne nn w) (hg : ng ≤ 1000000) : ∀ k, w.tv k < 2000000 := fun k => by
  unfold wW.tv
  rw [List.getD_eq_getElem?_getD]
  cases e : w.A[k]? with
  | none => decide
  | some t =>
    have h1 := (h.2.2.2.2.2.1.2.2.1 t (List.mem_of_getElem? e)).2
    have h2 := h.2.2.2.2.2.1.2.2.2
    show t < 2000000
    omega
theorem m_fireOnce {G : rv_G} (hG : rv_GK G) {d : Nat} (hd : 9 ≤ d) {σ : rv_S} {s : wS} {n ng ne nn : Nat} (hn : n ≤ 24) (hng : ng ≤ 1000000) (hne : ne < 5000) (h : mSt σ s) (hwf : wfX n ng ne nn s.w) (hB : ∀ w, w ∈ s.b → w.E.length ≤ s.w.E.length) : mC G d yX4_fireOnce wX4_fireOnce [] σ (mPi (fun r τ => r = s.w.fire1.1 ∧ mSt τ (s.setw s.w.fire1.2) ∧ τ.1 0 = σ.1 0)) := by
  refine mv_start hG (by decide +kernel) (Nat.le_of_ble_eq_true rfl) (fun X Hb o hX1 hX hE => ?_)
  subst hX1
  show rv_V X (rv_mh Hb o _) 0 [some (.ref o), none, none, none] []
  have hb6 := hwf.b6
  have hwP := hwf.1
  have hS3 := hwP.1
  have hDD := hwP.2.2.1
  have hD6 := hDD.1
  have hK8 := hwP.2.2.2.2.2.2.1
  have hE9 := hwP.2.2.2.2.2.2.2.2.1
  obtain ⟨st, hst, -⟩ := sp_set_spec hwf.2
  have hbcl : ∀ m, (sp_bst s.w.F s.w.tv s.w.E s.w.D m s.w.D.length).2 < 2147483648 := fun m => by
    have h1 := sp_bst_len (F := s.w.F) (tv := s.w.tv) (D := s.w.E) (Ds := s.w.D) (m := m) (k := s.w.D.length) hwP.2.2.2.2.1.2 (fun C hC => (hDD.2.1 C hC).1)
    omega
  refine rv_aload_n hX dX4_fireOnce_0 rfl ?_
  refine nv_iconst hX (m := 3) (by decide) dX4_fireOnce_1 ?_
  refine mv_callv hX iX4_275 rfl mdX4_save (m_saveW hG (d := d - 1) (by omega) h hb6) (by omega) rfl rfl (Nat.le_of_ble_eq_true rfl) dX4_fireOnce_2 (fun τ_2 h_2 => ?_)
  obtain ⟨s1, s2, s3⟩ := h_2
  refine rv_aload_n hX dX4_fireOnce_5 rfl ?_
  refine mv_calli hX iX4_432 rfl mdX4_findNext (m_findNext hG (d := d - 1) (by omega) s1.1.1.deeds s1.1.1.facts s1.1.1.stk (s1.1.1.tv hwP.2.2.2.2.2.1.1) (hwP.tv hng) s1.1.mfd hbcl) (by omega) rfl rfl (Nat.le_of_ble_eq_true rfl) dX4_fireOnce_6 (fun r_6 τ_6 h_6 => ?_)
  obtain ⟨b1, rfl, b3⟩ := h_6
  have hm1 := rv_oi_m1 (x := s.w.nxt) (fun a e => by have := (wW.act_spec e).1; omega)
  refine rv_istore_n hX dX4_fireOnce_9 (rv_st_1 rfl) ?_
  refine rv_aload_n hX dX4_fireOnce_10 rfl ?_
  refine mv_ga hX (k := 1) (j := 1) gX4_7_X4 (by decide) rfl (by decide) dX4_fireOnce_11 ?_
  refine nv_bipush hX (m := 8) (by decide) dX4_fireOnce_14 ?_
  refine rv_iload_n hX dX4_fireOnce_16 rfl ?_
  refine rv_iconst hX (v := -1) dX4_fireOnce_17 (by decide) ?_
  first | refine nv_icmp_ne hX 25 (by omega) (by omega) dX4_fireOnce_18 (by decide) (fun c_18 => ?_) (fun c_18 => ?_) | refine rv_icmp_ne hX 25 dX4_fireOnce_18 (by decide) (fun c_18 => ?_) (fun c_18 => ?_)
  · skip
    obtain ⟨k, hk⟩ : ∃ k, s.w.nxt = some k := by
      cases e : s.w.nxt with
      | none => exact absurd (hm1.mpr e) c_18
      | some k => exact ⟨k, rfl⟩
    obtain ⟨hkK, a, a1, a2, C, q, a3, a4, a5, a6⟩ := wW.act_spec hk
    have hb := b3 k hk
    rw [show (sp_bst s.w.F s.w.tv s.w.E s.w.D (s.w.K.getD k 0) s.w.D.length).1 = some a from a1] at hb
    obtain ⟨hb1, hb2, hb3, hb4, hb5, hb6'⟩ := hb
    have hal := (List.getElem?_eq_some_iff.mp a3).1
    rw [show rv_oi (sp_nxt (fun m => sp_bst s.w.F s.w.tv s.w.E s.w.D m s.w.D.length) s.w.K s.w.K.length) = nI k from by rw [show sp_nxt (fun m => sp_bst s.w.F s.w.tv s.w.E s.w.D m s.w.D.length) s.w.K s.w.K.length = some k from hk]; rfl]
    skip
    refine rv_iload_n hX dX4_fireOnce_25 rfl ?_
    refine nv_iconst hX (m := 1) (by decide) dX4_fireOnce_26 ?_
    first | refine nv_iadd hX dX4_fireOnce_27 ?_ | refine rv_iadd hX dX4_fireOnce_27 ?_
    refine mv_st hX (j := 1) (by decide) (by decide) rfl (by decide) (show _ < 11 by omega) dX4_fireOnce_28 ?_
    refine rv_iload_n hX dX4_fireOnce_29 rfl ?_
    refine rv_iconst hX (v := -1) dX4_fireOnce_30 (by decide) ?_
    first | refine nv_icmp_ne hX 36 (by omega) (by omega) dX4_fireOnce_31 (by decide) (fun c_31 => ?_) (fun c_31 => ?_) | refine rv_icmp_ne hX 36 dX4_fireOnce_31 (by decide) (fun c_31 => ?_) (fun c_31 => ?_)
    · skip
      refine rv_aload_n hX dX4_fireOnce_36 rfl ?_
      refine mv_gi hX (k := 52) gX4_411_X4 (by decide) rfl dX4_fireOnce_37 ?_
      rw [show (rv_sU τ_6 1 8 (nI (k + 1))).1 52 = nI (10 + a.1) from hb1]
      refine rv_istore_n hX dX4_fireOnce_40 (rv_st_2 rfl) ?_
      have hdD := (s1.1.1.deeds.same b1 (by decide)).2.2.2 a.1 C a3
      have hs : rv_same [31, 32, 33, 34, 52, 53, 54] [1, 26, 27, 28, 29, 40] τ_2 (rv_sU τ_6 1 8 (nI (k + 1))) := (b1.mn (by decide) (by decide)).tr (.u (by decide))
      have h1 : ∀ i, (rv_sU τ_6 1 8 (nI (k + 1))).2.1 1 i = if i = 8 then nI (k + 1) else τ_2.2.1 1 i := fun i => by
        rw [rv_sU_2]
        by_cases q : i = 8
        · rw [if_pos ⟨rfl, q⟩, if_pos q]
        · rw [if_neg (fun a => q a.2), if_neg q, b1.2.1 1 (by decide)]
      have hbf : (rv_sU τ_6 1 8 (nI (k + 1))).1 54 = nI a.2.2.1 ∧ (rv_sU τ_6 1 8 (nI (k + 1))).2.1 40 0 = nI a.2.2.2.1 ∧ (rv_sU τ_6 1 8 (nI (k + 1))).2.1 40 1 = nI a.2.2.2.2.1 ∧ (rv_sU τ_6 1 8 (nI (k + 1))).2.1 40 2 = nI a.2.2.2.2.2 := ⟨hb3, hb4, hb5, hb6'⟩
      have hdB : mBody (rv_sU τ_6 1 8 (nI (k + 1))) (10 + a.1) C := hdD.1.same (fs := []) (js := [1]) (.u (by decide)) (by decide)
      clear hb1 hb2 hb3 hb4 hb5 hb6' hdD b3
      generalize rv_sU τ_6 1 8 (nI (k + 1)) = υ0 at hs h1 hbf hdB
      have hE10 : υ0.2.1 1 10 = nI s.w.E.length := by rw [h1, if_neg (by decide)]; exact s1.1.1.fd.1
      refine rv_aload_n hX dX4_fireOnce_41 rfl ?_
      refine mv_ga hX (k := 18) (j := 18) gX4_61_X4 (by decide) rfl (by decide) dX4_fireOnce_42 ?_
      refine nv_iconst hX (m := 4) (by decide) dX4_fireOnce_45 ?_
      refine rv_aload_n hX dX4_fireOnce_46 rfl ?_
      refine mv_ga hX (k := 1) (j := 1) gX4_7_X4 (by decide) rfl (by decide) dX4_fireOnce_47 ?_
      refine nv_bipush hX (m := 10) (by decide) dX4_fireOnce_50 ?_
      refine mv_ld hX (j := 1) (by decide) (by decide) rfl (by decide) (show _ < 11 by omega) dX4_fireOnce_52 ?_
      rw [hE10]
      first | refine nv_imul hX dX4_fireOnce_53 ?_ | refine rv_imul hX dX4_fireOnce_53 ?_
      refine rv_aload_n hX dX4_fireOnce_54 rfl ?_
      refine mv_ga hX (k := 3) (j := 3) gX4_16_X4 (by decide) rfl (by decide) dX4_fireOnce_55 ?_
      refine rv_iload_n hX dX4_fireOnce_58 rfl ?_
      refine mv_ld hX (j := 3) (by decide) (by decide) rfl (by decide) (show _ < 17 by omega) dX4_fireOnce_59 ?_
      rw [hdB.num]
      refine mv_st hX (j := 18) (by decide) (by decide) rfl (by decide) (show _ < 20800 by omega) dX4_fireOnce_60 ?_
      refine rv_aload_n hX dX4_fireOnce_61 rfl ?_
      refine mv_ga hX (k := 55) (j := 40) gX4_128_X4 (by decide) rfl (by decide) dX4_fireOnce_62 ?_
      refine nv_iconst hX (m := 0) (by decide) dX4_fireOnce_65 ?_
      refine rv_aload_n hX dX4_fireOnce_66 rfl ?_
      refine mv_ga hX (k := 18) (j := 18) gX4_61_X4 (by decide) rfl (by decide) dX4_fireOnce_67 ?_
      refine nv_iconst hX (m := 4) (by decide) dX4_fireOnce_70 ?_
      refine rv_aload_n hX dX4_fireOnce_71 rfl ?_
      refine mv_ga hX (k := 1) (j := 1) gX4_7_X4 (by decide) rfl (by decide) dX4_fireOnce_72 ?_
      refine nv_bipush hX (m := 10) (by decide) dX4_fireOnce_75 ?_
      refine mv_ld hX (j := 1) (by decide) (by decide) rfl (by decide) (show _ < 11 by omega) dX4_fireOnce_77 ?_
      rw [show (rv_sU υ0 18 (4 * s.w.E.length) (nI C.num)).2.1 1 10 = nI s.w.E.length from hE10]
      first | refine nv_imul hX dX4_fireOnce_78 ?_ | refine rv_imul hX dX4_fireOnce_78 ?_
      refine nv_iconst hX (m := 1) (by decide) dX4_fireOnce_79 ?_
      first | refine nv_iadd hX dX4_fireOnce_80 ?_ | refine rv_iadd hX dX4_fireOnce_80 ?_
      refine nv_iconst hX (m := 3) (by decide) dX4_fireOnce_81 ?_
      refine mv_copyE hX iX4_144 hG (j1 := 40) (j2 := 18) ⟨by decide, by decide, rfl, by decide⟩ ⟨by decide, by decide, rfl, by decide⟩ (show _ ≤ 3 by omega) (show _ ≤ 20800 by omega) (Or.inl (by decide)) (by omega) rfl (Nat.le_of_ble_eq_true rfl) dX4_fireOnce_82 (fun τ_82 h_82 => ?_)
      refine rv_istore_n hX dX4_fireOnce_85 (rv_st_3 rfl) ?_
      refine rv_aload_n hX dX4_fireOnce_86 rfl ?_
      refine mv_ga hX (k := 1) (j := 1) gX4_7_X4 (by decide) rfl (by decide) dX4_fireOnce_87 ?_
      refine nv_bipush hX (m := 10) (by decide) dX4_fireOnce_90 ?_
      refine rv_dup2 hX dX4_fireOnce_92 rfl rfl ?_
      refine mv_ld hX (j := 1) (by decide) (by decide) rfl (by decide) (show _ < 11 by omega) dX4_fireOnce_93 ?_
      rw [h_82.2.2.2.1 1 (by decide), show (rv_sU υ0 18 (4 * s.w.E.length) (nI C.num)).2.1 1 10 = nI s.w.E.length from hE10]
      refine nv_iconst hX (m := 1) (by decide) dX4_fireOnce_94 ?_
      first | refine nv_iadd hX dX4_fireOnce_95 ?_ | refine rv_iadd hX dX4_fireOnce_95 ?_
      refine mv_st hX (j := 1) (by decide) (by decide) rfl (by decide) (show _ < 11 by omega) dX4_fireOnce_96 ?_
      have hsv : rv_same [31, 32, 33, 34, 52, 53, 54] [1, 18, 26, 27, 28, 29, 40] τ_2 (rv_sU τ_82 1 10 (nI (s.w.E.length + 1))) := (((hs.mn (by decide) (by decide)).tr (.u (by decide))).tr (h_82.2.2.mn (by decide) (by decide))).tr (.u (by decide))
      have h1' : ∀ i, (rv_sU τ_82 1 10 (nI (s.w.E.length + 1))).2.1 1 i = if i = 10 then nI (s.w.E.length + 1) else if i = 8 then nI (k + 1) else τ_2.2.1 1 i := fun i => by
        rw [rv_sU_2]
        by_cases q : i = 10
        · rw [if_pos ⟨rfl, q⟩, if_pos q]
        · rw [if_neg (fun a => q a.2), if_neg q, h_82.2.2.2.1 1 (by decide), ← h1]
          rfl
      have g18 : ∀ i, (rv_sU τ_82 1 10 (nI (s.w.E.length + 1))).2.1 18 i = τ_82.2.1 18 i := fun i => by rw [rv_sU_2, if_neg (fun q => absurd q.1 (by decide))]
      have h18 : ∀ i, i < 4 * s.w.E.length → (rv_sU τ_82 1 10 (nI (s.w.E.length + 1))).2.1 18 i = τ_2.2.1 18 i := fun i hi => by
        rw [g18, h_82.2.1 i (Or.inl (by omega)), rv_sU_2, if_neg (fun q => by have := q.2; omega), hs.2.1 18 (by decide)]
      have hen : (rv_sU τ_82 1 10 (nI (s.w.E.length + 1))).2.1 18 (4 * s.w.E.length) = nI C.num ∧ (rv_sU τ_82 1 10 (nI (s.w.E.length + 1))).2.1 18 (4 * s.w.E.length + 1) = nI a.2.2.2.1 ∧ (rv_sU τ_82 1 10 (nI (s.w.E.length + 1))).2.1 18 (4 * s.w.E.length + 2) = nI a.2.2.2.2.1 ∧ (rv_sU τ_82 1 10 (nI (s.w.E.length + 1))).2.1 18 (4 * s.w.E.length + 3) = nI a.2.2.2.2.2 := by
        refine ⟨?_, ?_, ?_, ?_⟩
        · rw [g18, h_82.2.1 _ (Or.inl (by omega)), rv_sU_2, if_pos ⟨rfl, rfl⟩]
        · rw [g18, show 4 * s.w.E.length + 1 = 4 * s.w.E.length + 1 + 0 from rfl, h_82.1 0 (by decide), rv_sU_2, if_neg (fun q => absurd q.1 (by decide))]; exact hbf.2.1
        · rw [g18, show 4 * s.w.E.length + 2 = 4 * s.w.E.length + 1 + 1 from rfl, h_82.1 1 (by decide), rv_sU_2, if_neg (fun q => absurd q.1 (by decide))]; exact hbf.2.2.1
        · rw [g18, show 4 * s.w.E.length + 3 = 4 * s.w.E.length + 1 + 2 from rfl, h_82.1 2 (by decide), rv_sU_2, if_neg (fun q => absurd q.1 (by decide))]; exact hbf.2.2.2
      have h54 : (rv_sU τ_82 1 10 (nI (s.w.E.length + 1))).1 54 = nI a.2.2.1 := by
        show τ_82.1 54 = _
        rw [h_82.2.2.1 54 (by decide)]
        exact hbf.1
      have hdB' : mBody (rv_sU τ_82 1 10 (nI (s.w.E.length + 1))) (10 + a.1) C := ((hdB.same (fs := []) (js := [18]) (.u (by decide)) (by decide)).same h_82.2.2 (by decide)).same (fs := []) (js := [1]) (.u (by decide)) (by decide)
      clear g18 hdB hbf hE10 h1 hs
      generalize rv_sU τ_82 1 10 (nI (s.w.E.length + 1)) = υ at hsv h1' h18 hen h54 hdB'
      have hCw := (hDD.2.1 C (List.mem_of_getElem? a3))
      have htv := hwP.tv hng
      have htag : a.2.2.2.1 < 2000000 ∧ a.2.2.2.2.1 < 2000000 ∧ a.2.2.2.2.2 < 2000000 := by
        rw [a6]
        exact ⟨sp_tagk_lt htv (by decide), sp_tagk_lt htv (by decide), sp_tagk_lt htv (by decide)⟩
      have hfact : sp_faultN s.w.S a.2.2.1 = 0 ∧ a.2.2.1 < 8000000 ∧ a.2.2.1 / 1000000 = C.rel := by
        rw [a6]
        exact sp_key_ok hS3 hCw.1 a5
      have hent : mEnt υ (s.w.E ++ [(C.num, a.2.2.2.1, a.2.2.2.2.1, a.2.2.2.2.2)]) := fun i e he => by
        by_cases q : i = s.w.E.length
        · rw [q, List.getElem?_append_right (Nat.le_refl _), Nat.sub_self] at he
          cases he
          rw [q]
          have hn9 := hCw.1.num
          exact ⟨hen, by show C.num < 2000000; omega, htag⟩
        · have hk9 := (List.getElem?_eq_some_iff.mp he).1
          rw [List.length_append] at hk9
          have hk8 : i < s.w.E.length + 1 := hk9
          rw [List.getElem?_append_left (by omega)] at he
          exact (s1.1.2.keep h18 (Nat.le_refl _)) i e he
      have W1 : mW0 υ ((s.w.setK (s.w.K.take (k + 1))).setE (s.w.E ++ [(C.num, a.2.2.2.1, a.2.2.2.2.1, a.2.2.2.2.2)])) := s1.1.1.chKE hsv (by decide) (fun i i8 i10 => by rw [h1', if_neg i10, if_neg i8]) hkK (by rw [h1', if_neg (by decide), if_pos rfl]) (by rw [h1', if_pos rfl, List.length_append]; rfl) (by rw [List.length_append]; show s.w.E.length + 1 ≤ 5000; omega)
      have hfire : s.w.fire1 = match (s.w.fireW k a C).stl with
          | none => (-2, s.w)
          | some w' => (nI C.num, w') := by
        unfold wW.fire1
        rw [hk, a2]
        show (match ((some a).bind (fun a => (s.w.D[a.1]?).map (fun C => (a, C)))) with | none => _ | some (a, C) => _) = _
        show (match ((s.w.D[a.1]?).map (fun C => (a, C))) with | none => _ | some (a, C) => _) = _
        rw [a3]
        rfl
      obtain ⟨dep, hdp⟩ := s1.2.2.2
      have hdp2 := hdp.same hsv (by decide)
      have hdr2 := s1.2.1.same hsv (by decide) (by decide)
      have hbg2 := s1.2.2.1.keep hsv (by decide) (by decide) h18 hB
      have hsv2 := s2.keep hsv (by decide) h18 (Nat.le_refl _)
      have h0υ : υ.1 0 = σ.1 0 := by rw [hsv.1 0 (by decide), s3.1 0 (by decide)]
      have fin : ∀ (υ' : rv_S) (T : List (Nat × Nat)), rv_same [] [1, 13, 14] υ υ' → (∀ i, i ≠ 5 → υ'.2.1 1 i = υ.2.1 1 i) → mTl υ' T → ((s.w.setK (s.w.K.take (k + 1))).setE (s.w.E ++ [(C.num, a.2.2.2.1, a.2.2.2.2.1, a.2.2.2.2.2)])).setT T = s.w.fireW k a C → rv_V X (rv_mh Hb o υ') 143 [some (.ref o), some (.int (nI k)), some (.int (nI (10 + a.1))), some (.int (nI (4 * s.w.E.length + 1 + 3)))] [] := by
        intro υ' T f1 f2 f3 f4
        have W2 : mW0 υ' (s.w.fireW k a C) := by rw [← f4]; exact W1.chT f1 (by decide) f2 f3
        have hE2 : (s.w.fireW k a C).E = s.w.E ++ [(C.num, a.2.2.2.1, a.2.2.2.2.1, a.2.2.2.2.2)] := rfl
        refine rv_aload_n hX dX4_fireOnce_143 rfl ?_
        refine mv_callz hX iX4_284 rfl mdX4_settle (m_settleW hG (d := d - 1) (by omega) W2 hst (hwP.st hng) ⟨dep, hdp2.same f1 (by decide)⟩) (by omega) rfl rfl (Nat.le_of_ble_eq_true rfl) dX4_fireOnce_144 (fun r_144 τ_144 h_144 => ?_)
        obtain ⟨q1, q2, q3⟩ := h_144
        first | refine zv_if_ne hX 158 dX4_fireOnce_147 (by decide) (fun c_147 => ?_) (fun c_147 => ?_) | refine nv_if_ne hX 158 (by omega) dX4_fireOnce_147 (by decide) (fun c_147 => ?_) (fun c_147 => ?_) | refine rv_if_ne hX 158 dX4_fireOnce_147 (by decide) (fun c_147 => ?_) (fun c_147 => ?_)
        · skip
          obtain ⟨w', hst1, hw1⟩ : ∃ w', (s.w.fireW k a C).stl = some w' ∧ mW0 τ_144 w' := by
            rcases q3 with ⟨-, r2⟩ | ⟨r1, -⟩
            · exact r2
            · exact absurd (r1.symm.trans c_147) (by decide)
          rw [hst1] at hfire
          obtain ⟨F9, -, rfl⟩ := wW.stl_spec hst1
          have hall := (f1.mn (fs' := [29, 30, 31, 32, 33, 34, 39]) (js' := [1, 13, 14, 15, 16, 22, 23, 24, 25, 26, 27, 28, 29, 30, 31, 32, 33, 34]) (by decide) (by decide)).tr (q1.mn (by decide) (by decide))
          refine rv_aload_n hX dX4_fireOnce_158 rfl ?_
          refine mv_ga hX (k := 3) (j := 3) gX4_16_X4 (by decide) rfl (by decide) dX4_fireOnce_159 ?_
          refine rv_iload_n hX dX4_fireOnce_162 rfl ?_
          refine mv_ld hX (j := 3) (by decide) (by decide) rfl (by decide) (show _ < 17 by omega) dX4_fireOnce_163 ?_
          rw [(hdB'.same hall (by decide)).num]
          refine mv_reti hX hE dX4_fireOnce_164 ?_
          rw [hfire]
          obtain ⟨dep3, hd3⟩ := q2
          exact ⟨rfl, ⟨⟨hw1, (hent.same hall (by decide))⟩, hdr2.same hall (by decide) (by decide), hbg2.same hall (by decide) (by decide), dep3, hd3⟩, by rw [hall.1 0 (by decide)]; exact h0υ⟩
        · skip
          have hno : (s.w.fireW k a C).stl = none := by
            rcases q3 with ⟨r1, -⟩ | ⟨-, r2⟩
            · exact absurd (r1.symm.trans c_147) (by decide)
            · exact r2
          rw [hno] at hfire
          refine rv_aload_n hX dX4_fireOnce_150 rfl ?_
          refine nv_iconst hX (m := 3) (by decide) dX4_fireOnce_151 ?_
          refine mv_callv hX iX4_287 rfl mdX4_bringBack (m_bringW hG (d := d - 1) (by omega) (i := 3) (w := s.w) (Nat.le_refl _) ((hsv2.same f1 (by decide)).same q1 (by decide))) (by omega) rfl rfl (Nat.le_of_ble_eq_true rfl) dX4_fireOnce_152 (fun τ_152 h_152 => ?_)
          obtain ⟨r1, r2, r3⟩ := h_152
          refine rv_bipush hX (v := -2) dX4_fireOnce_155 (by decide) ?_
          refine mv_reti hX hE dX4_fireOnce_157 ?_
          rw [hfire]
          have hall := (f1.mn (fs' := [29, 30, 31, 32, 33, 34, 39]) (js' := [1, 13, 14, 15, 16, 22, 23, 24, 25, 26, 27, 28, 29, 30, 31, 32, 33, 34]) (by decide) (by decide)).tr (q1.mn (by decide) (by decide))
          exact ⟨rfl, ⟨r1, r3 _ _ (hdr2.same hall (by decide) (by decide)), (hbg2.same hall (by decide) (by decide)).same r2 (by decide) (by decide), dep, (hdp2.same hall (by decide)).same r2 (by decide)⟩, by rw [r2.1 0 (by decide), hall.1 0 (by decide)]; exact h0υ⟩
      have hT61 := W1.tl.2.1
      refine rv_aload_n hX dX4_fireOnce_97 rfl ?_
      refine mv_ga hX (k := 12) (j := 12) gX4_43_X4 (by decide) rfl (by decide) dX4_fireOnce_98 ?_
      refine rv_iload_n hX dX4_fireOnce_101 rfl ?_
      refine mv_ld hX (j := 12) (by decide) (by decide) rfl (by decide) (show _ < 17 by omega) dX4_fireOnce_102 ?_
      rw [hdB'.tells]
      refine nv_iconst hX (m := 1) (by decide) dX4_fireOnce_103 ?_
      first | refine nv_icmp_ne hX 119 (by omega) (by omega) dX4_fireOnce_104 (by decide) (fun c_104 => ?_) (fun c_104 => ?_) | refine rv_icmp_ne hX 119 dX4_fireOnce_104 (by decide) (fun c_104 => ?_) (fun c_104 => ?_)
      · skip
        have htl : C.tells = false := by
          cases e : C.tells with
          | false => rfl
          | true => rw [e] at c_104; exact absurd rfl c_104
        refine rv_aload_n hX dX4_fireOnce_119 rfl ?_
        refine rv_aload_n hX dX4_fireOnce_120 rfl ?_
        refine mv_gi hX (k := 54) gX4_426_X4 (by decide) rfl dX4_fireOnce_121 ?_
        rw [h54]
        refine mv_calli hX iX4_269 rfl mdX4_toldAt (m_toldAt hG (d := d - 1) W1.tl hfact.2.1) (by omega) rfl rfl (Nat.le_of_ble_eq_true rfl) dX4_fireOnce_124 (fun r_124 τ_124 h_124 => ?_)
        obtain ⟨e124, x, hx, rfl⟩ := h_124
        rw [e124]
        have hx' := hx.fn hwP.2.2.2.1.1
        have hxl := hx.mem.2
        have hmx := rv_oi_m1 (x := x) (fun a e => by have := hxl a e; omega)
        refine rv_iconst hX (v := -1) dX4_fireOnce_127 (by decide) ?_
        first | refine nv_icmp_eq hX 143 (by omega) (by omega) dX4_fireOnce_128 (by decide) (fun c_128 => ?_) (fun c_128 => ?_) | refine rv_icmp_eq hX 143 dX4_fireOnce_128 (by decide) (fun c_128 => ?_) (fun c_128 => ?_)
        · skip
          first
          | exact hfin
          | (refine fin _ _ t1 t2 t4 ?_
             unfold wW.fireW
             rw [if_neg (by rw [htl]; decide), show sp_at s.w.T a.2.2.1 = some j from hx'.symm]
             rfl)
          | (refine fin _ s.w.T .rf (fun _ _ => rfl) W1.tl ?_
             unfold wW.fireW
             rw [if_neg (by rw [htl]; decide), show sp_at s.w.T a.2.2.1 = none from hx'.symm.trans (hmx.mp c_128)])
        · skip
          refine rv_aload_n hX dX4_fireOnce_131 rfl ?_
          refine rv_aload_n hX dX4_fireOnce_132 rfl ?_
          refine rv_aload_n hX dX4_fireOnce_133 rfl ?_
          refine mv_gi hX (k := 54) gX4_426_X4 (by decide) rfl dX4_fireOnce_134 ?_
          rw [h54]
          refine mv_calli hX iX4_269 rfl mdX4_toldAt (m_toldAt hG (d := d - 1) W1.tl hfact.2.1) (by omega) rfl rfl (Nat.le_of_ble_eq_true rfl) dX4_fireOnce_137 (fun r_137 τ_137 h_137 => ?_)
          obtain ⟨e137, x2, hx2, rfl⟩ := h_137
          rw [e137]
          have hx2' := (hx2.fn hwP.2.2.2.1.1).trans hx'.symm
          subst hx2'
          obtain ⟨j, rfl⟩ : ∃ j, x2 = some j := by
            cases x2 with
            | none => exact absurd rfl c_128
            | some j => exact ⟨j, rfl⟩
          rw [show rv_oi (some j) = nI j from rfl]
          refine mv_callv hX iX4_290 rfl mdX4_takeFact (m_takeFact hG (d := d - 1) W1.tl (hxl j rfl)) (by omega) rfl rfl (Nat.le_of_ble_eq_true rfl) dX4_fireOnce_140 (fun τ_140 h_140 => ?_)
          obtain ⟨t1, t2, t4⟩ := h_140
          first
          | exact hfin
          | (refine fin _ _ t1 t2 t4 ?_
             unfold wW.fireW
             rw [if_neg (by rw [htl]; decide), show sp_at s.w.T a.2.2.1 = some j from hx'.symm]
             rfl)
          | (refine fin _ s.w.T .rf (fun _ _ => rfl) W1.tl ?_
             unfold wW.fireW
             rw [if_neg (by rw [htl]; decide), show sp_at s.w.T a.2.2.1 = none from hx'.symm.trans (hmx.mp c_128)])
      · skip
        have htl : C.tells = true := by
          cases e : C.tells with
          | true => rfl
          | false => rw [e] at c_104; exact absurd c_104 (by decide)
        refine rv_aload_n hX dX4_fireOnce_107 rfl ?_
        refine rv_aload_n hX dX4_fireOnce_108 rfl ?_
        refine mv_gi hX (k := 54) gX4_426_X4 (by decide) rfl dX4_fireOnce_109 ?_
        rw [h54]
        refine nv_iconst hX (m := 0) (by decide) dX4_fireOnce_112 ?_
        refine mv_callv hX iX4_278 rfl mdX4_tellFact (m_tellFact hG (d := d - 1) (by omega) W1.tl hb6.1 hfact.2.1 (by decide)) (by omega) rfl rfl (Nat.le_of_ble_eq_true rfl) dX4_fireOnce_113 (fun τ_113 h_113 => ?_)
        obtain ⟨t1, t2, T', t3, t4⟩ := h_113
        have e113 : T' = sp_tellF s.w.T a.2.2.1 0 := t3.fn hwP.2.2.2.1.1
        subst e113
        have hfin := fin _ _ t1 t2 t4 (by unfold wW.fireW; rw [if_pos htl])
        refine rv_goto hX 143 dX4_fireOnce_116 (by decide) ?_
        first
        | exact hfin
        | (refine fin _ _ t1 t2 t4 ?_
           unfold wW.fireW
           rw [if_neg (by rw [htl]; decide), show sp_at s.w.T a.2.2.1 = some j from hx'.symm]
           rfl)
        | (refine fin _ s.w.T .rf (fun _ _ => rfl) W1.tl ?_
           unfold wW.fireW
           rw [if_neg (by rw [htl]; decide), show sp_at s.w.T a.2.2.1 = none from hx'.symm.trans (hmx.mp c_128)])
    · skip
      exact absurd c_31 (nI_m1 (by omega))
      --done
  · skip
    have hxn := hm1.mp c_18
    refine nv_iconst hX (m := 1) (by decide) dX4_fireOnce_21 ?_
    refine rv_goto hX 28 dX4_fireOnce_22 (by decide) ?_
    refine mv_st hX (j := 1) (by decide) (by decide) rfl (by decide) (show _ < 11 by omega) dX4_fireOnce_28 ?_
    refine rv_iload_n hX dX4_fireOnce_29 rfl ?_
    refine rv_iconst hX (v := -1) dX4_fireOnce_30 (by decide) ?_
    first | refine nv_icmp_ne hX 36 (by omega) (by omega) dX4_fireOnce_31 (by decide) (fun c_31 => ?_) (fun c_31 => ?_) | refine rv_icmp_ne hX 36 dX4_fireOnce_31 (by decide) (fun c_31 => ?_) (fun c_31 => ?_)
    · skip
      exact absurd c_18 c_31
      --done
    · skip
      refine rv_iconst hX (v := -1) dX4_fireOnce_34 (by decide) ?_
      refine mv_reti hX hE dX4_fireOnce_35 ?_
      have hf1 : s.w.fire1 = (-1, s.w.setK (s.w.K.take 1)) := by unfold wW.fire1; rw [hxn]
      rw [hf1]
      obtain ⟨dep, hdp⟩ := s1.2.2.2
      have hs : rv_same [31, 32, 33, 34, 52, 53, 54] [1, 26, 27, 28, 29, 40] τ_2 (rv_sU τ_6 1 8 (nI 1)) := (b1.mn (by decide) (by decide)).tr (.u (by decide))
      have h1 : ∀ i, (rv_sU τ_6 1 8 (nI 1)).2.1 1 i = if i = 8 then nI 1 else τ_2.2.1 1 i := fun i => by
        rw [rv_sU_2]
        by_cases q : i = 8
        · rw [if_pos ⟨rfl, q⟩, if_pos q]
        · rw [if_neg (fun a => q a.2), if_neg q, b1.2.1 1 (by decide)]
      refine ⟨rfl, ⟨⟨s1.1.1.chKE (k := 0) (E := s.w.E) hs (by decide) (fun i i8 i10 => by rw [h1, if_neg i8]) hK8.1 (by rw [h1, if_pos rfl]) (by rw [h1, if_neg (by decide)]; exact s1.1.1.fd.1) (by omega), s1.1.2.same hs (by decide)⟩, s1.2.1.same hs (by decide) (by decide), s1.2.2.1.same hs (by decide) (by decide), dep, hdp.same hs (by decide)⟩, ?_⟩
      rw [hs.1 0 (by decide), s3.1 0 (by decide)]
