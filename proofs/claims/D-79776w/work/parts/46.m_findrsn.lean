/-! THE REFERENCE: the reasons of a fact -/
set_option maxRecDepth 100000
def sp_firstR (R : List sp_C) (F : List Nat) (dep : Nat → Nat) (f dp : Nat) (j : Nat) (L : List Nat) : Prop := ∃ C, R[j]? = some C ∧ sp_why1 F C dep f dp = some L ∧ ∀ i D, i < j → R[i]? = some D → sp_why1 F D dep f dp = none
def sp_noR (R : List sp_C) (F : List Nat) (dep : Nat → Nat) (f dp : Nat) : Prop := ∀ C, C ∈ R → sp_why1 F C dep f dp = none
/-- the reasons of a fact: the place of the rule, and facts -/
def sp_rsn (R : List sp_C) (F : List Nat) (T : List (Nat × Nat)) (f : Nat) (x : Option Nat) (L : List Nat) : Prop :=
  ((f ∉ F ∨ f ∈ T.map (fun p => p.1)) ∧ x = none ∧ L = []) ∨ (f ∉ T.map (fun p => p.1) ∧ ∃ k dep, F[k]? = some f ∧ sp_isd R F (T.map (fun p => p.1)) dep ∧ (∀ i, dep i ≤ 1000000) ∧ ((∃ j, x = some j ∧ sp_firstR R F dep f (dep k) j L) ∨ (x = none ∧ L = [] ∧ sp_noR R F dep f (dep k))))
theorem sp_tAt.mem {T : List (Nat × Nat)} {f : Nat} {x : Option Nat} (h : sp_tAt T f x) : (x = none ↔ f ∉ T.map (fun p => p.1)) ∧ ∀ a, x = some a → a < T.length := by
  rcases h with ⟨q1, q2⟩ | ⟨j, p, q1, q2, q3⟩
  · refine ⟨⟨fun _ hm => ?_, fun _ => q1⟩, fun a e => (by rw [q1] at e; cases e)⟩
    obtain ⟨p, hp, e3⟩ := List.mem_map.mp hm
    obtain ⟨j, hj⟩ := List.getElem?_of_mem hp
    exact q2 j p hj e3
  · refine ⟨⟨fun e => (by rw [q1] at e; cases e), fun hm => absurd (List.mem_map.mpr ⟨p, List.mem_of_getElem? q2, q3⟩) hm⟩, fun a e => ?_⟩
    rw [q1] at e
    cases e
    exact (List.getElem?_eq_some_iff.mp q2).1
theorem m_findReasons {G : rv_G} (hG : rv_GK G) {d : Nat} (hd : 9 ≤ d) {σ : rv_S} {S F : List Nat} {T : List (Nat × Nat)} {R : List sp_C} {dep0 : Nat → Nat} {f : Nat} (hR : mRules σ S R) (hF : mFacts σ F) (hsr : sp_srt F) (h60 : F.length ≤ 60) (hT : mTl σ T) (hcl : ∀ C, C ∈ R → ∀ f, f ∈ sp_give F C → f ∈ F) (hdp : mDep σ dep0) (hf : f < 8000000) : mC G d yX4_findReasons wX4_findReasons [.int (nI f)] σ (mPi (fun r τ => rv_same [31, 32, 33, 34, 39, 48] [26, 27, 28, 29, 30, 31, 32, 33, 34, 35, 37] σ τ ∧ (∃ dep, mDep τ dep) ∧ ∃ x L, sp_rsn R F T f x L ∧ r = rv_oi x ∧ mRsn τ L)) := by
  refine mv_start hG (by decide +kernel) (Nat.le_of_ble_eq_true rfl) (fun X Hb o hX1 hX hE => ?_)
  subst hX1
  show rv_V X (rv_mh Hb o _) 0 [some (.ref o), some (.int (nI f)), none, none] []
  have hR10 := hR.2.2.1
  have hT61 := hT.2.1
  have hZ : rv_same [48] [] σ (rv_sF σ 48 (nI 0)) := .f (by decide)
  have hZ2 := hZ.mn (fs' := [31, 32, 33, 34, 39, 48]) (js' := [26, 27, 28, 29, 30, 31, 32, 33, 34, 35, 37]) (by decide) (by decide)
  have hR0 : mRsn (rv_sF σ 48 (nI 0)) [] := ⟨by rw [rv_sF_1, if_pos rfl]; rfl, fun k g e => by cases e⟩
  have loop : f ∉ T.map (fun p => p.1) → ∀ (k : Nat) (dep : Nat → Nat), F[k]? = some f → sp_isd R F (T.map (fun p => p.1)) dep → ∀ (n j : Nat) (τ : rv_S), j ≤ R.length → R.length - j < n → rv_same [31, 32, 33, 34, 39, 48] [26, 27, 28, 29, 30, 31, 32, 33, 34, 35, 37] σ τ → mDep τ dep → mRsn τ [] → (∀ i D, i < j → R[i]? = some D → sp_why1 F D dep f (dep k) = none) → rv_V X (rv_mh Hb o τ) 33 [some (.ref o), some (.int (nI f)), some (.int (nI k)), some (.int (nI j))] [] := by
    intro hnt k dep hk hisd n
    have hk60 := (List.getElem?_eq_some_iff.mp hk).1
    induction n with
    | zero => intro j τ h1 h2; omega
    | succ n ih =>
      intro j τ h1 h2 h3 h4 h5 h6
      have hRv := hR.same h3 (by decide)
      have hdk := h4.2 k
      refine rv_iload_n hX dX4_findReasons_33 rfl ?_
      refine rv_aload_n hX dX4_findReasons_34 rfl ?_
      refine mv_ga hX (k := 1) (j := 1) gX4_7_X4 (by decide) rfl (by decide) dX4_findReasons_35 ?_
      refine nv_iconst hX (m := 1) (by decide) dX4_findReasons_38 ?_
      refine mv_ld hX (j := 1) (by decide) (by decide) rfl (by decide) (show _ < 11 by omega) dX4_findReasons_39 ?_
      rw [hRv.2.1]
      first | refine nv_icmp_ge hX 66 (by omega) (by omega) dX4_findReasons_40 (by decide) (fun c_40 => ?_) (fun c_40 => ?_) | refine rv_icmp_ge hX 66 dX4_findReasons_40 (by decide) (fun c_40 => ?_) (fun c_40 => ?_)
      · skip
        refine rv_iconst hX (v := -1) dX4_findReasons_66 (by decide) ?_
        refine mv_reti hX hE dX4_findReasons_67 ?_
        refine ⟨h3, ⟨dep, h4⟩, none, [], Or.inr ⟨hnt, k, dep, hk, hisd, h4.2, Or.inr ⟨rfl, rfl, fun C hC => ?_⟩⟩, rfl, h5⟩
        obtain ⟨i, hi⟩ := List.getElem?_of_mem hC
        exact h6 i C (by have := (List.getElem?_eq_some_iff.mp hi).1; omega) hi
      · skip
        obtain ⟨C, hC⟩ : ∃ C, R[j]? = some C := ⟨R[j], List.getElem?_eq_getElem (by omega)⟩
        obtain ⟨hB, hw⟩ := hRv.2.2.2 j C hC
        have hCm := List.mem_of_getElem? hC
        refine rv_aload_n hX dX4_findReasons_43 rfl ?_
        refine rv_iload_n hX dX4_findReasons_44 rfl ?_
        refine rv_iload_n hX dX4_findReasons_45 rfl ?_
        refine rv_aload_n hX dX4_findReasons_46 rfl ?_
        refine mv_ga hX (k := 45) (j := 35) gX4_113_X4 (by decide) rfl (by decide) dX4_findReasons_47 ?_
        refine rv_iload_n hX dX4_findReasons_50 rfl ?_
        refine mv_ld hX (j := 35) (by decide) (by decide) rfl (by decide) (show _ < 62 by omega) dX4_findReasons_51 ?_
        rw [h4.1 k (by omega)]
        refine mv_callz hX iX4_351 rfl mdX4_givesWith (m_givesWith hG (d := d - 1) (by omega) ⟨hRv.1, hF.same h3 (by decide) (by decide), hB, hw, by omega⟩ hsr h60 (hcl C hCm) h4 hf (h4.2 k)) (by omega) rfl rfl (Nat.le_of_ble_eq_true rfl) dX4_findReasons_52 (fun r_52 τ_52 h_52 => ?_)
        obtain ⟨w1, w2, w3⟩ := h_52
        first | refine zv_if_eq hX 60 dX4_findReasons_55 (by decide) (fun c_55 => ?_) (fun c_55 => ?_) | refine nv_if_eq hX 60 (by omega) dX4_findReasons_55 (by decide) (fun c_55 => ?_) (fun c_55 => ?_) | refine rv_if_eq hX 60 dX4_findReasons_55 (by decide) (fun c_55 => ?_) (fun c_55 => ?_)
        · skip
          first | refine nv_iinc hX (m := 1) dX4_findReasons_60 rfl (by decide) (rv_st_3 rfl) ?_ | refine rv_iinc hX dX4_findReasons_60 rfl rfl (rv_st_3 rfl) ?_
          refine rv_goto hX 33 dX4_findReasons_63 (by decide) ?_
          rw [c_55] at w2
          have hno : sp_why1 F C dep f (dep k) = none := by
            cases e : sp_why1 F C dep f (dep k) with
            | none => rfl
            | some L => rw [e] at w2; cases w2
          rw [hno] at w3
          refine ih (j + 1) _ (by omega) (by omega) (h3.tr (w1.mn (by decide) (by decide))) (h4.same w1 (by decide)) w3 (fun i D hi hD => ?_)
          by_cases q : i = j
          · subst q
            rw [hC] at hD
            cases hD
            exact hno
          · exact h6 i D (by omega) hD
        · skip
          refine rv_iload_n hX dX4_findReasons_58 rfl ?_
          refine mv_reti hX hE dX4_findReasons_59 ?_
          rw [c_55] at w2
          obtain ⟨L, hL⟩ := Option.isSome_iff_exists.mp w2.symm
          rw [hL] at w3
          exact ⟨h3.tr (w1.mn (by decide) (by decide)), ⟨dep, h4.same w1 (by decide)⟩, some j, L, Or.inr ⟨hnt, k, dep, hk, hisd, h4.2, Or.inl ⟨j, rfl, C, hC, hL, h6⟩⟩, rfl, w3⟩
  refine rv_aload_n hX dX4_findReasons_0 rfl ?_
  refine nv_iconst hX (m := 0) (by decide) dX4_findReasons_1 ?_
  refine mv_pi hX (k := 48) pX4_344_X4 (by decide) rfl rfl rfl dX4_findReasons_2 ?_
  refine rv_aload_n hX dX4_findReasons_5 rfl ?_
  refine rv_iload_n hX dX4_findReasons_6 rfl ?_
  refine mv_calli hX iX4_192 rfl mdX4_indexOf (m_indexOf hG (d := d - 1) (hF.same hZ (by decide) (by decide)) hf) (by omega) rfl rfl (Nat.le_of_ble_eq_true rfl) dX4_findReasons_7 (fun r_7 τ_7 h_7 => ?_)
  obtain ⟨rfl, hr⟩ := h_7
  refine rv_istore_n hX dX4_findReasons_10 (rv_st_2 rfl) ?_
  refine rv_iload_n hX dX4_findReasons_11 rfl ?_
  refine rv_iconst hX (v := -1) dX4_findReasons_12 (by decide) ?_
  first | refine nv_icmp_eq hX 25 (by omega) (by omega) dX4_findReasons_13 (by decide) (fun c_13 => ?_) (fun c_13 => ?_) | refine rv_icmp_eq hX 25 dX4_findReasons_13 (by decide) (fun c_13 => ?_) (fun c_13 => ?_)
  · skip
    refine rv_iconst hX (v := -1) dX4_findReasons_25 (by decide) ?_
    refine mv_reti hX hE dX4_findReasons_26 ?_
    first
      | (refine ⟨hZ2, ⟨dep0, hdp.same hZ (by decide)⟩, none, [], Or.inl ⟨Or.inr ?_, rfl, rfl⟩, rfl, hR0⟩
         obtain ⟨q1, q2⟩ := hx.mem
         by_cases e : f ∈ T.map (fun p => p.1)
         · exact e
         · have := q1.mpr e
           subst this
           exact absurd rfl c_22)
      | (refine ⟨hZ2, ⟨dep0, hdp.same hZ (by decide)⟩, none, [], Or.inl ⟨Or.inl ?_, rfl, rfl⟩, rfl, hR0⟩
         rcases hr with ⟨g1, g2⟩ | ⟨k, g1, g2⟩
         · exact g1
         · have := (List.getElem?_eq_some_iff.mp g1).1
           rw [g2] at c_13
           exact absurd c_13 (nI_m1 (by omega)))
  · skip
    refine rv_aload_n hX dX4_findReasons_16 rfl ?_
    refine rv_iload_n hX dX4_findReasons_17 rfl ?_
    refine mv_calli hX iX4_269 rfl mdX4_toldAt (m_toldAt hG (d := d - 1) (hT.same2 hZ rfl (by decide)) hf) (by omega) rfl rfl (Nat.le_of_ble_eq_true rfl) dX4_findReasons_18 (fun r_18 τ_18 h_18 => ?_)
    obtain ⟨rfl, x, hx, rfl⟩ := h_18
    refine rv_iconst hX (v := -1) dX4_findReasons_21 (by decide) ?_
    first | refine nv_icmp_eq hX 27 (by omega) (by omega) dX4_findReasons_22 (by decide) (fun c_22 => ?_) (fun c_22 => ?_) | refine rv_icmp_eq hX 27 dX4_findReasons_22 (by decide) (fun c_22 => ?_) (fun c_22 => ?_)
    · skip
      obtain ⟨k, hk, rfl⟩ : ∃ k, F[k]? = some f ∧ r_7 = nI k := by
        rcases hr with ⟨g1, g2⟩ | hr
        · exact absurd g2 c_13
        · exact hr
      have hnt : f ∉ T.map (fun p => p.1) := by
        obtain ⟨q1, q2⟩ := hx.mem
        exact q1.mp ((rv_oi_m1 (fun a e => by have := q2 a e; omega)).mp c_22)
      refine rv_aload_n hX dX4_findReasons_27 rfl ?_
      refine mv_callv hX iX4_341 rfl mdX4_findDepths (m_findDepths hG (d := d - 1) (by omega) (hR.same hZ (by decide)) (hF.same hZ (by decide) (by decide)) hsr h60 (hT.same2 hZ rfl (by decide)) hcl (hdp.same hZ (by decide))) (by omega) rfl rfl (Nat.le_of_ble_eq_true rfl) dX4_findReasons_28 (fun τ_28 h_28 => ?_)
      obtain ⟨w1, dep, w2, w3⟩ := h_28
      refine nv_iconst hX (m := 0) (by decide) dX4_findReasons_31 ?_
      refine rv_istore_n hX dX4_findReasons_32 (rv_st_3 rfl) ?_
      exact loop hnt k dep hk w3 _ 0 _ (Nat.zero_le _) (Nat.lt_succ_self _) (hZ2.tr (w1.mn (by decide) (by decide))) w2 (hR0.same w1 (by decide) (by decide)) (fun i D hi => absurd hi (by omega))
    · skip
      refine rv_iconst hX (v := -1) dX4_findReasons_25 (by decide) ?_
      refine mv_reti hX hE dX4_findReasons_26 ?_
      first
        | (refine ⟨hZ2, ⟨dep0, hdp.same hZ (by decide)⟩, none, [], Or.inl ⟨Or.inr ?_, rfl, rfl⟩, rfl, hR0⟩
           obtain ⟨q1, q2⟩ := hx.mem
           by_cases e : f ∈ T.map (fun p => p.1)
           · exact e
           · have := q1.mpr e
             subst this
             exact absurd rfl c_22)
        | (refine ⟨hZ2, ⟨dep0, hdp.same hZ (by decide)⟩, none, [], Or.inl ⟨Or.inl ?_, rfl, rfl⟩, rfl, hR0⟩
           rcases hr with ⟨g1, g2⟩ | ⟨k, g1, g2⟩
           · exact g1
           · have := (List.getElem?_eq_some_iff.mp g1).1
             rw [g2] at c_13
             exact absurd c_13 (nI_m1 (by omega)))
