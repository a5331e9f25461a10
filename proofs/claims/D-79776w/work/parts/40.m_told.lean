/-! THE REFERENCE: faults of facts; what is told -/
set_option maxRecDepth 100000
theorem sp_nI_of {f : Int32} (h : 0 ≤ f) : ∃ n, n < 2147483648 ∧ f = nI n := by
  have h1 : 0 ≤ f.toInt := by
    have := Int32.le_iff_toInt_le.mp h
    simpa using this
  have h2 := Int32.toInt_lt f
  refine ⟨f.toInt.toNat, by omega, ?_⟩
  apply Int32.toInt_inj.mp
  rw [nI_toInt (by omega)]
  omega
theorem sp_nI_neg {f : Int32} (h : ¬ 0 ≤ f) : ∀ n, n < 2147483648 → f ≠ nI n := by
  intro n hn e
  exact h (by rw [e]; exact nI_pos' hn)
/-- the fault of a fact that is not below 0 -/
def sp_faultN (S : List Nat) (n : Nat) : Nat := match S[n / 1000000]? with
  | none => 1
  | some k => if (if k = 1 then n % 10000 else if k = 2 then n % 100 else 0) = 0 then 0 else 2
def sp_fault (S : List Nat) (f : Int32) : Nat := if 0 ≤ f then sp_faultN S f.toInt.toNat else 1
theorem sp_fault_nI {S : List Nat} {n : Nat} (h : n < 2147483648) : sp_fault S (nI n) = sp_faultN S n := by
  unfold sp_fault
  rw [if_pos (nI_pos' h), nI_toInt h]
  rfl
theorem sp_fault_0 {S : List Nat} {f : Int32} (hS : S.length ≤ 8) (h : sp_fault S f = 0) : ∃ n, n < 8000000 ∧ f = nI n ∧ n / 1000000 < S.length ∧ sp_faultN S n = 0 := by
  by_cases h0 : 0 ≤ f
  · obtain ⟨n, hn, e⟩ := sp_nI_of h0
    subst e
    rw [sp_fault_nI hn] at h
    have h' := h
    unfold sp_faultN at h'
    cases e : S[n / 1000000]? with
    | none => rw [e] at h'; cases h'
    | some k =>
      have := (List.getElem?_eq_some_iff.mp e).1
      exact ⟨n, by omega, rfl, this, h⟩
  · unfold sp_fault at h
    rw [if_neg h0] at h
    cases h
theorem sp_fault_le (S : List Nat) (f : Int32) : sp_fault S f ≤ 2 := by
  have h2 : ∀ (p : Prop) [Decidable p], (if p then 0 else 2) ≤ 2 := fun p _ => by
    by_cases h : p
    · rw [if_pos h]; exact Nat.zero_le _
    · rw [if_neg h]; exact Nat.le_refl _
  unfold sp_fault
  by_cases h : 0 ≤ f
  · rw [if_pos h]
    unfold sp_faultN
    cases S[f.toInt.toNat / 1000000]? with
    | none => exact (by decide : 1 ≤ 2)
    | some k => exact h2 _
  · rw [if_neg h]
    decide
theorem m_faultOf {G : rv_G} (hG : rv_GK G) {d : Nat} (hd : 2 ≤ d) {σ : rv_S} {S : List Nat} (hS : mRel σ S) {f : Int32} : mC G d yX4_faultOf wX4_faultOf [.int f] σ (mPi (fun r τ => τ = σ ∧ r = nI (sp_fault S f))) := by
  refine mv_start hG (by decide +kernel) (Nat.le_of_ble_eq_true rfl) (fun X Hb o hX1 hX hE => ?_)
  subst hX1
  show rv_V X (rv_mh Hb o _) 0 [some (.ref o), some (.int f), none, none] []
  have hS8 := hS.2.1
  by_cases h0 : 0 ≤ f
  · obtain ⟨n, hn, e⟩ := sp_nI_of h0
    subst e
    rw [sp_fault_nI hn] at hE
    refine rv_iload_n hX dX4_faultOf_0 rfl ?_
    refine rv_if_ge hX 8 dX4_faultOf_1 (by decide) (fun c_1 => ?_) (fun c_1 => ?_)
    · skip
      refine rv_iload_n hX dX4_faultOf_8 rfl ?_
      refine rv_ldc hX q2291 dX4_faultOf_9 ?_
      rw [show (1000000 : Int32) = nI 1000000 from by decide]
      first | refine nv_idiv hX (by omega) (by omega) (by omega) dX4_faultOf_11 ?_ | refine rv_idiv hX dX4_faultOf_11 (by decide) ?_
      refine rv_istore_n hX dX4_faultOf_12 (rv_st_2 rfl) ?_
      refine rv_aload_n hX dX4_faultOf_13 rfl ?_
      refine rv_iload_n hX dX4_faultOf_14 rfl ?_
      refine mv_callz hX iX4_140 rfl mdX4_isRelation (m_isRelation hG (d := d - 1) (by omega) hS) (by omega) rfl rfl (Nat.le_of_ble_eq_true rfl) dX4_faultOf_15 (fun r_15 τ_15 h_15 => ?_)
      obtain ⟨rfl, hr⟩ := h_15
      first | refine zv_if_ne hX 23 dX4_faultOf_18 (by decide) (fun c_18 => ?_) (fun c_18 => ?_) | refine nv_if_ne hX 23 (by omega) dX4_faultOf_18 (by decide) (fun c_18 => ?_) (fun c_18 => ?_) | refine rv_if_ne hX 23 dX4_faultOf_18 (by decide) (fun c_18 => ?_) (fun c_18 => ?_)
      · skip
        obtain ⟨k, hk1, hk2⟩ := hr.mp c_18
        have hkn : n / 1000000 = k := (nI_eq (by omega) (by omega)).mp hk2
        subst hkn
        obtain ⟨s, hs⟩ : ∃ s, S[n / 1000000]? = some s := ⟨S[n / 1000000], List.getElem?_eq_getElem hk1⟩
        have hs3 := hS.2.2.1 s (List.mem_of_getElem? hs)
        have hsv := hS.2.2.2 _ s hs
        refine rv_aload_n hX dX4_faultOf_23 rfl ?_
        refine mv_ga hX (k := 2) (j := 2) gX4_13_X4 (by decide) rfl (by decide) dX4_faultOf_24 ?_
        refine rv_iload_n hX dX4_faultOf_27 rfl ?_
        refine mv_ld hX (j := 2) (by decide) (by decide) rfl (by decide) (show _ < 8 by omega) dX4_faultOf_28 ?_
        rw [hsv]
        refine nv_iconst hX (m := 1) (by decide) dX4_faultOf_29 ?_
        first | refine nv_icmp_ne hX 41 (by omega) (by omega) dX4_faultOf_30 (by decide) (fun c_30 => ?_) (fun c_30 => ?_) | refine rv_icmp_ne hX 41 dX4_faultOf_30 (by decide) (fun c_30 => ?_) (fun c_30 => ?_)
        · skip
          refine rv_aload_n hX dX4_faultOf_41 rfl ?_
          refine mv_ga hX (k := 2) (j := 2) gX4_13_X4 (by decide) rfl (by decide) dX4_faultOf_42 ?_
          refine rv_iload_n hX dX4_faultOf_45 rfl ?_
          refine mv_ld hX (j := 2) (by decide) (by decide) rfl (by decide) (show _ < 8 by omega) dX4_faultOf_46 ?_
          rw [hsv]
          refine nv_iconst hX (m := 2) (by decide) dX4_faultOf_47 ?_
          first | refine nv_icmp_ne hX 58 (by omega) (by omega) dX4_faultOf_48 (by decide) (fun c_48 => ?_) (fun c_48 => ?_) | refine rv_icmp_ne hX 58 dX4_faultOf_48 (by decide) (fun c_48 => ?_) (fun c_48 => ?_)
          · skip
            refine nv_iconst hX (m := 0) (by decide) dX4_faultOf_58 ?_
            refine rv_istore_n hX dX4_faultOf_59 (rv_st_3 rfl) ?_
            refine rv_iload_n hX dX4_faultOf_60 rfl ?_
            refine rv_if_ne hX 68 dX4_faultOf_61 (by decide) (fun q => absurd q (by decide)) (fun _ => ?_)
            refine nv_iconst hX (m := 0) (by decide) dX4_faultOf_64 ?_
            refine rv_goto hX 69 dX4_faultOf_65 (by decide) ?_
            refine mv_reti hX hE dX4_faultOf_69 ?_
            refine ⟨rfl, ?_⟩
            unfold sp_faultN
            rw [hs]
            show _ = nI (if (if s = 1 then n % 10000 else if s = 2 then n % 100 else 0) = 0 then 0 else 2)
            first
              | (rw [if_pos (show s = 1 by omega), if_pos (by omega)])
              | (rw [if_pos (show s = 1 by omega), if_neg (by omega)])
              | (rw [if_neg (show ¬ s = 1 by omega), if_pos (show s = 2 by omega), if_pos (by omega)])
              | (rw [if_neg (show ¬ s = 1 by omega), if_pos (show s = 2 by omega), if_neg (by omega)])
              | (rw [if_neg (show ¬ s = 1 by omega), if_neg (show ¬ s = 2 by omega), if_pos rfl])
              | (exfalso; omega)
          · skip
            refine rv_iload_n hX dX4_faultOf_51 rfl ?_
            refine nv_bipush hX (m := 100) (by decide) dX4_faultOf_52 ?_
            first | refine nv_irem hX (by omega) (by omega) (by omega) dX4_faultOf_54 ?_ | refine rv_irem hX dX4_faultOf_54 (by decide) ?_
            refine rv_goto hX 59 dX4_faultOf_55 (by decide) ?_
            refine rv_istore_n hX dX4_faultOf_59 (rv_st_3 rfl) ?_
            refine rv_iload_n hX dX4_faultOf_60 rfl ?_
            first | refine zv_if_ne hX 68 dX4_faultOf_61 (by decide) (fun c_61 => ?_) (fun c_61 => ?_) | refine nv_if_ne hX 68 (by omega) dX4_faultOf_61 (by decide) (fun c_61 => ?_) (fun c_61 => ?_) | refine rv_if_ne hX 68 dX4_faultOf_61 (by decide) (fun c_61 => ?_) (fun c_61 => ?_)
            · skip
              refine nv_iconst hX (m := 2) (by decide) dX4_faultOf_68 ?_
              refine mv_reti hX hE dX4_faultOf_69 ?_
              refine ⟨rfl, ?_⟩
              unfold sp_faultN
              rw [hs]
              show _ = nI (if (if s = 1 then n % 10000 else if s = 2 then n % 100 else 0) = 0 then 0 else 2)
              first
                | (rw [if_pos (show s = 1 by omega), if_pos (by omega)])
                | (rw [if_pos (show s = 1 by omega), if_neg (by omega)])
                | (rw [if_neg (show ¬ s = 1 by omega), if_pos (show s = 2 by omega), if_pos (by omega)])
                | (rw [if_neg (show ¬ s = 1 by omega), if_pos (show s = 2 by omega), if_neg (by omega)])
                | (rw [if_neg (show ¬ s = 1 by omega), if_neg (show ¬ s = 2 by omega), if_pos rfl])
                | (exfalso; omega)
            · skip
              refine nv_iconst hX (m := 0) (by decide) dX4_faultOf_64 ?_
              refine rv_goto hX 69 dX4_faultOf_65 (by decide) ?_
              refine mv_reti hX hE dX4_faultOf_69 ?_
              refine ⟨rfl, ?_⟩
              unfold sp_faultN
              rw [hs]
              show _ = nI (if (if s = 1 then n % 10000 else if s = 2 then n % 100 else 0) = 0 then 0 else 2)
              first
                | (rw [if_pos (show s = 1 by omega), if_pos (by omega)])
                | (rw [if_pos (show s = 1 by omega), if_neg (by omega)])
                | (rw [if_neg (show ¬ s = 1 by omega), if_pos (show s = 2 by omega), if_pos (by omega)])
                | (rw [if_neg (show ¬ s = 1 by omega), if_pos (show s = 2 by omega), if_neg (by omega)])
                | (rw [if_neg (show ¬ s = 1 by omega), if_neg (show ¬ s = 2 by omega), if_pos rfl])
                | (exfalso; omega)
        · skip
          refine rv_iload_n hX dX4_faultOf_33 rfl ?_
          refine nv_sipush hX (m := 10000) (by decide) dX4_faultOf_34 ?_
          first | refine nv_irem hX (by omega) (by omega) (by omega) dX4_faultOf_37 ?_ | refine rv_irem hX dX4_faultOf_37 (by decide) ?_
          refine rv_goto hX 59 dX4_faultOf_38 (by decide) ?_
          refine rv_istore_n hX dX4_faultOf_59 (rv_st_3 rfl) ?_
          refine rv_iload_n hX dX4_faultOf_60 rfl ?_
          first | refine zv_if_ne hX 68 dX4_faultOf_61 (by decide) (fun c_61 => ?_) (fun c_61 => ?_) | refine nv_if_ne hX 68 (by omega) dX4_faultOf_61 (by decide) (fun c_61 => ?_) (fun c_61 => ?_) | refine rv_if_ne hX 68 dX4_faultOf_61 (by decide) (fun c_61 => ?_) (fun c_61 => ?_)
          · skip
            refine nv_iconst hX (m := 2) (by decide) dX4_faultOf_68 ?_
            refine mv_reti hX hE dX4_faultOf_69 ?_
            refine ⟨rfl, ?_⟩
            unfold sp_faultN
            rw [hs]
            show _ = nI (if (if s = 1 then n % 10000 else if s = 2 then n % 100 else 0) = 0 then 0 else 2)
            first
              | (rw [if_pos (show s = 1 by omega), if_pos (by omega)])
              | (rw [if_pos (show s = 1 by omega), if_neg (by omega)])
              | (rw [if_neg (show ¬ s = 1 by omega), if_pos (show s = 2 by omega), if_pos (by omega)])
              | (rw [if_neg (show ¬ s = 1 by omega), if_pos (show s = 2 by omega), if_neg (by omega)])
              | (rw [if_neg (show ¬ s = 1 by omega), if_neg (show ¬ s = 2 by omega), if_pos rfl])
              | (exfalso; omega)
          · skip
            refine nv_iconst hX (m := 0) (by decide) dX4_faultOf_64 ?_
            refine rv_goto hX 69 dX4_faultOf_65 (by decide) ?_
            refine mv_reti hX hE dX4_faultOf_69 ?_
            refine ⟨rfl, ?_⟩
            unfold sp_faultN
            rw [hs]
            show _ = nI (if (if s = 1 then n % 10000 else if s = 2 then n % 100 else 0) = 0 then 0 else 2)
            first
              | (rw [if_pos (show s = 1 by omega), if_pos (by omega)])
              | (rw [if_pos (show s = 1 by omega), if_neg (by omega)])
              | (rw [if_neg (show ¬ s = 1 by omega), if_pos (show s = 2 by omega), if_pos (by omega)])
              | (rw [if_neg (show ¬ s = 1 by omega), if_pos (show s = 2 by omega), if_neg (by omega)])
              | (rw [if_neg (show ¬ s = 1 by omega), if_neg (show ¬ s = 2 by omega), if_pos rfl])
              | (exfalso; omega)
      · skip
        refine nv_iconst hX (m := 1) (by decide) dX4_faultOf_21 ?_
        refine mv_reti hX hE dX4_faultOf_22 ?_
        refine ⟨rfl, ?_⟩
        unfold sp_faultN
        cases e : S[n / 1000000]? with
        | none => rfl
        | some k =>
          have hlt := (List.getElem?_eq_some_iff.mp e).1
          have := hr.mpr ⟨_, hlt, rfl⟩
          rw [c_18] at this
          cases this
    · skip
      exact absurd h0 c_1
      --done
  · have e1 : sp_fault S f = 1 := by unfold sp_fault; rw [if_neg h0]
    rw [e1] at hE
    refine rv_iload_n hX dX4_faultOf_0 rfl ?_
    refine rv_if_ge hX 8 dX4_faultOf_1 (by decide) (fun c_1 => ?_) (fun c_1 => ?_)
    · skip
      exact absurd c_1 h0
      --done
    · skip
      refine rv_iconst hX (v := -1) dX4_faultOf_4 (by decide) ?_
      refine rv_goto hX 12 dX4_faultOf_5 (by decide) ?_
      refine rv_istore_n hX dX4_faultOf_12 (rv_st_2 rfl) ?_
      refine rv_aload_n hX dX4_faultOf_13 rfl ?_
      refine rv_iload_n hX dX4_faultOf_14 rfl ?_
      refine mv_callz hX iX4_140 rfl mdX4_isRelation (m_isRelation hG (d := d - 1) (by omega) hS) (by omega) rfl rfl (Nat.le_of_ble_eq_true rfl) dX4_faultOf_15 (fun r_15 τ_15 h_15 => ?_)
      obtain ⟨rfl, hr⟩ := h_15
      first | refine zv_if_ne hX 23 dX4_faultOf_18 (by decide) (fun c_18 => ?_) (fun c_18 => ?_) | refine nv_if_ne hX 23 (by omega) dX4_faultOf_18 (by decide) (fun c_18 => ?_) (fun c_18 => ?_) | refine rv_if_ne hX 23 dX4_faultOf_18 (by decide) (fun c_18 => ?_) (fun c_18 => ?_)
      · skip
        obtain ⟨k, hk1, hk2⟩ := hr.mp c_18
        exact absurd hk2.symm (nI_m1 (by omega))
        --done
      · skip
        refine nv_iconst hX (m := 1) (by decide) dX4_faultOf_21 ?_
        refine mv_reti hX hE dX4_faultOf_22 ?_
        exact ⟨rfl, rfl⟩
/-- what is told, with its ends -/
def mTl (σ : rv_S) (T : List (Nat × Nat)) : Prop := σ.2.1 1 5 = nI T.length ∧ T.length ≤ 61 ∧ ∀ (k : Nat) (p : Nat × Nat), T[k]? = some p → σ.2.1 13 k = nI p.1 ∧ σ.2.1 14 k = nI p.2 ∧ p.1 < 8000000 ∧ p.2 < 1000000
theorem mTl.told {σ : rv_S} {T : List (Nat × Nat)} (h : mTl σ T) : mTold σ (T.map (fun p => p.1)) := by
  refine ⟨by rw [List.length_map]; exact h.1, by rw [List.length_map]; exact h.2.1, fun k f e => ?_⟩
  rw [List.getElem?_map, Option.map_eq_some_iff] at e
  obtain ⟨p, hp, e⟩ := e
  subst e
  exact ⟨(h.2.2 k p hp).1, (h.2.2 k p hp).2.2.1⟩
theorem mTl.same2 {fs js : List Nat} {σ τ : rv_S} {T : List (Nat × Nat)} (h : mTl σ T) (hs : rv_same fs js σ τ) (h5 : τ.2.1 1 5 = σ.2.1 1 5) (h1 : 13 ∉ js ∧ 14 ∉ js) : mTl τ T := ⟨by rw [h5]; exact h.1, h.2.1, fun k p e => by rw [hs.2.1 13 h1.1, hs.2.1 14 h1.2]; exact h.2.2 k p e⟩
def sp_tAt (T : List (Nat × Nat)) (f : Nat) (x : Option Nat) : Prop := (x = none ∧ ∀ (k : Nat) (p : Nat × Nat), T[k]? = some p → p.1 ≠ f) ∨ ∃ (k : Nat) (p : Nat × Nat), x = some k ∧ T[k]? = some p ∧ p.1 = f
theorem m_toldAt {G : rv_G} (hG : rv_GK G) {d : Nat} {σ : rv_S} {T : List (Nat × Nat)} (hT : mTl σ T) {f : Nat} (hf : f < 8000000) : mC G d yX4_toldAt wX4_toldAt [.int (nI f)] σ (mPi (fun r τ => τ = σ ∧ ∃ x, sp_tAt T f x ∧ r = rv_oi x)) := by
  refine mv_start hG (by decide +kernel) (Nat.le_of_ble_eq_true rfl) (fun X Hb o hX1 hX hE => ?_)
  subst hX1
  show rv_V X (rv_mh Hb o _) 0 [some (.ref o), some (.int (nI f)), none, none] []
  have hT61 := hT.2.1
  have loop : ∀ (n k : Nat) (x : Option Nat), k ≤ T.length → T.length - k < n → ((x = none ∧ ∀ (j : Nat) (p : Nat × Nat), j < k → T[j]? = some p → p.1 ≠ f) ∨ ∃ (j : Nat) (p : Nat × Nat), x = some j ∧ T[j]? = some p ∧ p.1 = f) → rv_V X (rv_mh Hb o σ) 4 [some (.ref o), some (.int (nI f)), some (.int (rv_oi x)), some (.int (nI k))] [] := by
    intro n
    induction n with
    | zero => intro k x h1 h2; omega
    | succ n ih =>
      intro k x h1 h2 h3
      refine rv_iload_n hX dX4_toldAt_4 rfl ?_
      refine rv_aload_n hX dX4_toldAt_5 rfl ?_
      refine mv_ga hX (k := 1) (j := 1) gX4_7_X4 (by decide) rfl (by decide) dX4_toldAt_6 ?_
      refine nv_iconst hX (m := 5) (by decide) dX4_toldAt_9 ?_
      refine mv_ld hX (j := 1) (by decide) (by decide) rfl (by decide) (show _ < 11 by omega) dX4_toldAt_10 ?_
      rw [hT.1]
      first | refine nv_icmp_ge hX 36 (by omega) (by omega) dX4_toldAt_11 (by decide) (fun c_11 => ?_) (fun c_11 => ?_) | refine rv_icmp_ge hX 36 dX4_toldAt_11 (by decide) (fun c_11 => ?_) (fun c_11 => ?_)
      · skip
        refine rv_iload_n hX dX4_toldAt_36 rfl ?_
        refine mv_reti hX hE dX4_toldAt_37 ?_
        refine ⟨rfl, x, ?_, rfl⟩
        rcases h3 with ⟨e1, e2⟩ | h3
        · exact Or.inl ⟨e1, fun j p hj => e2 j p (by have := (List.getElem?_eq_some_iff.mp hj).1; omega) hj⟩
        · exact Or.inr h3
      · skip
        obtain ⟨p, hp⟩ : ∃ p, T[k]? = some p := ⟨T[k], List.getElem?_eq_getElem (by omega)⟩
        obtain ⟨p1, p2, p3, p4⟩ := hT.2.2 k p hp
        refine rv_aload_n hX dX4_toldAt_14 rfl ?_
        refine mv_ga hX (k := 13) (j := 13) gX4_46_X4 (by decide) rfl (by decide) dX4_toldAt_15 ?_
        refine rv_iload_n hX dX4_toldAt_18 rfl ?_
        refine mv_ld hX (j := 13) (by decide) (by decide) rfl (by decide) (show _ < 62 by omega) dX4_toldAt_19 ?_
        rw [p1]
        refine rv_iload_n hX dX4_toldAt_20 rfl ?_
        first | refine nv_icmp_ne hX 28 (by omega) (by omega) dX4_toldAt_21 (by decide) (fun c_21 => ?_) (fun c_21 => ?_) | refine rv_icmp_ne hX 28 dX4_toldAt_21 (by decide) (fun c_21 => ?_) (fun c_21 => ?_)
        · skip
          refine rv_iload_n hX dX4_toldAt_28 rfl ?_
          refine rv_istore_n hX dX4_toldAt_29 (rv_st_2 rfl) ?_
          first | refine nv_iinc hX (m := 1) dX4_toldAt_30 rfl (by decide) (rv_st_3 rfl) ?_ | refine rv_iinc hX dX4_toldAt_30 rfl rfl (rv_st_3 rfl) ?_
          refine rv_goto hX 4 dX4_toldAt_33 (by decide) ?_
          first
            | exact ih (k + 1) (some k) (by omega) (by omega) (Or.inr ⟨k, p, rfl, hp, c_21⟩)
            | (refine ih (k + 1) x (by omega) (by omega) ?_
               rcases h3 with ⟨e1, e2⟩ | h3
               · refine Or.inl ⟨e1, fun j q hj hq => ?_⟩
                 by_cases g : j = k
                 · subst g
                   rw [hp] at hq
                   cases hq
                   exact c_21
                 · exact e2 j q (by omega) hq
               · exact Or.inr h3)
        · skip
          refine rv_iload_n hX dX4_toldAt_24 rfl ?_
          refine rv_goto hX 29 dX4_toldAt_25 (by decide) ?_
          refine rv_istore_n hX dX4_toldAt_29 (rv_st_2 rfl) ?_
          first | refine nv_iinc hX (m := 1) dX4_toldAt_30 rfl (by decide) (rv_st_3 rfl) ?_ | refine rv_iinc hX dX4_toldAt_30 rfl rfl (rv_st_3 rfl) ?_
          refine rv_goto hX 4 dX4_toldAt_33 (by decide) ?_
          first
            | exact ih (k + 1) (some k) (by omega) (by omega) (Or.inr ⟨k, p, rfl, hp, c_21⟩)
            | (refine ih (k + 1) x (by omega) (by omega) ?_
               rcases h3 with ⟨e1, e2⟩ | h3
               · refine Or.inl ⟨e1, fun j q hj hq => ?_⟩
                 by_cases g : j = k
                 · subst g
                   rw [hp] at hq
                   cases hq
                   exact c_21
                 · exact e2 j q (by omega) hq
               · exact Or.inr h3)
  refine rv_iconst hX (v := -1) dX4_toldAt_0 (by decide) ?_
  refine rv_istore_n hX dX4_toldAt_1 (rv_st_2 rfl) ?_
  refine nv_iconst hX (m := 0) (by decide) dX4_toldAt_2 ?_
  refine rv_istore_n hX dX4_toldAt_3 (rv_st_3 rfl) ?_
  exact loop _ 0 none (Nat.zero_le _) (Nat.lt_succ_self _) (Or.inl ⟨rfl, fun j p hj => absurd hj (by omega)⟩)
/-- a fact is told until an end, 0 for good -/
def sp_tell (T : List (Nat × Nat)) (f e : Nat) (T' : List (Nat × Nat)) : Prop := ((∀ (k : Nat) (p : Nat × Nat), T[k]? = some p → p.1 ≠ f) ∧ T' = T ++ [(f, e)]) ∨ ∃ (k : Nat) (p : Nat × Nat), T[k]? = some p ∧ p.1 = f ∧ T' = (if e = 0 ∨ (0 < p.2 ∧ p.2 < e) then T.set k (f, e) else T)
theorem tk_13 (σ : rv_S) (n : Nat) (a b : Int32) (i : Nat) : (rv_sU (rv_sU σ 13 n a) 14 n b).2.1 13 i = if i = n then a else σ.2.1 13 i := by
  rw [rv_sU_2, if_neg (by omega), rv_sU_2]
  by_cases h : i = n
  · rw [if_pos ⟨rfl, h⟩, if_pos h]
  · rw [if_neg (fun q => h q.2), if_neg h]
theorem tk_14 (σ : rv_S) (n : Nat) (a b : Int32) (i : Nat) : (rv_sU (rv_sU σ 13 n a) 14 n b).2.1 14 i = if i = n then b else σ.2.1 14 i := by
  rw [rv_sU_2]
  by_cases h : i = n
  · rw [if_pos ⟨rfl, h⟩, if_pos h]
  · rw [if_neg (fun q => h q.2), if_neg h, rv_sU_2, if_neg (by omega)]
theorem tk_1 (σ : rv_S) (j i k : Nat) (v : Int32) (h : i ≠ 1) : (rv_sU σ 1 j v).2.1 i k = σ.2.1 i k := by rw [rv_sU_2, if_neg (fun q => h q.1)]
theorem m_tellFact {G : rv_G} (hG : rv_GK G) {d : Nat} (hd : 1 ≤ d) {σ : rv_S} {T : List (Nat × Nat)} (hT : mTl σ T) (hT60 : T.length ≤ 60) {f e : Nat} (hf : f < 8000000) (he : e < 1000000) : mC G d yX4_tellFact wX4_tellFact [.int (nI f), .int (nI e)] σ (mPv (fun τ => rv_same [] [1, 13, 14] σ τ ∧ (∀ i, i ≠ 5 → τ.2.1 1 i = σ.2.1 1 i) ∧ ∃ T', sp_tell T f e T' ∧ mTl τ T')) := by
  refine mv_start hG (by decide +kernel) (Nat.le_of_ble_eq_true rfl) (fun X Hb o hX1 hX hE => ?_)
  subst hX1
  show rv_V X (rv_mh Hb o _) 0 [some (.ref o), some (.int (nI f)), some (.int (nI e)), none] []
  refine rv_aload_n hX dX4_tellFact_0 rfl ?_
  refine rv_iload_n hX dX4_tellFact_1 rfl ?_
  refine mv_calli hX iX4_269 rfl mdX4_toldAt (m_toldAt hG (d := d - 1) hT hf) (by omega) rfl rfl (Nat.le_of_ble_eq_true rfl) dX4_tellFact_2 (fun r_2 τ_2 h_2 => ?_)
  obtain ⟨rfl, x, hx, rfl⟩ := h_2
  refine rv_istore_n hX dX4_tellFact_5 (rv_st_3 rfl) ?_
  refine rv_iload_n hX dX4_tellFact_6 rfl ?_
  refine rv_iconst hX (v := -1) dX4_tellFact_7 (by decide) ?_
  first | refine nv_icmp_ne hX 45 (by omega) (by omega) dX4_tellFact_8 (by decide) (fun c_8 => ?_) (fun c_8 => ?_) | refine rv_icmp_ne hX 45 dX4_tellFact_8 (by decide) (fun c_8 => ?_) (fun c_8 => ?_)
  · skip
    obtain ⟨k, p, rfl, hk, hp⟩ : ∃ (k : Nat) (p : Nat × Nat), x = some k ∧ T[k]? = some p ∧ p.1 = f := by
      rcases hx with ⟨e1, e2⟩ | hx
      · subst e1; exact absurd rfl c_8
      · exact hx
    have hkl := (List.getElem?_eq_some_iff.mp hk).1
    obtain ⟨q1, q2, q3, q4⟩ := hT.2.2 k p hk
    show rv_V X (rv_mh Hb o τ_2) 45 [some (.ref o), some (.int (nI f)), some (.int (nI e)), some (.int (nI k))] []
    refine rv_iload_n hX dX4_tellFact_45 rfl ?_
    first | refine zv_if_eq hX 68 dX4_tellFact_46 (by decide) (fun c_46 => ?_) (fun c_46 => ?_) | refine nv_if_eq hX 68 (by omega) dX4_tellFact_46 (by decide) (fun c_46 => ?_) (fun c_46 => ?_) | refine rv_if_eq hX 68 dX4_tellFact_46 (by decide) (fun c_46 => ?_) (fun c_46 => ?_)
    · skip
      refine rv_aload_n hX dX4_tellFact_68 rfl ?_
      refine mv_ga hX (k := 14) (j := 14) gX4_49_X4 (by decide) rfl (by decide) dX4_tellFact_69 ?_
      refine rv_iload_n hX dX4_tellFact_72 rfl ?_
      refine rv_iload_n hX dX4_tellFact_73 rfl ?_
      refine mv_st hX (j := 14) (by decide) (by decide) rfl (by decide) (show _ < 62 by omega) dX4_tellFact_74 ?_
      refine mv_retv hX hE dX4_tellFact_75 ?_
      first
        | (have hno : ∀ (k : Nat) (p : Nat × Nat), T[k]? = some p → p.1 ≠ f := by
             rcases hx with ⟨e1, e2⟩ | ⟨k, p, e1, e2, e3⟩
             · exact e2
             · subst e1
               have := (List.getElem?_eq_some_iff.mp e2).1
               exact absurd c_8 (nI_m1 (by omega))
           refine ⟨((rv_same.u (by decide)).tr (.u (by decide))).tr (.u (by decide)), fun i hi => ?_, _, Or.inl ⟨hno, rfl⟩, ?_, by rw [List.length_append]; exact Nat.succ_le_succ hT60, fun k p hk => ?_⟩
           · rw [rv_sU_2, if_neg (by omega), rv_sU_2, if_neg (by omega), rv_sU_2, if_neg (by omega)]
           · rw [rv_sU_2, if_pos ⟨rfl, rfl⟩, List.length_append]
             rfl
           · rw [tk_1 _ _ _ _ _ (by decide), tk_1 _ _ _ _ _ (by decide), tk_13, tk_14]
             by_cases q : k = T.length
             · subst q
               rw [List.getElem?_append_right (Nat.le_refl _), Nat.sub_self] at hk
               cases hk
               rw [if_pos rfl, if_pos rfl]
               exact ⟨rfl, rfl, hf, he⟩
             · have hlt : k < T.length := by
                 have h9 := (List.getElem?_eq_some_iff.mp hk).1
                 rw [List.length_append] at h9
                 have h8 : k < T.length + 1 := h9
                 omega
               rw [List.getElem?_append_left hlt] at hk
               rw [if_neg q, if_neg q]
               exact hT.2.2 k p hk)
        | (refine ⟨.rf, fun i hi => rfl, T, Or.inr ⟨k, p, hk, hp, ?_⟩, hT⟩
           rw [if_neg (by omega)])
        | (refine ⟨.u (by decide), fun i hi => by rw [rv_sU_2, if_neg (by omega)], T.set k (f, e), Or.inr ⟨k, p, hk, hp, ?_⟩, by rw [List.length_set, rv_sU_2, if_neg (by omega)]; exact hT.1, by rw [List.length_set]; exact hT.2.1, fun j q hj => ?_⟩
           · rw [if_pos (by omega)]
           · rw [rv_sU_2, if_neg (by omega), rv_sU_2]
             by_cases g : j = k
             · subst g
               rw [List.getElem?_set_self hkl] at hj
               cases hj
               rw [if_pos ⟨rfl, rfl⟩, q1, hp]
               exact ⟨rfl, rfl, hf, he⟩
             · rw [List.getElem?_set_ne (fun q => g q.symm)] at hj
               rw [if_neg (by omega)]
               exact hT.2.2 j q hj)
    · skip
      refine rv_aload_n hX dX4_tellFact_49 rfl ?_
      refine mv_ga hX (k := 14) (j := 14) gX4_49_X4 (by decide) rfl (by decide) dX4_tellFact_50 ?_
      refine rv_iload_n hX dX4_tellFact_53 rfl ?_
      refine mv_ld hX (j := 14) (by decide) (by decide) rfl (by decide) (show _ < 62 by omega) dX4_tellFact_54 ?_
      rw [q2]
      first | refine nv_if_le hX 75 (by omega) dX4_tellFact_55 (by decide) (fun c_55 => ?_) (fun c_55 => ?_) | refine rv_if_le hX 75 dX4_tellFact_55 (by decide) (fun c_55 => ?_) (fun c_55 => ?_)
      · skip
        refine mv_retv hX hE dX4_tellFact_75 ?_
        first
          | (have hno : ∀ (k : Nat) (p : Nat × Nat), T[k]? = some p → p.1 ≠ f := by
               rcases hx with ⟨e1, e2⟩ | ⟨k, p, e1, e2, e3⟩
               · exact e2
               · subst e1
                 have := (List.getElem?_eq_some_iff.mp e2).1
                 exact absurd c_8 (nI_m1 (by omega))
             refine ⟨((rv_same.u (by decide)).tr (.u (by decide))).tr (.u (by decide)), fun i hi => ?_, _, Or.inl ⟨hno, rfl⟩, ?_, by rw [List.length_append]; exact Nat.succ_le_succ hT60, fun k p hk => ?_⟩
             · rw [rv_sU_2, if_neg (by omega), rv_sU_2, if_neg (by omega), rv_sU_2, if_neg (by omega)]
             · rw [rv_sU_2, if_pos ⟨rfl, rfl⟩, List.length_append]
               rfl
             · rw [tk_1 _ _ _ _ _ (by decide), tk_1 _ _ _ _ _ (by decide), tk_13, tk_14]
               by_cases q : k = T.length
               · subst q
                 rw [List.getElem?_append_right (Nat.le_refl _), Nat.sub_self] at hk
                 cases hk
                 rw [if_pos rfl, if_pos rfl]
                 exact ⟨rfl, rfl, hf, he⟩
               · have hlt : k < T.length := by
                   have h9 := (List.getElem?_eq_some_iff.mp hk).1
                   rw [List.length_append] at h9
                   have h8 : k < T.length + 1 := h9
                   omega
                 rw [List.getElem?_append_left hlt] at hk
                 rw [if_neg q, if_neg q]
                 exact hT.2.2 k p hk)
          | (refine ⟨.rf, fun i hi => rfl, T, Or.inr ⟨k, p, hk, hp, ?_⟩, hT⟩
             rw [if_neg (by omega)])
          | (refine ⟨.u (by decide), fun i hi => by rw [rv_sU_2, if_neg (by omega)], T.set k (f, e), Or.inr ⟨k, p, hk, hp, ?_⟩, by rw [List.length_set, rv_sU_2, if_neg (by omega)]; exact hT.1, by rw [List.length_set]; exact hT.2.1, fun j q hj => ?_⟩
             · rw [if_pos (by omega)]
             · rw [rv_sU_2, if_neg (by omega), rv_sU_2]
               by_cases g : j = k
               · subst g
                 rw [List.getElem?_set_self hkl] at hj
                 cases hj
                 rw [if_pos ⟨rfl, rfl⟩, q1, hp]
                 exact ⟨rfl, rfl, hf, he⟩
               · rw [List.getElem?_set_ne (fun q => g q.symm)] at hj
                 rw [if_neg (by omega)]
                 exact hT.2.2 j q hj)
      · skip
        refine rv_aload_n hX dX4_tellFact_58 rfl ?_
        refine mv_ga hX (k := 14) (j := 14) gX4_49_X4 (by decide) rfl (by decide) dX4_tellFact_59 ?_
        refine rv_iload_n hX dX4_tellFact_62 rfl ?_
        refine mv_ld hX (j := 14) (by decide) (by decide) rfl (by decide) (show _ < 62 by omega) dX4_tellFact_63 ?_
        rw [q2]
        refine rv_iload_n hX dX4_tellFact_64 rfl ?_
        first | refine nv_icmp_ge hX 75 (by omega) (by omega) dX4_tellFact_65 (by decide) (fun c_65 => ?_) (fun c_65 => ?_) | refine rv_icmp_ge hX 75 dX4_tellFact_65 (by decide) (fun c_65 => ?_) (fun c_65 => ?_)
        · skip
          refine mv_retv hX hE dX4_tellFact_75 ?_
          first
            | (have hno : ∀ (k : Nat) (p : Nat × Nat), T[k]? = some p → p.1 ≠ f := by
                 rcases hx with ⟨e1, e2⟩ | ⟨k, p, e1, e2, e3⟩
                 · exact e2
                 · subst e1
                   have := (List.getElem?_eq_some_iff.mp e2).1
                   exact absurd c_8 (nI_m1 (by omega))
               refine ⟨((rv_same.u (by decide)).tr (.u (by decide))).tr (.u (by decide)), fun i hi => ?_, _, Or.inl ⟨hno, rfl⟩, ?_, by rw [List.length_append]; exact Nat.succ_le_succ hT60, fun k p hk => ?_⟩
               · rw [rv_sU_2, if_neg (by omega), rv_sU_2, if_neg (by omega), rv_sU_2, if_neg (by omega)]
               · rw [rv_sU_2, if_pos ⟨rfl, rfl⟩, List.length_append]
                 rfl
               · rw [tk_1 _ _ _ _ _ (by decide), tk_1 _ _ _ _ _ (by decide), tk_13, tk_14]
                 by_cases q : k = T.length
                 · subst q
                   rw [List.getElem?_append_right (Nat.le_refl _), Nat.sub_self] at hk
                   cases hk
                   rw [if_pos rfl, if_pos rfl]
                   exact ⟨rfl, rfl, hf, he⟩
                 · have hlt : k < T.length := by
                     have h9 := (List.getElem?_eq_some_iff.mp hk).1
                     rw [List.length_append] at h9
                     have h8 : k < T.length + 1 := h9
                     omega
                   rw [List.getElem?_append_left hlt] at hk
                   rw [if_neg q, if_neg q]
                   exact hT.2.2 k p hk)
            | (refine ⟨.rf, fun i hi => rfl, T, Or.inr ⟨k, p, hk, hp, ?_⟩, hT⟩
               rw [if_neg (by omega)])
            | (refine ⟨.u (by decide), fun i hi => by rw [rv_sU_2, if_neg (by omega)], T.set k (f, e), Or.inr ⟨k, p, hk, hp, ?_⟩, by rw [List.length_set, rv_sU_2, if_neg (by omega)]; exact hT.1, by rw [List.length_set]; exact hT.2.1, fun j q hj => ?_⟩
               · rw [if_pos (by omega)]
               · rw [rv_sU_2, if_neg (by omega), rv_sU_2]
                 by_cases g : j = k
                 · subst g
                   rw [List.getElem?_set_self hkl] at hj
                   cases hj
                   rw [if_pos ⟨rfl, rfl⟩, q1, hp]
                   exact ⟨rfl, rfl, hf, he⟩
                 · rw [List.getElem?_set_ne (fun q => g q.symm)] at hj
                   rw [if_neg (by omega)]
                   exact hT.2.2 j q hj)
        · skip
          refine rv_aload_n hX dX4_tellFact_68 rfl ?_
          refine mv_ga hX (k := 14) (j := 14) gX4_49_X4 (by decide) rfl (by decide) dX4_tellFact_69 ?_
          refine rv_iload_n hX dX4_tellFact_72 rfl ?_
          refine rv_iload_n hX dX4_tellFact_73 rfl ?_
          refine mv_st hX (j := 14) (by decide) (by decide) rfl (by decide) (show _ < 62 by omega) dX4_tellFact_74 ?_
          refine mv_retv hX hE dX4_tellFact_75 ?_
          first
            | (have hno : ∀ (k : Nat) (p : Nat × Nat), T[k]? = some p → p.1 ≠ f := by
                 rcases hx with ⟨e1, e2⟩ | ⟨k, p, e1, e2, e3⟩
                 · exact e2
                 · subst e1
                   have := (List.getElem?_eq_some_iff.mp e2).1
                   exact absurd c_8 (nI_m1 (by omega))
               refine ⟨((rv_same.u (by decide)).tr (.u (by decide))).tr (.u (by decide)), fun i hi => ?_, _, Or.inl ⟨hno, rfl⟩, ?_, by rw [List.length_append]; exact Nat.succ_le_succ hT60, fun k p hk => ?_⟩
               · rw [rv_sU_2, if_neg (by omega), rv_sU_2, if_neg (by omega), rv_sU_2, if_neg (by omega)]
               · rw [rv_sU_2, if_pos ⟨rfl, rfl⟩, List.length_append]
                 rfl
               · rw [tk_1 _ _ _ _ _ (by decide), tk_1 _ _ _ _ _ (by decide), tk_13, tk_14]
                 by_cases q : k = T.length
                 · subst q
                   rw [List.getElem?_append_right (Nat.le_refl _), Nat.sub_self] at hk
                   cases hk
                   rw [if_pos rfl, if_pos rfl]
                   exact ⟨rfl, rfl, hf, he⟩
                 · have hlt : k < T.length := by
                     have h9 := (List.getElem?_eq_some_iff.mp hk).1
                     rw [List.length_append] at h9
                     have h8 : k < T.length + 1 := h9
                     omega
                   rw [List.getElem?_append_left hlt] at hk
                   rw [if_neg q, if_neg q]
                   exact hT.2.2 k p hk)
            | (refine ⟨.rf, fun i hi => rfl, T, Or.inr ⟨k, p, hk, hp, ?_⟩, hT⟩
               rw [if_neg (by omega)])
            | (refine ⟨.u (by decide), fun i hi => by rw [rv_sU_2, if_neg (by omega)], T.set k (f, e), Or.inr ⟨k, p, hk, hp, ?_⟩, by rw [List.length_set, rv_sU_2, if_neg (by omega)]; exact hT.1, by rw [List.length_set]; exact hT.2.1, fun j q hj => ?_⟩
               · rw [if_pos (by omega)]
               · rw [rv_sU_2, if_neg (by omega), rv_sU_2]
                 by_cases g : j = k
                 · subst g
                   rw [List.getElem?_set_self hkl] at hj
                   cases hj
                   rw [if_pos ⟨rfl, rfl⟩, q1, hp]
                   exact ⟨rfl, rfl, hf, he⟩
                 · rw [List.getElem?_set_ne (fun q => g q.symm)] at hj
                   rw [if_neg (by omega)]
                   exact hT.2.2 j q hj)
  · skip
    refine rv_aload_n hX dX4_tellFact_11 rfl ?_
    refine mv_ga hX (k := 1) (j := 1) gX4_7_X4 (by decide) rfl (by decide) dX4_tellFact_12 ?_
    refine nv_iconst hX (m := 5) (by decide) dX4_tellFact_15 ?_
    refine mv_ld hX (j := 1) (by decide) (by decide) rfl (by decide) (show _ < 11 by omega) dX4_tellFact_16 ?_
    rw [hT.1]
    refine rv_istore_n hX dX4_tellFact_17 (rv_st_3 rfl) ?_
    refine rv_aload_n hX dX4_tellFact_18 rfl ?_
    refine mv_ga hX (k := 13) (j := 13) gX4_46_X4 (by decide) rfl (by decide) dX4_tellFact_19 ?_
    refine rv_iload_n hX dX4_tellFact_22 rfl ?_
    refine rv_iload_n hX dX4_tellFact_23 rfl ?_
    refine mv_st hX (j := 13) (by decide) (by decide) rfl (by decide) (show _ < 62 by omega) dX4_tellFact_24 ?_
    refine rv_aload_n hX dX4_tellFact_25 rfl ?_
    refine mv_ga hX (k := 14) (j := 14) gX4_49_X4 (by decide) rfl (by decide) dX4_tellFact_26 ?_
    refine rv_iload_n hX dX4_tellFact_29 rfl ?_
    refine rv_iload_n hX dX4_tellFact_30 rfl ?_
    refine mv_st hX (j := 14) (by decide) (by decide) rfl (by decide) (show _ < 62 by omega) dX4_tellFact_31 ?_
    refine rv_aload_n hX dX4_tellFact_32 rfl ?_
    refine mv_ga hX (k := 1) (j := 1) gX4_7_X4 (by decide) rfl (by decide) dX4_tellFact_33 ?_
    refine nv_iconst hX (m := 5) (by decide) dX4_tellFact_36 ?_
    refine rv_dup2 hX dX4_tellFact_37 rfl rfl ?_
    refine mv_ld hX (j := 1) (by decide) (by decide) rfl (by decide) (show _ < 11 by omega) dX4_tellFact_38 ?_
    rw [rv_sU_2, if_neg (by omega), rv_sU_2, if_neg (by omega), hT.1]
    refine nv_iconst hX (m := 1) (by decide) dX4_tellFact_39 ?_
    first | refine nv_iadd hX dX4_tellFact_40 ?_ | refine rv_iadd hX dX4_tellFact_40 ?_
    refine mv_st hX (j := 1) (by decide) (by decide) rfl (by decide) (show _ < 11 by omega) dX4_tellFact_41 ?_
    refine rv_goto hX 75 dX4_tellFact_42 (by decide) ?_
    refine mv_retv hX hE dX4_tellFact_75 ?_
    first
      | (have hno : ∀ (k : Nat) (p : Nat × Nat), T[k]? = some p → p.1 ≠ f := by
           rcases hx with ⟨e1, e2⟩ | ⟨k, p, e1, e2, e3⟩
           · exact e2
           · subst e1
             have := (List.getElem?_eq_some_iff.mp e2).1
             exact absurd c_8 (nI_m1 (by omega))
         refine ⟨((rv_same.u (by decide)).tr (.u (by decide))).tr (.u (by decide)), fun i hi => ?_, _, Or.inl ⟨hno, rfl⟩, ?_, by rw [List.length_append]; exact Nat.succ_le_succ hT60, fun k p hk => ?_⟩
         · rw [rv_sU_2, if_neg (by omega), rv_sU_2, if_neg (by omega), rv_sU_2, if_neg (by omega)]
         · rw [rv_sU_2, if_pos ⟨rfl, rfl⟩, List.length_append]
           rfl
         · rw [tk_1 _ _ _ _ _ (by decide), tk_1 _ _ _ _ _ (by decide), tk_13, tk_14]
           by_cases q : k = T.length
           · subst q
             rw [List.getElem?_append_right (Nat.le_refl _), Nat.sub_self] at hk
             cases hk
             rw [if_pos rfl, if_pos rfl]
             exact ⟨rfl, rfl, hf, he⟩
           · have hlt : k < T.length := by
               have h9 := (List.getElem?_eq_some_iff.mp hk).1
               rw [List.length_append] at h9
               have h8 : k < T.length + 1 := h9
               omega
             rw [List.getElem?_append_left hlt] at hk
             rw [if_neg q, if_neg q]
             exact hT.2.2 k p hk)
      | (refine ⟨.rf, fun i hi => rfl, T, Or.inr ⟨k, p, hk, hp, ?_⟩, hT⟩
         rw [if_neg (by omega)])
      | (refine ⟨.u (by decide), fun i hi => by rw [rv_sU_2, if_neg (by omega)], T.set k (f, e), Or.inr ⟨k, p, hk, hp, ?_⟩, by rw [List.length_set, rv_sU_2, if_neg (by omega)]; exact hT.1, by rw [List.length_set]; exact hT.2.1, fun j q hj => ?_⟩
         · rw [if_pos (by omega)]
         · rw [rv_sU_2, if_neg (by omega), rv_sU_2]
           by_cases g : j = k
           · subst g
             rw [List.getElem?_set_self hkl] at hj
             cases hj
             rw [if_pos ⟨rfl, rfl⟩, q1, hp]
             exact ⟨rfl, rfl, hf, he⟩
           · rw [List.getElem?_set_ne (fun q => g q.symm)] at hj
             rw [if_neg (by omega)]
             exact hT.2.2 j q hj)
theorem m_takeFact {G : rv_G} (hG : rv_GK G) {d : Nat} {σ : rv_S} {T : List (Nat × Nat)} (hT : mTl σ T) {k : Nat} (hk : k < T.length) : mC G d yX4_takeFact wX4_takeFact [.int (nI k)] σ (mPv (fun τ => rv_same [] [1, 13, 14] σ τ ∧ (∀ i, i ≠ 5 → τ.2.1 1 i = σ.2.1 1 i) ∧ mTl τ (T.eraseIdx k))) := by
  refine mv_start hG (by decide +kernel) (Nat.le_of_ble_eq_true rfl) (fun X Hb o hX1 hX hE => ?_)
  subst hX1
  show rv_V X (rv_mh Hb o _) 0 [some (.ref o), some (.int (nI k)), none] []
  have hT61 := hT.2.1
  have loop : ∀ (n j : Nat) (τ : rv_S), k ≤ j → j ≤ T.length - 1 → T.length - 1 - j < n → rv_same [] [1, 13, 14] σ τ → (∀ i, i ≠ 5 → τ.2.1 1 i = σ.2.1 1 i) → τ.2.1 1 5 = nI (T.length - 1) → (∀ i, i < k ∨ j ≤ i → τ.2.1 13 i = σ.2.1 13 i ∧ τ.2.1 14 i = σ.2.1 14 i) → (∀ i, k ≤ i → i < j → τ.2.1 13 i = σ.2.1 13 (i + 1) ∧ τ.2.1 14 i = σ.2.1 14 (i + 1)) → rv_V X (rv_mh Hb o τ) 12 [some (.ref o), some (.int (nI k)), some (.int (nI j))] [] := by
    intro n
    induction n with
    | zero => intro j τ h1 h2 h3; omega
    | succ n ih =>
      intro j τ h1 h2 h3 h4 h5 h6 h7 h8
      refine rv_iload_n hX dX4_takeFact_12 rfl ?_
      refine rv_aload_n hX dX4_takeFact_13 rfl ?_
      refine mv_ga hX (k := 1) (j := 1) gX4_7_X4 (by decide) rfl (by decide) dX4_takeFact_14 ?_
      refine nv_iconst hX (m := 5) (by decide) dX4_takeFact_17 ?_
      refine mv_ld hX (j := 1) (by decide) (by decide) rfl (by decide) (show _ < 11 by omega) dX4_takeFact_18 ?_
      rw [h6]
      first | refine nv_icmp_ge hX 56 (by omega) (by omega) dX4_takeFact_19 (by decide) (fun c_19 => ?_) (fun c_19 => ?_) | refine rv_icmp_ge hX 56 dX4_takeFact_19 (by decide) (fun c_19 => ?_) (fun c_19 => ?_)
      · skip
        refine mv_retv hX hE dX4_takeFact_56 ?_
        have hj : j = T.length - 1 := by omega
        have hel : (T.eraseIdx k).length = T.length - 1 := by rw [List.length_eraseIdx, if_pos hk]
        refine ⟨h4, h5, by rw [hel]; exact h6, by omega, fun i p hi => ?_⟩
        have hil : i < T.length - 1 := by
          have := (List.getElem?_eq_some_iff.mp hi).1
          omega
        rw [List.getElem?_eraseIdx] at hi
        by_cases q : i < k
        · rw [if_pos q] at hi
          rw [(h7 i (Or.inl q)).1, (h7 i (Or.inl q)).2]
          exact hT.2.2 i p hi
        · rw [if_neg q] at hi
          rw [(h8 i (by omega) (by omega)).1, (h8 i (by omega) (by omega)).2]
          exact hT.2.2 _ p hi
      · skip
        refine rv_aload_n hX dX4_takeFact_22 rfl ?_
        refine mv_ga hX (k := 13) (j := 13) gX4_46_X4 (by decide) rfl (by decide) dX4_takeFact_23 ?_
        refine rv_iload_n hX dX4_takeFact_26 rfl ?_
        refine rv_aload_n hX dX4_takeFact_27 rfl ?_
        refine mv_ga hX (k := 13) (j := 13) gX4_46_X4 (by decide) rfl (by decide) dX4_takeFact_28 ?_
        refine rv_iload_n hX dX4_takeFact_31 rfl ?_
        refine nv_iconst hX (m := 1) (by decide) dX4_takeFact_32 ?_
        first | refine nv_iadd hX dX4_takeFact_33 ?_ | refine rv_iadd hX dX4_takeFact_33 ?_
        refine mv_ld hX (j := 13) (by decide) (by decide) rfl (by decide) (show _ < 62 by omega) dX4_takeFact_34 ?_
        refine mv_st hX (j := 13) (by decide) (by decide) rfl (by decide) (show _ < 62 by omega) dX4_takeFact_35 ?_
        refine rv_aload_n hX dX4_takeFact_36 rfl ?_
        refine mv_ga hX (k := 14) (j := 14) gX4_49_X4 (by decide) rfl (by decide) dX4_takeFact_37 ?_
        refine rv_iload_n hX dX4_takeFact_40 rfl ?_
        refine rv_aload_n hX dX4_takeFact_41 rfl ?_
        refine mv_ga hX (k := 14) (j := 14) gX4_49_X4 (by decide) rfl (by decide) dX4_takeFact_42 ?_
        refine rv_iload_n hX dX4_takeFact_45 rfl ?_
        refine nv_iconst hX (m := 1) (by decide) dX4_takeFact_46 ?_
        first | refine nv_iadd hX dX4_takeFact_47 ?_ | refine rv_iadd hX dX4_takeFact_47 ?_
        refine mv_ld hX (j := 14) (by decide) (by decide) rfl (by decide) (show _ < 62 by omega) dX4_takeFact_48 ?_
        refine mv_st hX (j := 14) (by decide) (by decide) rfl (by decide) (show _ < 62 by omega) dX4_takeFact_49 ?_
        first | refine nv_iinc hX (m := 1) dX4_takeFact_50 rfl (by decide) (rv_st_2 rfl) ?_ | refine rv_iinc hX dX4_takeFact_50 rfl rfl (rv_st_2 rfl) ?_
        refine rv_goto hX 12 dX4_takeFact_53 (by decide) ?_
        refine ih (j + 1) _ (by omega) (by omega) (by omega) (h4.tr ((rv_same.u (by decide)).tr (.u (by decide)))) (fun i hi => ?_) ?_ (fun i hi => ?_) (fun i hi hi2 => ?_)
        · rw [rv_sU_2, if_neg (by omega), rv_sU_2, if_neg (by omega)]
          exact h5 i hi
        · rw [rv_sU_2, if_neg (by omega), rv_sU_2, if_neg (by omega)]
          exact h6
        · rw [tk_13, tk_14, if_neg (by omega), if_neg (by omega)]
          exact h7 i (by omega)
        · rw [tk_13, tk_14]
          by_cases q : i = j
          · subst q
            rw [if_pos rfl, if_pos rfl]
            refine ⟨(h7 (i + 1) (Or.inr (by omega))).1, ?_⟩
            rw [rv_sU_2, if_neg (by omega)]
            exact (h7 (i + 1) (Or.inr (by omega))).2
          · rw [if_neg q, if_neg q]
            exact h8 i hi (by omega)
  refine rv_aload_n hX dX4_takeFact_0 rfl ?_
  refine mv_ga hX (k := 1) (j := 1) gX4_7_X4 (by decide) rfl (by decide) dX4_takeFact_1 ?_
  refine nv_iconst hX (m := 5) (by decide) dX4_takeFact_4 ?_
  refine rv_dup2 hX dX4_takeFact_5 rfl rfl ?_
  refine mv_ld hX (j := 1) (by decide) (by decide) rfl (by decide) (show _ < 11 by omega) dX4_takeFact_6 ?_
  rw [hT.1]
  refine nv_iconst hX (m := 1) (by decide) dX4_takeFact_7 ?_
  first | refine nv_isub hX (by omega) dX4_takeFact_8 ?_ | refine rv_isub hX dX4_takeFact_8 ?_
  refine mv_st hX (j := 1) (by decide) (by decide) rfl (by decide) (show _ < 11 by omega) dX4_takeFact_9 ?_
  refine rv_iload_n hX dX4_takeFact_10 rfl ?_
  refine rv_istore_n hX dX4_takeFact_11 (rv_st_2 rfl) ?_
  exact loop _ k _ (Nat.le_refl _) (by omega) (Nat.lt_succ_self _) (.u (by decide)) (fun i hi => by rw [rv_sU_2, if_neg (by omega)]) (by rw [rv_sU_2, if_pos ⟨rfl, rfl⟩]) (fun i _ => ⟨by rw [rv_sU_2, if_neg (by omega)], by rw [rv_sU_2, if_neg (by omega)]⟩) (fun i h1 h2 => absurd h1 (by omega))
