/-! THE REFERENCE: plans -/
set_option maxRecDepth 100000
def mMsk (x : Int32) (V : Nat → Bool) : Prop := ∀ k, ib x k = (decide (k < 8) && V k)
theorem mMsk.z {x : Int32} {V : Nat → Bool} (h : mMsk x V) : x = nI 0 ↔ (List.range 8).any V = false := by
  rw [show nI 0 = (0 : Int32) from rfl, ib_eq0, List.any_eq_false]
  constructor
  · intro h2 k hk
    have := h k
    rw [h2 k, decide_eq_true (List.mem_range.mp hk)] at this
    rw [show V k = false from this.symm]
    decide
  · intro h2 k
    rw [h k]
    by_cases q : k < 8
    · rw [show V k = false from by have := h2 k (List.mem_range.mpr q); simpa using this]
      simp
    · rw [decide_eq_false q]
      rfl
theorem mMsk.or {x y : Int32} {V W : Nat → Bool} (h : mMsk x V) (g : mMsk y W) : mMsk (x ||| y) (fun k => V k || W k) := fun k => by
  rw [ib_or, h k, g k]
  cases decide (k < 8) <;> rfl
theorem mMsk.and {x y : Int32} {V W : Nat → Bool} (h : mMsk x V) (g : mMsk y W) : mMsk (x &&& y) (fun k => W k && V k) := fun k => by
  rw [ib_and, h k, g k]
  show _ = (decide (k < 8) && (W k && V k))
  cases decide (k < 8) <;> cases V k <;> cases W k <;> rfl
theorem mMsk.one {v : Nat} (hv : v < 8) : mMsk (nI 1 <<< (nI v &&& 31)) (fun k => decide (k = v)) := fun k => by
  rw [ib_one (by omega)]
  show decide (k = v) = (decide (k < 8) && decide (k = v))
  by_cases q : k = v
  · subst q
    rw [decide_eq_true hv]
    rfl
  · rw [decide_eq_false q, Bool.and_false]
theorem mMsk.zero : mMsk (nI 0) (fun _ => false) := fun k => by
  rw [show nI 0 = (0 : Int32) from rfl, ib_0, Bool.and_false]
theorem mMsk.cg {x : Int32} {V W : Nat → Bool} (h : mMsk x V) (e : ∀ k, k < 8 → V k = W k) : mMsk x W := fun k => by
  rw [h k]
  by_cases q : k < 8
  · rw [e k q]
  · rw [decide_eq_false q]
    rfl
theorem m_variablesOf {G : rv_G} (hG : rv_GK G) {d : Nat} (hd : 2 ≤ d) {σ : rv_S} {S : List Nat} {b i : Nat} {it : sp_I} (h : 6 * b + i < 102) (hS : mRel σ S) (hi : mItem σ b i it) (hw : sp_wfI S it) : mC G d yX4_variablesOf wX4_variablesOf [.int (nI b), .int (nI i)] σ (mPi (fun r τ => τ = σ ∧ mMsk r (sp_iv it))) := by
  refine mv_start hG (by decide +kernel) (Nat.le_of_ble_eq_true rfl) (fun X Hb o hX1 hX hE => ?_)
  subst hX1
  show rv_V X (rv_mh Hb o _) 0 [some (.ref o), some (.int (nI b)), some (.int (nI i)), none, none, none] []
  have hl := hw.len hS.2.2.1
  have loop : ∀ (n k : Nat) (m : Int32) (x : Option Value), k ≤ it.2.2.length → it.2.2.length - k < n → mMsk m (fun v => decide (100 + v ∈ it.2.2.take k)) → rv_V X (rv_mh Hb o σ) 5 [some (.ref o), some (.int (nI b)), some (.int (nI i)), some (.int m), some (.int (nI k)), x] [] := by
    intro n
    induction n with
    | zero => intro k m x h1 h2; omega
    | succ n ih =>
      intro k m x h1 h2 h3
      refine rv_iload hX dX4_variablesOf_5 rfl ?_
      refine rv_aload_n hX dX4_variablesOf_7 rfl ?_
      refine rv_iload_n hX dX4_variablesOf_8 rfl ?_
      refine rv_iload_n hX dX4_variablesOf_9 rfl ?_
      refine mv_calli hX iX4_299 rfl mdX4_termsOf (m_termsOf hG (d := d - 1) (by omega) h hS hi hw) (by omega) rfl rfl (Nat.le_of_ble_eq_true rfl) dX4_variablesOf_10 (fun r_10 τ_10 h_10 => ?_)
      obtain ⟨rfl, rfl⟩ := h_10
      first | refine nv_icmp_ge hX 53 (by omega) (by omega) dX4_variablesOf_13 (by decide) (fun c_13 => ?_) (fun c_13 => ?_) | refine rv_icmp_ge hX 53 dX4_variablesOf_13 (by decide) (fun c_13 => ?_) (fun c_13 => ?_)
      · skip
        refine rv_iload_n hX dX4_variablesOf_53 rfl ?_
        refine mv_reti hX hE dX4_variablesOf_54 ?_
        refine ⟨rfl, h3.cg (fun v _ => ?_)⟩
        rw [List.take_of_length_le (by omega)]
        rfl
      · skip
        obtain ⟨t, ht⟩ : ∃ t, it.2.2[k]? = some t := ⟨it.2.2[k]'(by omega), List.getElem?_eq_getElem (by omega)⟩
        have htk : it.2.2.take (k + 1) = it.2.2.take k ++ [t] := by rw [List.take_succ, ht]; rfl
        have ht8 := hw.2.2.2.2 t (List.mem_of_getElem? ht)
        have htv := hi.2.2 k t ht
        refine rv_aload_n hX dX4_variablesOf_16 rfl ?_
        refine rv_iload_n hX dX4_variablesOf_17 rfl ?_
        refine rv_iload_n hX dX4_variablesOf_18 rfl ?_
        refine rv_iload hX dX4_variablesOf_19 rfl ?_
        refine mv_calli hX iX4_172 rfl mdX4_termOf (m_termOf hG (d := d - 1) (b := b) (i := i) (k := k) (by omega)) (by omega) rfl rfl (Nat.le_of_ble_eq_true rfl) dX4_variablesOf_21 (fun r_21 τ_21 h_21 => ?_)
        obtain ⟨rfl, rfl⟩ := h_21
        rw [htv]
        refine rv_istore hX dX4_variablesOf_24 (rv_st_5 rfl) ?_
        refine rv_iload_n hX dX4_variablesOf_26 rfl ?_
        refine rv_iload hX dX4_variablesOf_27 rfl ?_
        refine nv_bipush hX (m := 100) (by decide) dX4_variablesOf_29 ?_
        first | refine nv_icmp_lt hX 44 (by omega) (by omega) dX4_variablesOf_31 (by decide) (fun c_31 => ?_) (fun c_31 => ?_) | refine rv_icmp_lt hX 44 dX4_variablesOf_31 (by decide) (fun c_31 => ?_) (fun c_31 => ?_)
        · skip
          have hmm : mMsk (m ||| nI 0) (fun v => decide (100 + v ∈ it.2.2.take (k + 1))) := (h3.or mMsk.zero).cg (fun v hv => by
            rw [htk, Bool.or_false]
            refine decide_eq_decide.mpr ⟨fun g => List.mem_append.mpr (Or.inl g), fun g => ?_⟩
            rcases List.mem_append.mp g with g | g
            · exact g
            · have := List.mem_singleton.mp g; omega)
          refine nv_iconst hX (m := 0) (by decide) dX4_variablesOf_44 ?_
          refine rv_ior hX dX4_variablesOf_45 ?_
          refine rv_istore_n hX dX4_variablesOf_46 (rv_st_3 rfl) ?_
          first | refine nv_iinc hX (m := 1) dX4_variablesOf_47 rfl (by decide) (rv_st_4 rfl) ?_ | refine rv_iinc hX dX4_variablesOf_47 rfl rfl (rv_st_4 rfl) ?_
          refine rv_goto hX 5 dX4_variablesOf_50 (by decide) ?_
          exact ih (k + 1) _ _ (by omega) (by omega) hmm
        · skip
          have hmm : mMsk (m ||| nI 1 <<< (nI (t - 100) &&& 31)) (fun v => decide (100 + v ∈ it.2.2.take (k + 1))) := (h3.or (mMsk.one (v := t - 100) (by omega))).cg (fun v hv => by
            rw [htk]
            show (decide (100 + v ∈ it.2.2.take k) || decide (v = t - 100)) = _
            by_cases q : v = t - 100
            · rw [decide_eq_true q, Bool.or_true]
              exact (decide_eq_true (List.mem_append.mpr (Or.inr (List.mem_singleton.mpr (by omega))))).symm
            · rw [decide_eq_false q, Bool.or_false]
              refine decide_eq_decide.mpr ⟨fun g => List.mem_append.mpr (Or.inl g), fun g => ?_⟩
              rcases List.mem_append.mp g with g | g
              · exact g
              · have := List.mem_singleton.mp g; omega)
          refine nv_iconst hX (m := 1) (by decide) dX4_variablesOf_34 ?_
          refine rv_iload hX dX4_variablesOf_35 rfl ?_
          refine nv_bipush hX (m := 100) (by decide) dX4_variablesOf_37 ?_
          first | refine nv_isub hX (by omega) dX4_variablesOf_39 ?_ | refine rv_isub hX dX4_variablesOf_39 ?_
          refine rv_ishl hX dX4_variablesOf_40 ?_
          refine rv_goto hX 45 dX4_variablesOf_41 (by decide) ?_
          refine rv_ior hX dX4_variablesOf_45 ?_
          refine rv_istore_n hX dX4_variablesOf_46 (rv_st_3 rfl) ?_
          first | refine nv_iinc hX (m := 1) dX4_variablesOf_47 rfl (by decide) (rv_st_4 rfl) ?_ | refine rv_iinc hX dX4_variablesOf_47 rfl rfl (rv_st_4 rfl) ?_
          refine rv_goto hX 5 dX4_variablesOf_50 (by decide) ?_
          exact ih (k + 1) _ _ (by omega) (by omega) hmm
  refine nv_iconst hX (m := 0) (by decide) dX4_variablesOf_0 ?_
  refine rv_istore_n hX dX4_variablesOf_1 (rv_st_3 rfl) ?_
  refine nv_iconst hX (m := 0) (by decide) dX4_variablesOf_2 ?_
  refine rv_istore hX dX4_variablesOf_3 (rv_st_4 rfl) ?_
  exact loop _ 0 _ _ (Nat.zero_le _) (Nat.lt_succ_self _) (mMsk.zero.cg (fun v _ => by rw [List.take_zero]; rfl))
