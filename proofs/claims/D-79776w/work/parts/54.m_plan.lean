/-! THE REFERENCE: plans -/
set_option maxRecDepth 100000
def sp_cnt (F : List Nat) (rel : Nat) : Nat := (F.filter (fun f => f / 1000000 == rel)).length
theorem sp_cnt_take {F : List Nat} {rel k f : Nat} (h : F[k]? = some f) : sp_cnt (F.take (k + 1)) rel = sp_cnt (F.take k) rel + (if f / 1000000 = rel then 1 else 0) := by
  unfold sp_cnt
  rw [sp_take_get h, List.filter_append, List.length_append]
  congr 1
  by_cases e : f / 1000000 = rel
  · rw [List.filter_cons_of_pos (by simpa using e), if_pos e]
    rfl
  · rw [List.filter_cons_of_neg (by simpa using e), if_neg e]
    rfl
theorem m_standingOf {G : rv_G} (hG : rv_GK G) {d : Nat} {σ : rv_S} {F : List Nat} {rel : Nat} (hF : mFacts σ F) (hr : rel < 8) : mC G d yX4_standingOf wX4_standingOf [.int (nI rel)] σ (mPi (fun r τ => τ = σ ∧ r = nI (sp_cnt F rel))) := by
  refine mv_start hG (by decide +kernel) (Nat.le_of_ble_eq_true rfl) (fun X Hb o hX1 hX hE => ?_)
  subst hX1
  show rv_V X (rv_mh Hb o _) 0 [some (.ref o), some (.int (nI rel)), none, none] []
  have hF6 := hF.2.1
  have loop : ∀ (n k : Nat), k ≤ F.length → F.length - k < n → rv_V X (rv_mh Hb o σ) 4 [some (.ref o), some (.int (nI rel)), some (.int (nI (sp_cnt (F.take k) rel))), some (.int (nI k))] [] := by
    intro n
    induction n with
    | zero => intro k h1 h2; omega
    | succ n ih =>
      intro k h1 h2
      refine rv_iload_n hX dX4_standingOf_4 rfl ?_
      refine rv_aload_n hX dX4_standingOf_5 rfl ?_
      refine mv_ga hX (k := 1) (j := 1) gX4_7_X4 (by decide) rfl (by decide) dX4_standingOf_6 ?_
      refine nv_bipush hX (m := 6) (by decide) dX4_standingOf_9 ?_
      refine mv_ld hX (j := 1) (by decide) (by decide) rfl (by decide) (show _ < 11 by omega) dX4_standingOf_11 ?_
      rw [hF.1]
      first | refine nv_icmp_ge hX 42 (by omega) (by omega) dX4_standingOf_12 (by decide) (fun c_12 => ?_) (fun c_12 => ?_) | refine rv_icmp_ge hX 42 dX4_standingOf_12 (by decide) (fun c_12 => ?_) (fun c_12 => ?_)
      · skip
        refine rv_iload_n hX dX4_standingOf_42 rfl ?_
        refine mv_reti hX hE dX4_standingOf_43 ?_
        refine ⟨rfl, ?_⟩
        rw [List.take_of_length_le (by omega)]
      · skip
        obtain ⟨f, hf⟩ : ∃ f, F[k]? = some f := ⟨F[k], List.getElem?_eq_getElem (by omega)⟩
        have hf8 := hF.2.2.1 f (List.mem_of_getElem? hf)
        have hct := sp_cnt_take (rel := rel) hf
        refine rv_iload_n hX dX4_standingOf_15 rfl ?_
        refine rv_aload_n hX dX4_standingOf_16 rfl ?_
        refine mv_ga hX (k := 15) (j := 15) gX4_52_X4 (by decide) rfl (by decide) dX4_standingOf_17 ?_
        refine rv_iload_n hX dX4_standingOf_20 rfl ?_
        refine mv_ld hX (j := 15) (by decide) (by decide) rfl (by decide) (show _ < 62 by omega) dX4_standingOf_21 ?_
        rw [hF.2.2.2 k f hf]
        refine rv_ldc hX q2291 dX4_standingOf_22 ?_
        rw [show (1000000 : Int32) = nI 1000000 from by decide]
        first | refine nv_idiv hX (by omega) (by omega) (by omega) dX4_standingOf_24 ?_ | refine rv_idiv hX dX4_standingOf_24 (by decide) ?_
        refine rv_iload_n hX dX4_standingOf_25 rfl ?_
        first | refine nv_icmp_ne hX 33 (by omega) (by omega) dX4_standingOf_26 (by decide) (fun c_26 => ?_) (fun c_26 => ?_) | refine rv_icmp_ne hX 33 dX4_standingOf_26 (by decide) (fun c_26 => ?_) (fun c_26 => ?_)
        · skip
          refine nv_iconst hX (m := 0) (by decide) dX4_standingOf_33 ?_
          first | refine nv_iadd hX dX4_standingOf_34 ?_ | refine rv_iadd hX dX4_standingOf_34 ?_
          refine rv_istore_n hX dX4_standingOf_35 (rv_st_2 rfl) ?_
          first | refine nv_iinc hX (m := 1) dX4_standingOf_36 rfl (by decide) (rv_st_3 rfl) ?_ | refine rv_iinc hX dX4_standingOf_36 rfl rfl (rv_st_3 rfl) ?_
          refine rv_goto hX 4 dX4_standingOf_39 (by decide) ?_
          have h9 := ih (k + 1) (by omega) (by omega)
          rw [hct] at h9
          first
            | (rw [if_pos c_26] at h9; exact h9)
            | (rw [if_neg c_26] at h9; exact h9)
        · skip
          refine nv_iconst hX (m := 1) (by decide) dX4_standingOf_29 ?_
          refine rv_goto hX 34 dX4_standingOf_30 (by decide) ?_
          first | refine nv_iadd hX dX4_standingOf_34 ?_ | refine rv_iadd hX dX4_standingOf_34 ?_
          refine rv_istore_n hX dX4_standingOf_35 (rv_st_2 rfl) ?_
          first | refine nv_iinc hX (m := 1) dX4_standingOf_36 rfl (by decide) (rv_st_3 rfl) ?_ | refine rv_iinc hX dX4_standingOf_36 rfl rfl (rv_st_3 rfl) ?_
          refine rv_goto hX 4 dX4_standingOf_39 (by decide) ?_
          have h9 := ih (k + 1) (by omega) (by omega)
          rw [hct] at h9
          first
            | (rw [if_pos c_26] at h9; exact h9)
            | (rw [if_neg c_26] at h9; exact h9)
  refine nv_iconst hX (m := 0) (by decide) dX4_standingOf_0 ?_
  refine rv_istore_n hX dX4_standingOf_1 (rv_st_2 rfl) ?_
  refine nv_iconst hX (m := 0) (by decide) dX4_standingOf_2 ?_
  refine rv_istore_n hX dX4_standingOf_3 (rv_st_3 rfl) ?_
  exact loop _ 0 (Nat.zero_le _) (Nat.lt_succ_self _)
theorem m_atomsOf {G : rv_G} (hG : rv_GK G) {d : Nat} (hd : 1 ≤ d) {σ : rv_S} {b : Nat} {its : List sp_I} (hb : b < 17) (hl : its.length ≤ 6) (h6 : σ.2.1 6 b = nI its.length) (h7 : ∀ (i : Nat) (it : sp_I), its[i]? = some it → σ.2.1 7 (6 * b + i) = nI it.1 ∧ it.1 ≤ 3) : mC G d yX4_atomsOf wX4_atomsOf [.int (nI b)] σ (mPi (fun r τ => τ = σ ∧ r = nI (its.filter (fun it => it.1 == 0)).length)) := by
  refine mv_start hG (by decide +kernel) (Nat.le_of_ble_eq_true rfl) (fun X Hb o hX1 hX hE => ?_)
  subst hX1
  show rv_V X (rv_mh Hb o _) 0 [some (.ref o), some (.int (nI b)), none, none] []
  have loop : ∀ (n k : Nat), k ≤ its.length → its.length - k < n → rv_V X (rv_mh Hb o σ) 4 [some (.ref o), some (.int (nI b)), some (.int (nI ((its.take k).filter (fun it => it.1 == 0)).length)), some (.int (nI k))] [] := by
    intro n
    induction n with
    | zero => intro k h1 h2; omega
    | succ n ih =>
      intro k h1 h2
      refine rv_iload_n hX dX4_atomsOf_4 rfl ?_
      refine rv_aload_n hX dX4_atomsOf_5 rfl ?_
      refine mv_ga hX (k := 6) (j := 6) gX4_25_X4 (by decide) rfl (by decide) dX4_atomsOf_6 ?_
      refine rv_iload_n hX dX4_atomsOf_9 rfl ?_
      refine mv_ld hX (j := 6) (by decide) (by decide) rfl (by decide) (show _ < 17 by omega) dX4_atomsOf_10 ?_
      rw [h6]
      first | refine nv_icmp_ge hX 37 (by omega) (by omega) dX4_atomsOf_11 (by decide) (fun c_11 => ?_) (fun c_11 => ?_) | refine rv_icmp_ge hX 37 dX4_atomsOf_11 (by decide) (fun c_11 => ?_) (fun c_11 => ?_)
      · skip
        refine rv_iload_n hX dX4_atomsOf_37 rfl ?_
        refine mv_reti hX hE dX4_atomsOf_38 ?_
        refine ⟨rfl, ?_⟩
        rw [List.take_of_length_le (by omega)]
      · skip
        obtain ⟨it, hit⟩ : ∃ it, its[k]? = some it := ⟨its[k], List.getElem?_eq_getElem (by omega)⟩
        obtain ⟨q1, q2⟩ := h7 k it hit
        have hct : ((its.take (k + 1)).filter (fun it => it.1 == 0)).length = ((its.take k).filter (fun it => it.1 == 0)).length + (if it.1 = 0 then 1 else 0) := by
          rw [sp_take_get hit, List.filter_append, List.length_append]
          congr 1
          by_cases e : it.1 = 0
          · rw [List.filter_cons_of_pos (by simpa using e), if_pos e]
            rfl
          · rw [List.filter_cons_of_neg (by simpa using e), if_neg e]
            rfl
        refine rv_iload_n hX dX4_atomsOf_14 rfl ?_
        refine rv_aload_n hX dX4_atomsOf_15 rfl ?_
        refine rv_iload_n hX dX4_atomsOf_16 rfl ?_
        refine rv_iload_n hX dX4_atomsOf_17 rfl ?_
        refine mv_calli hX iX4_148 rfl mdX4_kindOf (m_kindOf hG (d := d - 1) (by omega)) (by omega) rfl rfl (Nat.le_of_ble_eq_true rfl) dX4_atomsOf_18 (fun r_18 τ_18 h_18 => ?_)
        obtain ⟨rfl, rfl⟩ := h_18
        rw [q1]
        first | refine zv_if_ne hX 28 dX4_atomsOf_21 (by decide) (fun c_21 => ?_) (fun c_21 => ?_) | refine nv_if_ne hX 28 (by omega) dX4_atomsOf_21 (by decide) (fun c_21 => ?_) (fun c_21 => ?_) | refine rv_if_ne hX 28 dX4_atomsOf_21 (by decide) (fun c_21 => ?_) (fun c_21 => ?_)
        · skip
          refine nv_iconst hX (m := 0) (by decide) dX4_atomsOf_28 ?_
          first | refine nv_iadd hX dX4_atomsOf_29 ?_ | refine rv_iadd hX dX4_atomsOf_29 ?_
          refine rv_istore_n hX dX4_atomsOf_30 (rv_st_2 rfl) ?_
          first | refine nv_iinc hX (m := 1) dX4_atomsOf_31 rfl (by decide) (rv_st_3 rfl) ?_ | refine rv_iinc hX dX4_atomsOf_31 rfl rfl (rv_st_3 rfl) ?_
          refine rv_goto hX 4 dX4_atomsOf_34 (by decide) ?_
          have h9 := ih (k + 1) (by omega) (by omega)
          rw [hct] at h9
          first
            | (rw [if_pos c_21] at h9; exact h9)
            | (rw [if_neg (by omega)] at h9; exact h9)
        · skip
          refine nv_iconst hX (m := 1) (by decide) dX4_atomsOf_24 ?_
          refine rv_goto hX 29 dX4_atomsOf_25 (by decide) ?_
          first | refine nv_iadd hX dX4_atomsOf_29 ?_ | refine rv_iadd hX dX4_atomsOf_29 ?_
          refine rv_istore_n hX dX4_atomsOf_30 (rv_st_2 rfl) ?_
          first | refine nv_iinc hX (m := 1) dX4_atomsOf_31 rfl (by decide) (rv_st_3 rfl) ?_ | refine rv_iinc hX dX4_atomsOf_31 rfl rfl (rv_st_3 rfl) ?_
          refine rv_goto hX 4 dX4_atomsOf_34 (by decide) ?_
          have h9 := ih (k + 1) (by omega) (by omega)
          rw [hct] at h9
          first
            | (rw [if_pos c_21] at h9; exact h9)
            | (rw [if_neg (by omega)] at h9; exact h9)
  refine nv_iconst hX (m := 0) (by decide) dX4_atomsOf_0 ?_
  refine rv_istore_n hX dX4_atomsOf_1 (rv_st_2 rfl) ?_
  refine nv_iconst hX (m := 0) (by decide) dX4_atomsOf_2 ?_
  refine rv_istore_n hX dX4_atomsOf_3 (rv_st_3 rfl) ?_
  exact loop _ 0 (Nat.zero_le _) (Nat.lt_succ_self _)
