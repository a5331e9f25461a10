/-! THE REFERENCE: small ones -/
set_option maxRecDepth 100000
theorem m_goesWell {G : rv_G} (hG : rv_GK G) {d : Nat} {σ : rv_S} {n : Nat} (hn : n < 10) : mC G d yX4_goesWell wX4_goesWell [.int (nI n)] σ (mPz (fun r τ => τ = rv_sF σ 0 (nI n) ∧ r = decide (n = 0))) := by
  refine mv_start hG (by decide +kernel) (Nat.le_of_ble_eq_true rfl) (fun X Hb o hX1 hX hE => ?_)
  subst hX1
  show rv_V X (rv_mh Hb o _) 0 [some (.ref o), some (.int (nI n))] []
  refine rv_aload_n hX dX4_goesWell_0 rfl ?_
  refine rv_iload_n hX dX4_goesWell_1 rfl ?_
  refine mv_pi hX (k := 0) pX4_131_X4 (by decide) rfl rfl rfl dX4_goesWell_2 ?_
  refine rv_iload_n hX dX4_goesWell_5 rfl ?_
  first | refine zv_if_ne hX 13 dX4_goesWell_6 (by decide) (fun c_6 => ?_) (fun c_6 => ?_) | refine nv_if_ne hX 13 (by omega) dX4_goesWell_6 (by decide) (fun c_6 => ?_) (fun c_6 => ?_) | refine rv_if_ne hX 13 dX4_goesWell_6 (by decide) (fun c_6 => ?_) (fun c_6 => ?_)
  · skip
    refine nv_iconst hX (m := 0) (by decide) dX4_goesWell_13 ?_
    refine mv_retz hX hE (b := false) rfl dX4_goesWell_14 ?_
    first
      | exact ⟨rfl, by rw [decide_eq_true (by omega)]⟩
      | exact ⟨rfl, by rw [decide_eq_false (by omega)]⟩
  · skip
    refine nv_iconst hX (m := 1) (by decide) dX4_goesWell_9 ?_
    refine rv_goto hX 14 dX4_goesWell_10 (by decide) ?_
    refine mv_retz hX hE (b := true) rfl dX4_goesWell_14 ?_
    first
      | exact ⟨rfl, by rw [decide_eq_true (by omega)]⟩
      | exact ⟨rfl, by rw [decide_eq_false (by omega)]⟩
/-- the place of a rule or a deed by its number -/
def sp_plc (Cs : List sp_C) (num : Int32) (x : Option Nat) : Prop := (x = none ∧ ∀ C, C ∈ Cs → nI C.num ≠ num) ∨ ∃ i C, x = some i ∧ Cs[i]? = some C ∧ nI C.num = num
theorem m_placeOf {G : rv_G} (hG : rv_GK G) {d : Nat} {σ : rv_S} {Cs : List sp_C} {first : Nat} {num : Int32} (hf : first ≤ 10) (hl : Cs.length ≤ 6 ∨ (first = 0 ∧ Cs.length ≤ 10)) (hC : ∀ (i : Nat) (C : sp_C), Cs[i]? = some C → σ.2.1 3 (first + i) = nI C.num) : mC G d yX4_placeOf wX4_placeOf [.int num, .int (nI first), .int (nI Cs.length)] σ (mPi (fun r τ => τ = σ ∧ ∃ x, sp_plc Cs num x ∧ r = rv_oi (x.map (fun i => first + i)))) := by
  refine mv_start hG (by decide +kernel) (Nat.le_of_ble_eq_true rfl) (fun X Hb o hX1 hX hE => ?_)
  subst hX1
  show rv_V X (rv_mh Hb o _) 0 [some (.ref o), some (.int num), some (.int (nI first)), some (.int (nI Cs.length)), none, none] []
  have loop : ∀ (n k : Nat) (x : Option Nat), k ≤ Cs.length → Cs.length - k < n → ((x = none ∧ ∀ i C, i < k → Cs[i]? = some C → nI C.num ≠ num) ∨ ∃ i C, x = some i ∧ Cs[i]? = some C ∧ nI C.num = num) → rv_V X (rv_mh Hb o σ) 6 [some (.ref o), some (.int num), some (.int (nI first)), some (.int (nI Cs.length)), some (.int (rv_oi (x.map (fun i => first + i)))), some (.int (nI (first + k)))] [] := by
    intro n
    induction n with
    | zero => intro k x h1 h2; omega
    | succ n ih =>
      intro k x h1 h2 h3
      refine rv_iload hX dX4_placeOf_6 rfl ?_
      refine rv_iload_n hX dX4_placeOf_8 rfl ?_
      refine rv_iload_n hX dX4_placeOf_9 rfl ?_
      first | refine nv_iadd hX dX4_placeOf_10 ?_ | refine rv_iadd hX dX4_placeOf_10 ?_
      first | refine nv_icmp_ge hX 40 (by omega) (by omega) dX4_placeOf_11 (by decide) (fun c_11 => ?_) (fun c_11 => ?_) | refine rv_icmp_ge hX 40 dX4_placeOf_11 (by decide) (fun c_11 => ?_) (fun c_11 => ?_)
      · skip
        refine rv_iload hX dX4_placeOf_40 rfl ?_
        refine mv_reti hX hE dX4_placeOf_42 ?_
        refine ⟨rfl, x, ?_, rfl⟩
        rcases h3 with ⟨e1, e2⟩ | h3
        · refine Or.inl ⟨e1, fun C hCm => ?_⟩
          obtain ⟨i, hi⟩ := List.getElem?_of_mem hCm
          exact e2 i C (by have := (List.getElem?_eq_some_iff.mp hi).1; omega) hi
        · exact Or.inr h3
      · skip
        obtain ⟨C, hCk⟩ : ∃ C, Cs[k]? = some C := ⟨Cs[k]'(by omega), List.getElem?_eq_getElem (by omega)⟩
        have hnm := hC k C hCk
        refine rv_aload_n hX dX4_placeOf_14 rfl ?_
        refine mv_ga hX (k := 3) (j := 3) gX4_16_X4 (by decide) rfl (by decide) dX4_placeOf_15 ?_
        refine rv_iload hX dX4_placeOf_18 rfl ?_
        refine mv_ld hX (j := 3) (by decide) (by decide) rfl (by decide) (show _ < 17 by omega) dX4_placeOf_20 ?_
        rw [hnm]
        refine rv_iload_n hX dX4_placeOf_21 rfl ?_
        first | refine nv_icmp_ne hX 30 (by omega) (by omega) dX4_placeOf_22 (by decide) (fun c_22 => ?_) (fun c_22 => ?_) | refine rv_icmp_ne hX 30 dX4_placeOf_22 (by decide) (fun c_22 => ?_) (fun c_22 => ?_)
        · skip
          refine rv_iload hX dX4_placeOf_30 rfl ?_
          refine rv_istore hX dX4_placeOf_32 (rv_st_4 rfl) ?_
          first | refine nv_iinc hX (m := 1) dX4_placeOf_34 rfl (by decide) (rv_st_5 rfl) ?_ | refine rv_iinc hX dX4_placeOf_34 rfl rfl (rv_st_5 rfl) ?_
          refine rv_goto hX 6 dX4_placeOf_37 (by decide) ?_
          first
            | exact ih (k + 1) (some k) (by omega) (by omega) (Or.inr ⟨k, C, rfl, hCk, c_22⟩)
            | (refine ih (k + 1) x (by omega) (by omega) ?_
               rcases h3 with ⟨e1, e2⟩ | h3
               · refine Or.inl ⟨e1, fun i D hi hD => ?_⟩
                 by_cases q : i = k
                 · subst q
                   rw [hCk] at hD
                   cases hD
                   exact c_22
                 · exact e2 i D (by omega) hD
               · exact Or.inr h3)
        · skip
          refine rv_iload hX dX4_placeOf_25 rfl ?_
          refine rv_goto hX 32 dX4_placeOf_27 (by decide) ?_
          refine rv_istore hX dX4_placeOf_32 (rv_st_4 rfl) ?_
          first | refine nv_iinc hX (m := 1) dX4_placeOf_34 rfl (by decide) (rv_st_5 rfl) ?_ | refine rv_iinc hX dX4_placeOf_34 rfl rfl (rv_st_5 rfl) ?_
          refine rv_goto hX 6 dX4_placeOf_37 (by decide) ?_
          first
            | exact ih (k + 1) (some k) (by omega) (by omega) (Or.inr ⟨k, C, rfl, hCk, c_22⟩)
            | (refine ih (k + 1) x (by omega) (by omega) ?_
               rcases h3 with ⟨e1, e2⟩ | h3
               · refine Or.inl ⟨e1, fun i D hi hD => ?_⟩
                 by_cases q : i = k
                 · subst q
                   rw [hCk] at hD
                   cases hD
                   exact c_22
                 · exact e2 i D (by omega) hD
               · exact Or.inr h3)
  refine rv_iconst hX (v := -1) dX4_placeOf_0 (by decide) ?_
  refine rv_istore hX dX4_placeOf_1 (rv_st_4 rfl) ?_
  refine rv_iload_n hX dX4_placeOf_3 rfl ?_
  refine rv_istore hX dX4_placeOf_4 (rv_st_5 rfl) ?_
  exact loop _ 0 none (Nat.zero_le _) (Nat.lt_succ_self _) (Or.inl ⟨rfl, fun i C hi => absurd hi (by omega)⟩)
theorem m_ruleAt {G : rv_G} (hG : rv_GK G) {d : Nat} (hd : 1 ≤ d) {σ : rv_S} {S : List Nat} {R : List sp_C} {num : Int32} (hR : mRules σ S R) : mC G d yX4_ruleAt wX4_ruleAt [.int num] σ (mPi (fun r τ => τ = σ ∧ ∃ x, sp_plc R num x ∧ r = rv_oi x)) := by
  refine mv_start hG (by decide +kernel) (Nat.le_of_ble_eq_true rfl) (fun X Hb o hX1 hX hE => ?_)
  subst hX1
  show rv_V X (rv_mh Hb o _) 0 [some (.ref o), some (.int num)] []
  refine rv_aload_n hX dX4_ruleAt_0 rfl ?_
  refine rv_iload_n hX dX4_ruleAt_1 rfl ?_
  refine nv_iconst hX (m := 0) (by decide) dX4_ruleAt_2 ?_
  refine rv_aload_n hX dX4_ruleAt_3 rfl ?_
  refine mv_ga hX (k := 1) (j := 1) gX4_7_X4 (by decide) rfl (by decide) dX4_ruleAt_4 ?_
  refine nv_iconst hX (m := 1) (by decide) dX4_ruleAt_7 ?_
  refine mv_ld hX (j := 1) (by decide) (by decide) rfl (by decide) (show _ < 11 by omega) dX4_ruleAt_8 ?_
  rw [hR.2.1]
  refine mv_calli hX iX4_329 rfl mdX4_placeOf (m_placeOf hG (d := d - 1) (first := 0) (Nat.zero_le _) (Or.inr ⟨rfl, hR.2.2.1⟩) (fun i C e => by rw [Nat.zero_add]; exact (hR.2.2.2 i C e).1.num)) (by omega) rfl rfl (Nat.le_of_ble_eq_true rfl) dX4_ruleAt_9 (fun r_9 τ_9 h_9 => ?_)
  obtain ⟨rfl, x, hx, rfl⟩ := h_9
  refine mv_reti hX hE dX4_ruleAt_12 ?_
  refine ⟨rfl, x, hx, ?_⟩
  cases x with
  | none => rfl
  | some i => show rv_oi (some (0 + i)) = _; rw [Nat.zero_add]
theorem m_countMatches {G : rv_G} (hG : rv_GK G) {d : Nat} (hd : 6 ≤ d) {σ : rv_S} {S F : List Nat} {b : Nat} {ord : Nat → Nat} {its : List sp_I} {todo : List (List Nat × sp_V)} (hc : mCfg σ S F b ord its) (hr : mRun σ F its todo) : mC G d yX4_countMatches wX4_countMatches [] σ (mPi (fun r τ => rv_same [33, 34] [27, 28, 29] σ τ ∧ r = nI todo.length)) := by
  refine mv_start hG (by decide +kernel) (Nat.le_of_ble_eq_true rfl) (fun X Hb o hX1 hX hE => ?_)
  subst hX1
  show rv_V X (rv_mh Hb o _) 0 [some (.ref o), none] []
  have loop : ∀ (n m : Nat) (Q : List sp_Q) (τ : rv_S), Q.length < n → m + Q.length = todo.length → rv_same [33, 34] [27, 28, 29] σ τ → mRun τ F its Q → rv_V X (rv_mh Hb o τ) 2 [some (.ref o), some (.int (nI m))] [] := by
    intro n
    induction n with
    | zero => intro m Q τ h; omega
    | succ n ih =>
      intro m Q τ h1 h2 h3 h4
      refine rv_aload_n hX dX4_countMatches_2 rfl ?_
      refine mv_callz hX iX4_218 rfl mdX4_nextMatch (m_nextMatch hG (d := d - 1) (by omega) (hc.same h3 (by decide) (by decide)) h4) (by omega) rfl rfl (Nat.le_of_ble_eq_true rfl) dX4_countMatches_3 (fun r_3 τ_3 h_3 => ?_)
      obtain ⟨n1, n2, n3⟩ := h_3
      first | refine zv_if_eq hX 15 dX4_countMatches_6 (by decide) (fun c_6 => ?_) (fun c_6 => ?_) | refine nv_if_eq hX 15 (by omega) dX4_countMatches_6 (by decide) (fun c_6 => ?_) (fun c_6 => ?_) | refine rv_if_eq hX 15 dX4_countMatches_6 (by decide) (fun c_6 => ?_) (fun c_6 => ?_)
      · skip
        refine rv_iload_n hX dX4_countMatches_15 rfl ?_
        refine mv_reti hX hE dX4_countMatches_16 ?_
        cases Q with
        | nil => exact ⟨h3.tr n1, by rw [← h2]; rfl⟩
        | cons q T =>
          have := (n2 q.1 q.2 T rfl).1
          rw [c_6] at this
          cases this
      · skip
        first | refine nv_iinc hX (m := 1) dX4_countMatches_9 rfl (by decide) (rv_st_1 rfl) ?_ | refine rv_iinc hX dX4_countMatches_9 rfl rfl (rv_st_1 rfl) ?_
        refine rv_goto hX 2 dX4_countMatches_12 (by decide) ?_
        cases Q with
        | nil => have := n3 rfl; rw [c_6] at this; cases this
        | cons q T =>
          have hm := (n2 q.1 q.2 T rfl).2
          rw [List.length_cons] at h1 h2
          exact ih (m + 1) T _ (by omega) (by omega) (h3.tr n1) (Or.inr ⟨q.1, q.2, hm⟩)
  refine nv_iconst hX (m := 0) (by decide) dX4_countMatches_0 ?_
  refine rv_istore_n hX dX4_countMatches_1 (rv_st_1 rfl) ?_
  exact loop _ 0 todo σ (Nat.lt_succ_self _) (Nat.zero_add _) .rf hr
/-- the tag of a match's ATOM's fact -/
def sp_tagk (tv : Nat → Nat) (l : List Nat) (a : Nat) : Nat := match l[a]? with
  | none => 0
  | some k => tv k
theorem m_tagOf {G : rv_G} (hG : rv_GK G) {d : Nat} (hd : 1 ≤ d) {σ : rv_S} {S F : List Nat} {b a : Nat} {its : List sp_I} {ks : List Nat} {tv : Nat → Nat} (hc : mCfg σ S F b (fun p => p) its) (ht : mTri σ its ks) (htv : ∀ k, k ∈ sp_atk its ks → σ.2.1 16 k = nI (tv k)) (ha : a < 3) : mC G d yX4_tagOf wX4_tagOf [.int (nI a)] σ (mPi (fun r τ => τ = σ ∧ r = nI (sp_tagk tv (sp_atk its ks) a))) := by
  refine mv_start hG (by decide +kernel) (Nat.le_of_ble_eq_true rfl) (fun X Hb o hX1 hX hE => ?_)
  subst hX1
  show rv_V X (rv_mh Hb o _) 0 [some (.ref o), some (.int (nI a)), none, none] []
  have hb17 := hc.2.2.2.2.1
  obtain ⟨hS8, hF', hmt, hln, -, hl6, hor, hits⟩ := hc
  obtain ⟨hkl, hks⟩ := ht
  have h2 : ∀ (a c : List sp_I) (b e : List Nat), a.length = b.length → sp_atk (a ++ c) (b ++ e) = sp_atk a b ++ sp_atk c e := by
    intro a
    induction a with
    | nil => intro c b e h; have : b = [] := List.eq_nil_of_length_eq_zero h.symm
             subst this
             rfl
    | cons y a iha =>
      intro c b e hl
      cases b with
      | nil => cases hl
      | cons z b =>
        show (if y.1 = 0 then z :: sp_atk (a ++ c) (b ++ e) else sp_atk (a ++ c) (b ++ e)) = (if y.1 = 0 then z :: sp_atk a b else sp_atk a b) ++ sp_atk c e
        rw [iha c b e (Nat.succ.inj hl)]
        split <;> rfl
  have loop : ∀ (n s c : Nat), s ≤ its.length → its.length - s < n → (sp_atk (its.take s) (ks.take s)).length = c → c ≤ a → rv_V X (rv_mh Hb o σ) 4 [some (.ref o), some (.int (nI a)), some (.int (nI (a - c))), some (.int (nI s))] [] := by
    intro n
    induction n with
    | zero => intro s c g1 g2; omega
    | succ n ih =>
      intro s c g1 g2 g3 g4
      refine rv_iload_n hX dX4_tagOf_4 rfl ?_
      refine rv_aload_n hX dX4_tagOf_5 rfl ?_
      refine mv_gi hX (k := 32) gX4_158_X4 (by decide) rfl dX4_tagOf_6 ?_
      rw [hln]
      first | refine nv_icmp_ge hX 49 (by omega) (by omega) dX4_tagOf_9 (by decide) (fun c_9 => ?_) (fun c_9 => ?_) | refine rv_icmp_ge hX 49 dX4_tagOf_9 (by decide) (fun c_9 => ?_) (fun c_9 => ?_)
      · skip
        have hse : s = its.length := by omega
        refine nv_iconst hX (m := 0) (by decide) dX4_tagOf_49 ?_
        refine mv_reti hX hE dX4_tagOf_50 ?_
        refine ⟨rfl, ?_⟩
        rw [hse, List.take_length, List.take_of_length_le (by omega)] at g3
        unfold sp_tagk
        rw [List.getElem?_eq_none (by omega)]
      · skip
        obtain ⟨it, hit⟩ : ∃ t, its[s]? = some t := ⟨its[s], List.getElem?_eq_getElem (by omega)⟩
        obtain ⟨k, hk⟩ : ∃ t, ks[s]? = some t := ⟨ks[s]'(by omega), List.getElem?_eq_getElem (by omega)⟩
        obtain ⟨hI, hwf⟩ := hits s it hit
        have hk3 := hwf.1
        have hk62 := (hks s k hk).2
        have hat := sp_atk_take hkl hit hk
        have hall : sp_atk its ks = sp_atk (its.take (s + 1)) (ks.take (s + 1)) ++ sp_atk (its.drop (s + 1)) (ks.drop (s + 1)) := by
          rw [← h2 _ _ _ _ (by rw [List.length_take, List.length_take, hkl]), List.take_append_drop, List.take_append_drop]
        refine rv_aload_n hX dX4_tagOf_12 rfl ?_
        refine rv_aload_n hX dX4_tagOf_13 rfl ?_
        refine mv_gi hX (k := 31) gX4_155_X4 (by decide) rfl dX4_tagOf_14 ?_
        skip
        refine rv_iload_n hX dX4_tagOf_17 rfl ?_
        rw [hmt]
        refine mv_calli hX iX4_148 rfl mdX4_kindOf (m_kindOf hG (d := d - 1) (by omega)) (by omega) rfl rfl (Nat.le_of_ble_eq_true rfl) dX4_tagOf_18 (fun r_18 τ_18 h_18 => ?_)
        obtain ⟨rfl, rfl⟩ := h_18
        rw [hI.1]
        first | refine zv_if_ne hX 43 dX4_tagOf_21 (by decide) (fun c_21 => ?_) (fun c_21 => ?_) | refine nv_if_ne hX 43 (by omega) dX4_tagOf_21 (by decide) (fun c_21 => ?_) (fun c_21 => ?_) | refine rv_if_ne hX 43 dX4_tagOf_21 (by decide) (fun c_21 => ?_) (fun c_21 => ?_)
        · skip
          first | refine nv_iinc hX (m := 1) dX4_tagOf_43 rfl (by decide) (rv_st_3 rfl) ?_ | refine rv_iinc hX dX4_tagOf_43 rfl rfl (rv_st_3 rfl) ?_
          refine rv_goto hX 4 dX4_tagOf_46 (by decide) ?_
          first
            | (rw [if_pos c_21] at hat
               rw [show Int32.ofInt (-1) = (-1 : Int32) from rfl, nI_dec (by omega), show a - c - 1 = a - (c + 1) by omega]
               exact ih (s + 1) (c + 1) (by omega) (by omega) (by rw [hat, List.length_append, g3]; rfl) (by omega))
            | (rw [if_neg (by omega), List.append_nil] at hat
               exact ih (s + 1) c (by omega) (by omega) (by rw [hat, g3]) g4)
        · skip
          refine rv_iload_n hX dX4_tagOf_24 rfl ?_
          first | refine zv_if_ne hX 40 dX4_tagOf_25 (by decide) (fun c_25 => ?_) (fun c_25 => ?_) | refine nv_if_ne hX 40 (by omega) dX4_tagOf_25 (by decide) (fun c_25 => ?_) (fun c_25 => ?_) | refine rv_if_ne hX 40 dX4_tagOf_25 (by decide) (fun c_25 => ?_) (fun c_25 => ?_)
          · skip
            refine rv_iinc hX dX4_tagOf_40 rfl rfl (rv_st_2 rfl) ?_
            first | refine nv_iinc hX (m := 1) dX4_tagOf_43 rfl (by decide) (rv_st_3 rfl) ?_ | refine rv_iinc hX dX4_tagOf_43 rfl rfl (rv_st_3 rfl) ?_
            refine rv_goto hX 4 dX4_tagOf_46 (by decide) ?_
            first
              | (rw [if_pos c_21] at hat
                 rw [show Int32.ofInt (-1) = (-1 : Int32) from rfl, nI_dec (by omega), show a - c - 1 = a - (c + 1) by omega]
                 exact ih (s + 1) (c + 1) (by omega) (by omega) (by rw [hat, List.length_append, g3]; rfl) (by omega))
              | (rw [if_neg (by omega), List.append_nil] at hat
                 exact ih (s + 1) c (by omega) (by omega) (by rw [hat, g3]) g4)
          · skip
            refine rv_aload_n hX dX4_tagOf_28 rfl ?_
            refine mv_ga hX (k := 16) (j := 16) gX4_55_X4 (by decide) rfl (by decide) dX4_tagOf_29 ?_
            refine rv_aload_n hX dX4_tagOf_32 rfl ?_
            refine mv_ga hX (k := 36) (j := 27) gX4_88_X4 (by decide) rfl (by decide) dX4_tagOf_33 ?_
            refine rv_iload_n hX dX4_tagOf_36 rfl ?_
            skip
            refine mv_ld hX (j := 27) (by decide) (by decide) rfl (by decide) (show _ < 6 by omega) dX4_tagOf_37 ?_
            rw [(hks s k hk).1]
            refine mv_ld hX (j := 16) (by decide) (by decide) rfl (by decide) (show _ < 62 by omega) dX4_tagOf_38 ?_
            have hkk : (sp_atk its ks)[a]? = some k := by
              rw [hall, hat, if_pos c_21, List.append_assoc, List.getElem?_append_right (by omega), show a - (sp_atk (its.take s) (ks.take s)).length = 0 by omega]
              rfl
            rw [htv k (List.mem_of_getElem? hkk)]
            refine mv_reti hX hE dX4_tagOf_39 ?_
            refine ⟨rfl, ?_⟩
            unfold sp_tagk
            rw [hkk]
  refine rv_iload_n hX dX4_tagOf_0 rfl ?_
  refine rv_istore_n hX dX4_tagOf_1 (rv_st_2 rfl) ?_
  refine nv_iconst hX (m := 0) (by decide) dX4_tagOf_2 ?_
  refine rv_istore_n hX dX4_tagOf_3 (rv_st_3 rfl) ?_
  exact loop _ 0 0 (Nat.zero_le _) (Nat.lt_succ_self _) rfl (Nat.zero_le _)
