/-! THE REFERENCE: facts that come to stand -/
set_option maxRecDepth 100000
theorem nI_dec {k : Nat} (h : 0 < k) : nI k + (-1) = nI (k - 1) := by
  obtain ⟨q, rfl⟩ : ∃ q, k = q + 1 := ⟨k - 1, by omega⟩
  rw [show nI (q + 1) = nI q + 1 from (nI_add q 1).symm, Int32.add_assoc]
  exact Int32.add_zero _
def sp_srt (F : List Nat) : Prop := F.Pairwise (· < ·)
/-- a list with one number more -/
def sp_insr (F : List Nat) (f : Nat) (F' : List Nat) : Prop := sp_srt F' ∧ F'.length = F.length + 1 ∧ ∀ x, x ∈ F' ↔ x = f ∨ x ∈ F
theorem sp_srt_get {F : List Nat} (h : sp_srt F) {i j a b : Nat} (hi : F[i]? = some a) (hj : F[j]? = some b) (hij : i < j) : a < b := by
  obtain ⟨h1, e1⟩ := List.getElem?_eq_some_iff.mp hi
  obtain ⟨h2, e2⟩ := List.getElem?_eq_some_iff.mp hj
  rw [← e1, ← e2]
  exact List.pairwise_iff_getElem.mp h i j h1 h2 hij
theorem sp_srt_uniq {F G : List Nat} (hF : sp_srt F) (hG : sp_srt G) (h : ∀ x, x ∈ F ↔ x ∈ G) : F = G := by
  induction F generalizing G with
  | nil =>
    cases G with
    | nil => rfl
    | cons b G => exact absurd ((h b).mpr List.mem_cons_self) (by simp)
  | cons a F ih =>
    cases G with
    | nil => exact absurd ((h a).mp List.mem_cons_self) (by simp)
    | cons b G =>
      have hF' := List.pairwise_cons.mp hF
      have hG' := List.pairwise_cons.mp hG
      have e : a = b := by
        rcases List.mem_cons.mp ((h a).mp List.mem_cons_self) with q | q
        · exact q
        · rcases List.mem_cons.mp ((h b).mpr List.mem_cons_self) with q2 | q2
          · exact q2.symm
          · have := hF'.1 b q2
            have := hG'.1 a q
            omega
      subst e
      congr 1
      refine ih hF'.2 hG'.2 (fun x => ?_)
      constructor
      · intro hx
        rcases List.mem_cons.mp ((h x).mp (List.mem_cons_of_mem _ hx)) with q | q
        · subst q
          exact absurd (hF'.1 x hx) (Nat.lt_irrefl _)
        · exact q
      · intro hx
        rcases List.mem_cons.mp ((h x).mpr (List.mem_cons_of_mem _ hx)) with q | q
        · subst q
          exact absurd (hG'.1 x hx) (Nat.lt_irrefl _)
        · exact q
theorem sp_ins_at {F : List Nat} {f k : Nat} (h : sp_srt F) (hk : k ≤ F.length) (h1 : ∀ j a, j < k → F[j]? = some a → a < f) (h2 : ∀ j a, k ≤ j → F[j]? = some a → f < a) : sp_insr F f (F.take k ++ f :: F.drop k) := by
  refine ⟨?_, ?_, fun x => ?_⟩
  · unfold sp_srt
    rw [List.pairwise_append]
    refine ⟨h.sublist (List.take_sublist _ _), ?_, fun a ha b hb => ?_⟩
    · rw [List.pairwise_cons]
      refine ⟨fun a ha => ?_, h.sublist (List.drop_sublist _ _)⟩
      obtain ⟨i, hi⟩ := List.getElem?_of_mem ha
      rw [List.getElem?_drop] at hi
      exact h2 _ a (by omega) hi
    · obtain ⟨i, hi⟩ := List.getElem?_of_mem ha
      rw [List.getElem?_take] at hi
      split at hi
      · rcases List.mem_cons.mp hb with rfl | hb
        · exact h1 i a (by assumption) hi
        · obtain ⟨j, hj⟩ := List.getElem?_of_mem hb
          rw [List.getElem?_drop] at hj
          exact sp_srt_get h hi hj (by omega)
      · cases hi
  · rw [List.length_append, List.length_cons, List.length_take, List.length_drop]
    omega
  · rw [List.mem_append, List.mem_cons]
    constructor
    · rintro (q | q | q)
      · exact Or.inr (List.mem_of_mem_take q)
      · exact Or.inl q
      · exact Or.inr (List.mem_of_mem_drop q)
    · rintro (q | q)
      · exact Or.inr (Or.inl q)
      · have : x ∈ F.take k ++ F.drop k := by rw [List.take_append_drop]; exact q
        rcases List.mem_append.mp this with q | q
        · exact Or.inl q
        · exact Or.inr (Or.inr q)
def mIns (σ : rv_S) (F : List Nat) (f : Nat) (τ : rv_S) : Prop := (f ∈ F ∧ τ = σ) ∨ (f ∉ F ∧ F.length = 60 ∧ τ = rv_sF σ 30 1) ∨ (f ∉ F ∧ F.length < 60 ∧ ∃ F', sp_insr F f F' ∧ mFacts τ F' ∧ rv_same [] [1, 15] σ τ ∧ ∀ i, i ≠ 6 → τ.2.1 1 i = σ.2.1 1 i)
theorem m_insert {G : rv_G} (hG : rv_GK G) {d : Nat} (hd : 1 ≤ d) {σ : rv_S} {F : List Nat} {f : Nat} (hF : mFacts σ F) (hl : F.length ≤ 60) (hs : sp_srt F) (hf : f < 8000000) : mC G d yX4_insert wX4_insert [.int (nI f)] σ (mPv (mIns σ F f)) := by
  refine mv_start hG (by decide +kernel) (Nat.le_of_ble_eq_true rfl) (fun X Hb o hX1 hX hE => ?_)
  subst hX1
  show rv_V X (rv_mh Hb o _) 0 [some (.ref o), some (.int (nI f)), none] []
  have loop : f ∉ F → F.length < 60 → ∀ (n k : Nat) (τ : rv_S), k ≤ F.length → k < n → rv_same [] [15] σ τ → (∀ j, j < k → τ.2.1 15 j = σ.2.1 15 j) → (∀ j, k < j → j ≤ F.length → τ.2.1 15 j = σ.2.1 15 (j - 1)) → (∀ j a, k ≤ j → F[j]? = some a → f < a) → rv_V X (rv_mh Hb o τ) 36 [some (.ref o), some (.int (nI f)), some (.int (nI k))] [] := by
    intro hni h60 n
    induction n with
    | zero => intro k τ h1 h2; omega
    | succ n ih =>
      intro k τ h1 h2 h3 h4 h5 h6
      have fin : (∀ j a, j < k → F[j]? = some a → a < f) → rv_V X (rv_mh Hb o τ) 72 [some (.ref o), some (.int (nI f)), some (.int (nI k))] [] := by
        intro h7
        have hS1 : rv_same [] [15] τ (rv_sU τ 15 k (nI f)) := .u (by decide)
        refine rv_aload_n hX dX4_insert_72 rfl ?_
        refine mv_ga hX (k := 15) (j := 15) gX4_52_X4 (by decide) rfl (by decide) dX4_insert_73 ?_
        refine rv_iload_n hX dX4_insert_76 rfl ?_
        refine rv_iload_n hX dX4_insert_77 rfl ?_
        refine mv_st hX (j := 15) (by decide) (by decide) rfl (by decide) (show _ < 62 by omega) dX4_insert_78 ?_
        refine rv_aload_n hX dX4_insert_79 rfl ?_
        refine mv_ga hX (k := 1) (j := 1) gX4_7_X4 (by decide) rfl (by decide) dX4_insert_80 ?_
        refine nv_bipush hX (m := 6) (by decide) dX4_insert_83 ?_
        refine rv_dup2 hX dX4_insert_85 rfl rfl ?_
        refine mv_ld hX (j := 1) (by decide) (by decide) rfl (by decide) (show _ < 11 by omega) dX4_insert_86 ?_
        rw [hS1.2.1 1 (by decide), h3.2.1 1 (by decide), hF.1]
        refine nv_iconst hX (m := 1) (by decide) dX4_insert_87 ?_
        first | refine nv_iadd hX dX4_insert_88 ?_ | refine rv_iadd hX dX4_insert_88 ?_
        refine mv_st hX (j := 1) (by decide) (by decide) rfl (by decide) (show _ < 11 by omega) dX4_insert_89 ?_
        refine mv_retv hX hE dX4_insert_90 ?_
        refine Or.inr (Or.inr ⟨hni, h60, _, sp_ins_at hs h1 h7 h6, ?_, ((h3.tr hS1).mn (by decide) (by decide)).tr (.u (by decide)), fun i hi => ?_⟩)
        · have hL : (F.take k ++ f :: F.drop k).length = F.length + 1 := (sp_ins_at hs h1 h7 h6).2.1
          refine ⟨by rw [rv_sU_2, if_pos ⟨rfl, rfl⟩, hL], by omega, fun a ha => ?_, fun j a hj => ?_⟩
          · rcases ((sp_ins_at hs h1 h7 h6).2.2 a).mp ha with q | q
            · omega
            · exact hF.2.2.1 a q
          · rw [rv_sU_2, if_neg (by omega), rv_sU_2]
            have hlk : (F.take k).length = k := by rw [List.length_take]; omega
            by_cases q : j = k
            · subst q
              rw [List.getElem?_append_right (by omega), hlk, Nat.sub_self] at hj
              cases hj
              rw [if_pos ⟨rfl, rfl⟩]
            · rw [if_neg (by omega)]
              by_cases q2 : j < k
              · rw [List.getElem?_append_left (by omega), List.getElem?_take, if_pos q2] at hj
                rw [h4 j q2]
                exact hF.2.2.2 j a hj
              · rw [List.getElem?_append_right (by omega), hlk, show j - k = (j - 1 - k) + 1 by omega, List.getElem?_cons_succ, List.getElem?_drop, show k + (j - 1 - k) = j - 1 by omega] at hj
                have := (List.getElem?_eq_some_iff.mp hj).1
                rw [h5 j (by omega) (by omega)]
                exact hF.2.2.2 _ a hj
        · rw [rv_sU_2, if_neg (by omega), hS1.2.1 1 (by decide), h3.2.1 1 (by decide)]
      refine rv_iload_n hX dX4_insert_36 rfl ?_
      first | refine nv_if_le hX 72 (by omega) dX4_insert_37 (by decide) (fun c_37 => ?_) (fun c_37 => ?_) | refine rv_if_le hX 72 dX4_insert_37 (by decide) (fun c_37 => ?_) (fun c_37 => ?_)
      · skip
        first
          | exact fin (fun j a hj => absurd hj (by omega))
          | (refine fin (fun j a' hj e => ?_)
             have hne : a ≠ f := fun q => hni (by rw [← q]; exact List.mem_of_getElem? ha)
             by_cases q : j = k - 1
             · subst q
               rw [ha] at e
               cases e
               omega
             · have := sp_srt_get hs e ha (by omega)
               omega)
      · skip
        obtain ⟨a, ha⟩ : ∃ a, F[k - 1]? = some a := ⟨F[k - 1], List.getElem?_eq_getElem (by omega)⟩
        have ha8 := hF.2.2.1 a (List.mem_of_getElem? ha)
        have hka : τ.2.1 15 (k - 1) = nI a := by rw [h4 (k - 1) (by omega)]; exact hF.2.2.2 _ a ha
        refine rv_aload_n hX dX4_insert_40 rfl ?_
        refine mv_ga hX (k := 15) (j := 15) gX4_52_X4 (by decide) rfl (by decide) dX4_insert_41 ?_
        refine rv_iload_n hX dX4_insert_44 rfl ?_
        refine nv_iconst hX (m := 1) (by decide) dX4_insert_45 ?_
        first | refine nv_isub hX (by omega) dX4_insert_46 ?_ | refine rv_isub hX dX4_insert_46 ?_
        refine mv_ld hX (j := 15) (by decide) (by decide) rfl (by decide) (show _ < 62 by omega) dX4_insert_47 ?_
        rw [hka]
        refine rv_iload_n hX dX4_insert_48 rfl ?_
        first | refine nv_icmp_le hX 72 (by omega) (by omega) dX4_insert_49 (by decide) (fun c_49 => ?_) (fun c_49 => ?_) | refine rv_icmp_le hX 72 dX4_insert_49 (by decide) (fun c_49 => ?_) (fun c_49 => ?_)
        · skip
          first
            | exact fin (fun j a hj => absurd hj (by omega))
            | (refine fin (fun j a' hj e => ?_)
               have hne : a ≠ f := fun q => hni (by rw [← q]; exact List.mem_of_getElem? ha)
               by_cases q : j = k - 1
               · subst q
                 rw [ha] at e
                 cases e
                 omega
               · have := sp_srt_get hs e ha (by omega)
                 omega)
        · skip
          refine rv_aload_n hX dX4_insert_52 rfl ?_
          refine mv_ga hX (k := 15) (j := 15) gX4_52_X4 (by decide) rfl (by decide) dX4_insert_53 ?_
          refine rv_iload_n hX dX4_insert_56 rfl ?_
          refine rv_aload_n hX dX4_insert_57 rfl ?_
          refine mv_ga hX (k := 15) (j := 15) gX4_52_X4 (by decide) rfl (by decide) dX4_insert_58 ?_
          refine rv_iload_n hX dX4_insert_61 rfl ?_
          refine nv_iconst hX (m := 1) (by decide) dX4_insert_62 ?_
          first | refine nv_isub hX (by omega) dX4_insert_63 ?_ | refine rv_isub hX dX4_insert_63 ?_
          refine mv_ld hX (j := 15) (by decide) (by decide) rfl (by decide) (show _ < 62 by omega) dX4_insert_64 ?_
          rw [hka]
          refine mv_st hX (j := 15) (by decide) (by decide) rfl (by decide) (show _ < 62 by omega) dX4_insert_65 ?_
          refine rv_iinc hX dX4_insert_66 rfl rfl (rv_st_2 rfl) ?_
          refine rv_goto hX 36 dX4_insert_69 (by decide) ?_
          rw [show Int32.ofInt (-1) = (-1 : Int32) from rfl, nI_dec c_37]
          refine ih (k - 1) _ (by omega) (by omega) (h3.tr (.u (by decide))) (fun j hj => ?_) (fun j hj hj2 => ?_) (fun j a' hj e => ?_)
          · rw [rv_sU_2, if_neg (by omega)]; exact h4 j (by omega)
          · rw [rv_sU_2]
            by_cases q : j = k
            · subst q
              rw [if_pos ⟨rfl, rfl⟩]
              exact (hF.2.2.2 _ a ha).symm
            · rw [if_neg (by omega)]
              exact h5 j (by omega) hj2
          · by_cases q : j = k - 1
            · subst q
              rw [ha] at e
              cases e
              exact c_49
            · exact h6 j a' (by omega) e
  refine rv_aload_n hX dX4_insert_0 rfl ?_
  refine rv_iload_n hX dX4_insert_1 rfl ?_
  refine mv_calli hX iX4_192 rfl mdX4_indexOf (m_indexOf hG (d := d - 1) hF hf) (by omega) rfl rfl (Nat.le_of_ble_eq_true rfl) dX4_insert_2 (fun r_2 τ_2 h_2 => ?_)
  obtain ⟨rfl, hr⟩ := h_2
  refine rv_iconst hX (v := -1) dX4_insert_5 (by decide) ?_
  first | refine nv_icmp_eq hX 10 (by omega) (by omega) dX4_insert_6 (by decide) (fun c_6 => ?_) (fun c_6 => ?_) | refine rv_icmp_eq hX 10 dX4_insert_6 (by decide) (fun c_6 => ?_) (fun c_6 => ?_)
  · skip
    have hni : f ∉ F := by
      rcases hr with ⟨g1, g2⟩ | ⟨k, g1, g2⟩
      · exact g1
      · have := (List.getElem?_eq_some_iff.mp g1).1
        rw [g2] at c_6
        exact absurd c_6 (nI_m1 (by omega))
    refine rv_aload_n hX dX4_insert_10 rfl ?_
    refine mv_ga hX (k := 1) (j := 1) gX4_7_X4 (by decide) rfl (by decide) dX4_insert_11 ?_
    refine nv_bipush hX (m := 6) (by decide) dX4_insert_14 ?_
    refine mv_ld hX (j := 1) (by decide) (by decide) rfl (by decide) (show _ < 11 by omega) dX4_insert_16 ?_
    rw [hF.1]
    refine nv_bipush hX (m := 60) (by decide) dX4_insert_17 ?_
    first | refine nv_icmp_ne hX 28 (by omega) (by omega) dX4_insert_19 (by decide) (fun c_19 => ?_) (fun c_19 => ?_) | refine rv_icmp_ne hX 28 dX4_insert_19 (by decide) (fun c_19 => ?_) (fun c_19 => ?_)
    · skip
      refine rv_aload_n hX dX4_insert_28 rfl ?_
      refine mv_ga hX (k := 1) (j := 1) gX4_7_X4 (by decide) rfl (by decide) dX4_insert_29 ?_
      refine nv_bipush hX (m := 6) (by decide) dX4_insert_32 ?_
      refine mv_ld hX (j := 1) (by decide) (by decide) rfl (by decide) (show _ < 11 by omega) dX4_insert_34 ?_
      rw [hF.1]
      refine rv_istore_n hX dX4_insert_35 (rv_st_2 rfl) ?_
      exact loop hni (by omega) _ F.length _ (Nat.le_refl _) (Nat.lt_succ_self _) .rf (fun _ _ => rfl) (fun j h1 h2 => absurd h1 (by omega)) (fun j a h1 h2 => absurd (List.getElem?_eq_some_iff.mp h2).1 (by omega))
    · skip
      refine rv_aload_n hX dX4_insert_22 rfl ?_
      refine nv_iconst hX (m := 1) (by decide) dX4_insert_23 ?_
      refine mv_pi hX (k := 30) pX4_239_X4 (by decide) rfl rfl rfl dX4_insert_24 ?_
      refine mv_retv hX hE dX4_insert_27 ?_
      exact Or.inr (Or.inl ⟨hni, c_19, rfl⟩)
  · skip
    refine mv_retv hX hE dX4_insert_9 ?_
    rcases hr with ⟨g1, g2⟩ | ⟨k, g1, g2⟩
    · exact absurd g2 c_6
    · exact Or.inl ⟨List.mem_of_getElem? g1, rfl⟩
/-- facts that wait -/
def mPend (σ : rv_S) (P : List Nat) : Prop := σ.1 29 = nI P.length ∧ P.length ≤ 61 ∧ ∀ (k f : Nat), P[k]? = some f → σ.2.1 25 k = nI f ∧ f < 8000000
theorem mPend.same {fs js : List Nat} {σ τ : rv_S} {P : List Nat} (h : mPend σ P) (hs : rv_same fs js σ τ) (h1 : 29 ∉ fs) (h2 : 25 ∉ js) : mPend τ P := ⟨by rw [hs.1 29 h1]; exact h.1, h.2.1, fun k f e => by rw [hs.2.1 25 h2]; exact h.2.2 k f e⟩
def sp_exq (F : List Nat) (P : List Nat) (f : Nat) : List Nat := if f ∈ F ∨ f ∈ P ∨ 60 < P.length then P else P ++ [f]
theorem m_expect {G : rv_G} (hG : rv_GK G) {d : Nat} (hd : 1 ≤ d) {σ : rv_S} {F P : List Nat} {f : Nat} (hF : mFacts σ F) (hP : mPend σ P) (hf : f < 8000000) : mC G d yX4_expect wX4_expect [.int (nI f)] σ (mPv (fun τ => mPend τ (sp_exq F P f) ∧ rv_same [29] [25] σ τ)) := by
  refine mv_start hG (by decide +kernel) (Nat.le_of_ble_eq_true rfl) (fun X Hb o hX1 hX hE => ?_)
  subst hX1
  show rv_V X (rv_mh Hb o _) 0 [some (.ref o), some (.int (nI f)), none, none] []
  have hP61 := hP.2.1
  have loop : ∀ (n k : Nat) (r : Bool), k ≤ P.length → P.length - k < n → (r = true → f ∈ F ∨ f ∈ P) → (r = false → f ∉ F ∧ ∀ j, j < k → P[j]? ≠ some f) → rv_V X (rv_mh Hb o σ) 17 [some (.ref o), some (.int (nI f)), some (.int (rv_z r)), some (.int (nI k))] [] := by
    intro n
    induction n with
    | zero => intro k r h1 h2; omega
    | succ n ih =>
      intro k r h1 h2 h3 h4
      have hN : rv_same [29] [25] σ (rv_sF (rv_sU σ 25 P.length (nI f)) 29 (nI (P.length + 1))) := (rv_same.u (by decide)).tr (.f (by decide))
      refine rv_iload_n hX dX4_expect_17 rfl ?_
      refine rv_aload_n hX dX4_expect_18 rfl ?_
      refine mv_gi hX (k := 29) gX4_242_X4 (by decide) rfl dX4_expect_19 ?_
      rw [hP.1]
      first | refine nv_icmp_ge hX 51 (by omega) (by omega) dX4_expect_22 (by decide) (fun c_22 => ?_) (fun c_22 => ?_) | refine rv_icmp_ge hX 51 dX4_expect_22 (by decide) (fun c_22 => ?_) (fun c_22 => ?_)
      · skip
        refine rv_iload_n hX dX4_expect_51 rfl ?_
        first | refine zv_if_ne hX 84 dX4_expect_52 (by decide) (fun c_52 => ?_) (fun c_52 => ?_) | refine nv_if_ne hX 84 (by omega) dX4_expect_52 (by decide) (fun c_52 => ?_) (fun c_52 => ?_) | refine rv_if_ne hX 84 dX4_expect_52 (by decide) (fun c_52 => ?_) (fun c_52 => ?_)
        · skip
          refine mv_retv hX hE dX4_expect_84 ?_
          first
            | (have e : sp_exq F P f = P := by
                 unfold sp_exq
                 rw [if_pos (by rcases h3 c_52 with q | q; exact Or.inl q; exact Or.inr (Or.inl q))]
               rw [e]
               exact ⟨hP, .rf⟩)
            | (have e : sp_exq F P f = P := by
                 unfold sp_exq
                 rw [if_pos (Or.inr (Or.inr c_61))]
               rw [e]
               exact ⟨hP, .rf⟩)
            | (have e : sp_exq F P f = P ++ [f] := by
                 unfold sp_exq
                 rw [if_neg]
                 rintro (q | q | q)
                 · exact (h4 c_52).1 q
                 · obtain ⟨j, hj⟩ := List.getElem?_of_mem q
                   exact (h4 c_52).2 j (by have := (List.getElem?_eq_some_iff.mp hj).1; omega) hj
                 · omega
               rw [e]
               refine ⟨⟨?_, by rw [List.length_append]; exact Nat.succ_le_succ c_61, fun j a hj => ?_⟩, hN⟩
               · rw [rv_sF_1, if_pos rfl, List.length_append]
                 rfl
               · rw [rv_sF_2, rv_sU_2]
                 by_cases q : j = P.length
                 · subst q
                   rw [List.getElem?_append_right (Nat.le_refl _), Nat.sub_self] at hj
                   cases hj
                   rw [if_pos ⟨rfl, rfl⟩]
                   exact ⟨rfl, hf⟩
                 · rw [if_neg (by omega)]
                   have hlt : j < P.length := by
                     have h9 := (List.getElem?_eq_some_iff.mp hj).1
                     rw [List.length_append] at h9
                     have h8 : j < P.length + 1 := h9
                     omega
                   rw [List.getElem?_append_left hlt] at hj
                   exact hP.2.2 j a hj)
        · skip
          refine rv_aload_n hX dX4_expect_55 rfl ?_
          refine mv_gi hX (k := 29) gX4_242_X4 (by decide) rfl dX4_expect_56 ?_
          rw [hP.1]
          refine nv_bipush hX (m := 60) (by decide) dX4_expect_59 ?_
          first | refine nv_icmp_gt hX 84 (by omega) (by omega) dX4_expect_61 (by decide) (fun c_61 => ?_) (fun c_61 => ?_) | refine rv_icmp_gt hX 84 dX4_expect_61 (by decide) (fun c_61 => ?_) (fun c_61 => ?_)
          · skip
            refine mv_retv hX hE dX4_expect_84 ?_
            first
              | (have e : sp_exq F P f = P := by
                   unfold sp_exq
                   rw [if_pos (by rcases h3 c_52 with q | q; exact Or.inl q; exact Or.inr (Or.inl q))]
                 rw [e]
                 exact ⟨hP, .rf⟩)
              | (have e : sp_exq F P f = P := by
                   unfold sp_exq
                   rw [if_pos (Or.inr (Or.inr c_61))]
                 rw [e]
                 exact ⟨hP, .rf⟩)
              | (have e : sp_exq F P f = P ++ [f] := by
                   unfold sp_exq
                   rw [if_neg]
                   rintro (q | q | q)
                   · exact (h4 c_52).1 q
                   · obtain ⟨j, hj⟩ := List.getElem?_of_mem q
                     exact (h4 c_52).2 j (by have := (List.getElem?_eq_some_iff.mp hj).1; omega) hj
                   · omega
                 rw [e]
                 refine ⟨⟨?_, by rw [List.length_append]; exact Nat.succ_le_succ c_61, fun j a hj => ?_⟩, hN⟩
                 · rw [rv_sF_1, if_pos rfl, List.length_append]
                   rfl
                 · rw [rv_sF_2, rv_sU_2]
                   by_cases q : j = P.length
                   · subst q
                     rw [List.getElem?_append_right (Nat.le_refl _), Nat.sub_self] at hj
                     cases hj
                     rw [if_pos ⟨rfl, rfl⟩]
                     exact ⟨rfl, hf⟩
                   · rw [if_neg (by omega)]
                     have hlt : j < P.length := by
                       have h9 := (List.getElem?_eq_some_iff.mp hj).1
                       rw [List.length_append] at h9
                       have h8 : j < P.length + 1 := h9
                       omega
                     rw [List.getElem?_append_left hlt] at hj
                     exact hP.2.2 j a hj)
          · skip
            refine rv_aload_n hX dX4_expect_64 rfl ?_
            refine mv_ga hX (k := 28) (j := 25) gX4_82_X4 (by decide) rfl (by decide) dX4_expect_65 ?_
            refine rv_aload_n hX dX4_expect_68 rfl ?_
            refine mv_gi hX (k := 29) gX4_242_X4 (by decide) rfl dX4_expect_69 ?_
            rw [hP.1]
            refine rv_iload_n hX dX4_expect_72 rfl ?_
            refine mv_st hX (j := 25) (by decide) (by decide) rfl (by decide) (show _ < 62 by omega) dX4_expect_73 ?_
            refine rv_aload_n hX dX4_expect_74 rfl ?_
            refine rv_dup hX dX4_expect_75 rfl ?_
            refine mv_gi hX (k := 29) gX4_242_X4 (by decide) rfl dX4_expect_76 ?_
            rw [show (rv_sU σ 25 P.length (nI f)).1 29 = σ.1 29 from rfl, hP.1]
            refine nv_iconst hX (m := 1) (by decide) dX4_expect_79 ?_
            first | refine nv_iadd hX dX4_expect_80 ?_ | refine rv_iadd hX dX4_expect_80 ?_
            refine mv_pi hX (k := 29) pX4_242_X4 (by decide) rfl rfl rfl dX4_expect_81 ?_
            refine mv_retv hX hE dX4_expect_84 ?_
            first
              | (have e : sp_exq F P f = P := by
                   unfold sp_exq
                   rw [if_pos (by rcases h3 c_52 with q | q; exact Or.inl q; exact Or.inr (Or.inl q))]
                 rw [e]
                 exact ⟨hP, .rf⟩)
              | (have e : sp_exq F P f = P := by
                   unfold sp_exq
                   rw [if_pos (Or.inr (Or.inr c_61))]
                 rw [e]
                 exact ⟨hP, .rf⟩)
              | (have e : sp_exq F P f = P ++ [f] := by
                   unfold sp_exq
                   rw [if_neg]
                   rintro (q | q | q)
                   · exact (h4 c_52).1 q
                   · obtain ⟨j, hj⟩ := List.getElem?_of_mem q
                     exact (h4 c_52).2 j (by have := (List.getElem?_eq_some_iff.mp hj).1; omega) hj
                   · omega
                 rw [e]
                 refine ⟨⟨?_, by rw [List.length_append]; exact Nat.succ_le_succ c_61, fun j a hj => ?_⟩, hN⟩
                 · rw [rv_sF_1, if_pos rfl, List.length_append]
                   rfl
                 · rw [rv_sF_2, rv_sU_2]
                   by_cases q : j = P.length
                   · subst q
                     rw [List.getElem?_append_right (Nat.le_refl _), Nat.sub_self] at hj
                     cases hj
                     rw [if_pos ⟨rfl, rfl⟩]
                     exact ⟨rfl, hf⟩
                   · rw [if_neg (by omega)]
                     have hlt : j < P.length := by
                       have h9 := (List.getElem?_eq_some_iff.mp hj).1
                       rw [List.length_append] at h9
                       have h8 : j < P.length + 1 := h9
                       omega
                     rw [List.getElem?_append_left hlt] at hj
                     exact hP.2.2 j a hj)
      · skip
        obtain ⟨a, ha⟩ : ∃ a, P[k]? = some a := ⟨P[k], List.getElem?_eq_getElem (by omega)⟩
        obtain ⟨ha1, ha2⟩ := hP.2.2 k a ha
        refine rv_iload_n hX dX4_expect_25 rfl ?_
        first | refine zv_if_ne hX 39 dX4_expect_26 (by decide) (fun c_26 => ?_) (fun c_26 => ?_) | refine nv_if_ne hX 39 (by omega) dX4_expect_26 (by decide) (fun c_26 => ?_) (fun c_26 => ?_) | refine rv_if_ne hX 39 dX4_expect_26 (by decide) (fun c_26 => ?_) (fun c_26 => ?_)
        · skip
          refine nv_iconst hX (m := 1) (by decide) dX4_expect_39 ?_
          refine rv_goto hX 44 dX4_expect_40 (by decide) ?_
          refine rv_istore_n hX dX4_expect_44 (rv_st_2 rfl) ?_
          first | refine nv_iinc hX (m := 1) dX4_expect_45 rfl (by decide) (rv_st_3 rfl) ?_ | refine rv_iinc hX dX4_expect_45 rfl rfl (rv_st_3 rfl) ?_
          refine rv_goto hX 17 dX4_expect_48 (by decide) ?_
          first
            | exact ih (k + 1) true (by omega) (by omega) (fun _ => h3 c_26) (fun e => by cases e)
            | exact ih (k + 1) true (by omega) (by omega) (fun _ => Or.inr (by rw [← c_36]; exact List.mem_of_getElem? ha)) (fun e => by cases e)
            | exact ih (k + 1) false (by omega) (by omega) (fun e => by cases e) (fun _ => ⟨(h4 c_26).1, fun j hj => by
                by_cases q : j = k
                · subst q
                  rw [ha]
                  exact fun e => c_36 (Option.some.inj e)
                · exact (h4 c_26).2 j (by omega)⟩)
        · skip
          refine rv_aload_n hX dX4_expect_29 rfl ?_
          refine mv_ga hX (k := 28) (j := 25) gX4_82_X4 (by decide) rfl (by decide) dX4_expect_30 ?_
          refine rv_iload_n hX dX4_expect_33 rfl ?_
          refine mv_ld hX (j := 25) (by decide) (by decide) rfl (by decide) (show _ < 62 by omega) dX4_expect_34 ?_
          rw [ha1]
          refine rv_iload_n hX dX4_expect_35 rfl ?_
          first | refine nv_icmp_ne hX 43 (by omega) (by omega) dX4_expect_36 (by decide) (fun c_36 => ?_) (fun c_36 => ?_) | refine rv_icmp_ne hX 43 dX4_expect_36 (by decide) (fun c_36 => ?_) (fun c_36 => ?_)
          · skip
            refine nv_iconst hX (m := 0) (by decide) dX4_expect_43 ?_
            refine rv_istore_n hX dX4_expect_44 (rv_st_2 rfl) ?_
            first | refine nv_iinc hX (m := 1) dX4_expect_45 rfl (by decide) (rv_st_3 rfl) ?_ | refine rv_iinc hX dX4_expect_45 rfl rfl (rv_st_3 rfl) ?_
            refine rv_goto hX 17 dX4_expect_48 (by decide) ?_
            first
              | exact ih (k + 1) true (by omega) (by omega) (fun _ => h3 c_26) (fun e => by cases e)
              | exact ih (k + 1) true (by omega) (by omega) (fun _ => Or.inr (by rw [← c_36]; exact List.mem_of_getElem? ha)) (fun e => by cases e)
              | exact ih (k + 1) false (by omega) (by omega) (fun e => by cases e) (fun _ => ⟨(h4 c_26).1, fun j hj => by
                  by_cases q : j = k
                  · subst q
                    rw [ha]
                    exact fun e => c_36 (Option.some.inj e)
                  · exact (h4 c_26).2 j (by omega)⟩)
          · skip
            refine nv_iconst hX (m := 1) (by decide) dX4_expect_39 ?_
            refine rv_goto hX 44 dX4_expect_40 (by decide) ?_
            refine rv_istore_n hX dX4_expect_44 (rv_st_2 rfl) ?_
            first | refine nv_iinc hX (m := 1) dX4_expect_45 rfl (by decide) (rv_st_3 rfl) ?_ | refine rv_iinc hX dX4_expect_45 rfl rfl (rv_st_3 rfl) ?_
            refine rv_goto hX 17 dX4_expect_48 (by decide) ?_
            first
              | exact ih (k + 1) true (by omega) (by omega) (fun _ => h3 c_26) (fun e => by cases e)
              | exact ih (k + 1) true (by omega) (by omega) (fun _ => Or.inr (by rw [← c_36]; exact List.mem_of_getElem? ha)) (fun e => by cases e)
              | exact ih (k + 1) false (by omega) (by omega) (fun e => by cases e) (fun _ => ⟨(h4 c_26).1, fun j hj => by
                  by_cases q : j = k
                  · subst q
                    rw [ha]
                    exact fun e => c_36 (Option.some.inj e)
                  · exact (h4 c_26).2 j (by omega)⟩)
  refine rv_aload_n hX dX4_expect_0 rfl ?_
  refine rv_iload_n hX dX4_expect_1 rfl ?_
  refine mv_calli hX iX4_192 rfl mdX4_indexOf (m_indexOf hG (d := d - 1) hF hf) (by omega) rfl rfl (Nat.le_of_ble_eq_true rfl) dX4_expect_2 (fun r_2 τ_2 h_2 => ?_)
  obtain ⟨rfl, hr⟩ := h_2
  refine rv_iconst hX (v := -1) dX4_expect_5 (by decide) ?_
  first | refine nv_icmp_eq hX 13 (by omega) (by omega) dX4_expect_6 (by decide) (fun c_6 => ?_) (fun c_6 => ?_) | refine rv_icmp_eq hX 13 dX4_expect_6 (by decide) (fun c_6 => ?_) (fun c_6 => ?_)
  · skip
    refine nv_iconst hX (m := 0) (by decide) dX4_expect_13 ?_
    refine rv_istore_n hX dX4_expect_14 (rv_st_2 rfl) ?_
    refine nv_iconst hX (m := 0) (by decide) dX4_expect_15 ?_
    refine rv_istore_n hX dX4_expect_16 (rv_st_3 rfl) ?_
    rcases hr with ⟨g1, g2⟩ | ⟨k, g1, g2⟩
    · first
        | exact absurd g2 c_6
        | exact loop _ 0 false (Nat.zero_le _) (Nat.lt_succ_self _) (fun e => by cases e) (fun _ => ⟨g1, fun j hj => absurd hj (by omega)⟩)
    · first
        | exact loop _ 0 true (Nat.zero_le _) (Nat.lt_succ_self _) (fun _ => Or.inl (List.mem_of_getElem? g1)) (fun e => by cases e)
        | (exfalso
           have := (List.getElem?_eq_some_iff.mp g1).1
           have := hF.2.1
           rw [g2] at c_6
           exact absurd c_6 (nI_m1 (by omega)))
  · skip
    refine nv_iconst hX (m := 1) (by decide) dX4_expect_9 ?_
    refine rv_goto hX 14 dX4_expect_10 (by decide) ?_
    refine rv_istore_n hX dX4_expect_14 (rv_st_2 rfl) ?_
    refine nv_iconst hX (m := 0) (by decide) dX4_expect_15 ?_
    refine rv_istore_n hX dX4_expect_16 (rv_st_3 rfl) ?_
    rcases hr with ⟨g1, g2⟩ | ⟨k, g1, g2⟩
    · first
        | exact absurd g2 c_6
        | exact loop _ 0 false (Nat.zero_le _) (Nat.lt_succ_self _) (fun e => by cases e) (fun _ => ⟨g1, fun j hj => absurd hj (by omega)⟩)
    · first
        | exact loop _ 0 true (Nat.zero_le _) (Nat.lt_succ_self _) (fun _ => Or.inl (List.mem_of_getElem? g1)) (fun e => by cases e)
        | (exfalso
           have := (List.getElem?_eq_some_iff.mp g1).1
           have := hF.2.1
           rw [g2] at c_6
           exact absurd c_6 (nI_m1 (by omega)))
