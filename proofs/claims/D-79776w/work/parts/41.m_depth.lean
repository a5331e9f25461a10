/-! THE REFERENCE: depths -/
set_option maxRecDepth 100000
/-- a fact has at most a depth: it is told, or a rule gives it by facts that have less -/
def sp_D (R : List sp_C) (F T : List Nat) : Nat → Nat → Prop
  | 0, f => f ∈ T
  | n + 1, f => sp_D R F T n f ∨ ∃ C, C ∈ R ∧ ((C.gath = none ∧ ∃ q, q ∈ sp_m F C.its (fun _ => none) ∧ sp_key C q = f ∧ ∀ k, k ∈ sp_atk C.its q.1 → sp_D R F T n (F.getD k 0)) ∨ (C.gath ≠ none ∧ ∃ key, key ∈ sp_keys C (sp_m F C.its (fun _ => none)) ∧ sp_gfact C (sp_m F C.its (fun _ => none)) key = f ∧ ∀ q, q ∈ sp_grp C (sp_m F C.its (fun _ => none)) key → ∀ k, k ∈ sp_atk C.its q.1 → sp_D R F T n (F.getD k 0)))
theorem sp_D_le {R : List sp_C} {F T : List Nat} {m n f : Nat} (h : sp_D R F T m f) (hmn : m ≤ n) : sp_D R F T n f := by
  induction n with
  | zero => have : m = 0 := by omega
            rw [← this]; exact h
  | succ n ih =>
    by_cases e : m = n + 1
    · rw [← e]; exact h
    · exact Or.inl (ih (by omega))
/-- the depths so far are no less than they are -/
def sp_dsnd (R : List sp_C) (F T : List Nat) (dep : Nat → Nat) : Prop := ∀ i f, F[i]? = some f → dep i < 1000000 → sp_D R F T (dep i) f
theorem sp_mxd_ge {dep : Nat → Nat} {l : List Nat} {k : Nat} (h : k ∈ l) : dep k ≤ sp_mxd dep l := by
  unfold sp_mxd
  have mono : ∀ (l : List Nat) (a b : Nat), a ≤ b → a ≤ l.foldl (fun m k => if m < dep k then dep k else m) b := by
    intro l
    induction l with
    | nil => intro a b h; exact h
    | cons x l ih =>
      intro a b h
      rw [List.foldl_cons]
      refine ih _ _ ?_
      split <;> omega
  have : ∀ (l : List Nat) (a : Nat), k ∈ l → dep k ≤ l.foldl (fun m k => if m < dep k then dep k else m) a := by
    intro l
    induction l with
    | nil => intro a h; cases h
    | cons x l ih =>
      intro a h
      rw [List.foldl_cons]
      rcases List.mem_cons.mp h with rfl | h
      · refine mono l _ _ ?_
        split <;> omega
      · exact ih _ h
  exact this l 0 h
theorem sp_gd_ge {dep : Nat → Nat} {its : List sp_I} {l : List sp_Q} {q : sp_Q} (h : q ∈ l) : sp_mxd dep (sp_atk its q.1) ≤ sp_gd dep its l := by
  unfold sp_gd
  have mono : ∀ (l : List sp_Q) (a b : Nat), a ≤ b → a ≤ l.foldl (fun m q => if m < sp_mxd dep (sp_atk its q.1) then sp_mxd dep (sp_atk its q.1) else m) b := by
    intro l
    induction l with
    | nil => intro a b h; exact h
    | cons x l ih =>
      intro a b h
      rw [List.foldl_cons]
      refine ih _ _ ?_
      split <;> omega
  have : ∀ (l : List sp_Q) (a : Nat), q ∈ l → sp_mxd dep (sp_atk its q.1) ≤ l.foldl (fun m q => if m < sp_mxd dep (sp_atk its q.1) then sp_mxd dep (sp_atk its q.1) else m) a := by
    intro l
    induction l with
    | nil => intro a h; cases h
    | cons x l ih =>
      intro a h
      rw [List.foldl_cons]
      rcases List.mem_cons.mp h with rfl | h
      · refine mono l _ _ ?_
        split <;> omega
      · exact ih _ h
  exact this l 0 h
/-- places in matches are places of facts -/
theorem sp_m_ks {F : List Nat} {its : List sp_I} : ∀ {v : sp_V} {q : sp_Q}, q ∈ sp_m F its v → ∀ k, k ∈ sp_atk its q.1 → k < F.length := by
  induction its with
  | nil =>
    intro v q hq k hk
    have hq' : q ∈ [(([] : List Nat), v)] := hq
    rw [List.mem_singleton.mp hq'] at hk
    cases hk
  | cons it its ih =>
    intro v q hq k hk
    rw [sp_m_cons, List.mem_flatMap] at hq
    obtain ⟨a, ha, hq⟩ := hq
    rw [List.mem_map] at hq
    obtain ⟨r, hr, e⟩ := hq
    rw [← e] at hk
    have hk' : k ∈ (if it.1 = 0 then a.1 :: sp_atk its r.1 else sp_atk its r.1) := hk
    split at hk'
    · rename_i h0
      rcases List.mem_cons.mp hk' with q2 | q2
      · rw [q2]; exact (sp_alt_atom h0 ha).1
      · exact ih hr k q2
    · exact ih hr k hk'
def sp_low (dep : Nat → Nat) (k dd : Nat) : Nat → Nat := fun i => if i = k ∧ dd < dep k then dd else dep i
theorem sp_low_le (dep : Nat → Nat) (k dd i : Nat) : sp_low dep k dd i ≤ dep i := by
  unfold sp_low
  split
  · rename_i h; rw [h.1]; omega
  · exact Nat.le_refl _
theorem sp_low_no {dep : Nat → Nat} {k dd : Nat} (h : ¬ dd < dep k) : sp_low dep k dd = dep := by
  funext i
  unfold sp_low
  rw [if_neg (fun q => h q.2)]
theorem m_lower {G : rv_G} (hG : rv_GK G) {d : Nat} (hd : 1 ≤ d) {σ : rv_S} {F : List Nat} {f k dd : Nat} {dep : Nat → Nat} (hF : mFacts σ F) (hsr : sp_srt F) (hk : F[k]? = some f) (hdp : mDep σ dep) (hdd : dd ≤ 2000000) : mC G d yX4_lower wX4_lower [.int (nI f), .int (nI dd)] σ (mPz (fun r τ => rv_same [] [35] σ τ ∧ mDep τ (sp_low dep k dd) ∧ r = decide (dd < dep k))) := by
  refine mv_start hG (by decide +kernel) (Nat.le_of_ble_eq_true rfl) (fun X Hb o hX1 hX hE => ?_)
  subst hX1
  show rv_V X (rv_mh Hb o _) 0 [some (.ref o), some (.int (nI f)), some (.int (nI dd)), none, none] []
  have hf8 := hF.2.2.1 f (List.mem_of_getElem? hk)
  have hk62 : k < 61 := by have := (List.getElem?_eq_some_iff.mp hk).1; have := hF.2.1; omega
  have hdk := hdp.1 k (by omega)
  have hdl := hdp.2 k
  have hup : ∀ v : Nat, (v = if dd < dep k then dd else dep k) → mDep (rv_sU σ 35 k (nI v)) (sp_low dep k dd) := by
    intro v hv
    refine ⟨fun i hi => ?_, fun i => Nat.le_trans (sp_low_le dep k dd i) (hdp.2 i)⟩
    rw [rv_sU_2]
    unfold sp_low
    by_cases e : i = k
    · rw [if_pos ⟨rfl, e⟩, hv, e]
      by_cases q : dd < dep k
      · rw [if_pos q, if_pos ⟨rfl, q⟩]
      · rw [if_neg q, if_neg (fun h => q h.2)]
    · rw [if_neg (fun h => e h.2), if_neg (fun h => e h.1)]
      exact hdp.1 i hi
  refine rv_aload_n hX dX4_lower_0 rfl ?_
  refine rv_iload_n hX dX4_lower_1 rfl ?_
  refine mv_calli hX iX4_192 rfl mdX4_indexOf (m_indexOf hG (d := d - 1) hF hf8) (by omega) rfl rfl (Nat.le_of_ble_eq_true rfl) dX4_lower_2 (fun r_2 τ_2 h_2 => ?_)
  obtain ⟨rfl, hr⟩ := h_2
  have hr9 : r_2 = nI k := by
    rcases hr with ⟨g1, g2⟩ | ⟨j, g1, g2⟩
    · exact absurd (List.mem_of_getElem? hk) g1
    · rw [g2, sp_nd_inj (sp_srt_nd hsr) g1 hk]
  rw [hr9]
  refine rv_istore_n hX dX4_lower_5 (rv_st_3 rfl) ?_
  refine rv_iload_n hX dX4_lower_6 rfl ?_
  refine rv_aload_n hX dX4_lower_7 rfl ?_
  refine mv_ga hX (k := 45) (j := 35) gX4_113_X4 (by decide) rfl (by decide) dX4_lower_8 ?_
  refine rv_iload_n hX dX4_lower_11 rfl ?_
  refine mv_ld hX (j := 35) (by decide) (by decide) rfl (by decide) (show _ < 62 by omega) dX4_lower_12 ?_
  rw [hdk]
  first | refine nv_icmp_ge hX 20 (by omega) (by omega) dX4_lower_13 (by decide) (fun c_13 => ?_) (fun c_13 => ?_) | refine rv_icmp_ge hX 20 dX4_lower_13 (by decide) (fun c_13 => ?_) (fun c_13 => ?_)
  · skip
    refine nv_iconst hX (m := 0) (by decide) dX4_lower_20 ?_
    refine rv_istore hX dX4_lower_21 (rv_st_4 rfl) ?_
    refine rv_aload_n hX dX4_lower_23 rfl ?_
    refine mv_ga hX (k := 45) (j := 35) gX4_113_X4 (by decide) rfl (by decide) dX4_lower_24 ?_
    refine rv_iload_n hX dX4_lower_27 rfl ?_
    refine rv_iload hX dX4_lower_28 rfl ?_
    refine rv_if_eq hX 37 dX4_lower_30 (by decide) (fun _ => ?_) (fun q => absurd q (by decide))
    refine rv_aload_n hX dX4_lower_37 rfl ?_
    refine mv_ga hX (k := 45) (j := 35) gX4_113_X4 (by decide) rfl (by decide) dX4_lower_38 ?_
    refine rv_iload_n hX dX4_lower_41 rfl ?_
    refine mv_ld hX (j := 35) (by decide) (by decide) rfl (by decide) (show _ < 62 by omega) dX4_lower_42 ?_
    first
      | rw [hdk]
      | skip
    refine mv_st hX (j := 35) (by decide) (by decide) rfl (by decide) (show _ < 62 by omega) dX4_lower_43 ?_
    refine rv_iload hX dX4_lower_44 rfl ?_
    refine mv_retz hX hE (b := false) rfl dX4_lower_46 ?_
    first
      | exact ⟨.u (by decide), hup _ (by rw [if_pos (by omega)]), by rw [decide_eq_true (by omega)]⟩
      | exact ⟨.u (by decide), hup _ (by rw [if_neg (by omega)]), by rw [decide_eq_false (by omega)]⟩
  · skip
    refine nv_iconst hX (m := 1) (by decide) dX4_lower_16 ?_
    refine rv_goto hX 21 dX4_lower_17 (by decide) ?_
    refine rv_istore hX dX4_lower_21 (rv_st_4 rfl) ?_
    refine rv_aload_n hX dX4_lower_23 rfl ?_
    refine mv_ga hX (k := 45) (j := 35) gX4_113_X4 (by decide) rfl (by decide) dX4_lower_24 ?_
    refine rv_iload_n hX dX4_lower_27 rfl ?_
    refine rv_iload hX dX4_lower_28 rfl ?_
    refine rv_if_eq hX 37 dX4_lower_30 (by decide) (fun q => absurd q (by decide)) (fun _ => ?_)
    refine rv_iload_n hX dX4_lower_33 rfl ?_
    refine rv_goto hX 43 dX4_lower_34 (by decide) ?_
    first
      | rw [hdk]
      | skip
    refine mv_st hX (j := 35) (by decide) (by decide) rfl (by decide) (show _ < 62 by omega) dX4_lower_43 ?_
    refine rv_iload hX dX4_lower_44 rfl ?_
    refine mv_retz hX hE (b := true) rfl dX4_lower_46 ?_
    first
      | exact ⟨.u (by decide), hup _ (by rw [if_pos (by omega)]), by rw [decide_eq_true (by omega)]⟩
      | exact ⟨.u (by decide), hup _ (by rw [if_neg (by omega)]), by rw [decide_eq_false (by omega)]⟩
