/-! THE PLAIN LAW, 6: what stands is closed under the rules -/
set_option maxRecDepth 100000
/-- a way in which an item can be matched, by the facts as a set -/
def sp_A (F : Nat → Prop) (it : sp_I) (v u : sp_V) : Prop :=
  if it.1 = 0 then ∃ f, F f ∧ f / 1000000 = it.2.1 ∧ sp_binds v f it.2.2 0 = some u
  else if it.1 = 1 then ¬ F (sp_num v it.2.1 it.2.2) ∧ u = v
  else if it.1 = 2 then sp_test it.2.1 (sp_get v it.2.2 0) (sp_get v it.2.2 1) = true ∧ u = v
  else sp_get v it.2.2 0 + sp_get v it.2.2 1 < 100 ∧ sp_bind v (it.2.2.getD 2 0) (sp_get v it.2.2 0 + sp_get v it.2.2 1) = some u
def sp_M (F : Nat → Prop) : List sp_I → sp_V → sp_V → Prop
  | [], v, w => w = v
  | it :: its, v, w => ∃ u, sp_A F it v u ∧ sp_M F its u w
theorem sp_alt_A {F : List Nat} {it : sp_I} {v u : sp_V} : (∃ k, (k, u) ∈ sp_alt F (fun _ => true) it v) ↔ sp_A (fun f => f ∈ F) it v u := by
  by_cases h0 : it.1 = 0
  · unfold sp_A
    rw [if_pos h0]
    constructor
    · rintro ⟨k, hk⟩
      obtain ⟨a1, a2, a3⟩ := sp_alt_atom h0 hk
      have e : F[k]? = some (F.getD k 0) := by rw [List.getD_eq_getElem?_getD, List.getElem?_eq_getElem a1]; rfl
      exact ⟨_, List.mem_of_getElem? e, a2, a3⟩
    · rintro ⟨f, hf, h1, h2⟩
      obtain ⟨k, hk⟩ := List.getElem?_of_mem hf
      refine ⟨k, ?_⟩
      unfold sp_alt
      rw [if_pos h0, List.mem_filterMap]
      refine ⟨k, List.mem_range.mpr (List.getElem?_eq_some_iff.mp hk).1, ?_⟩
      rw [sp_getD hk, if_pos ⟨rfl, h1⟩, h2]
      rfl
  · by_cases h1 : it.1 = 1
    · unfold sp_A
      rw [if_neg h0, if_pos h1, sp_alt_not h1]
      by_cases q : sp_num v it.2.1 it.2.2 ∈ F
      · rw [if_pos q]
        exact ⟨fun ⟨k, hk⟩ => (by cases hk), fun h => absurd q h.1⟩
      · rw [if_neg q]
        constructor
        · rintro ⟨k, hk⟩
          have := List.mem_singleton.mp hk
          exact ⟨q, congrArg Prod.snd this⟩
        · rintro ⟨_, h⟩
          exact ⟨0, by rw [h]; exact List.mem_singleton.mpr rfl⟩
    · by_cases h2 : it.1 = 2
      · unfold sp_A
        rw [if_neg h0, if_neg h1, if_pos h2, sp_alt_test h2]
        by_cases q : sp_test it.2.1 (sp_get v it.2.2 0) (sp_get v it.2.2 1) = true
        · rw [if_pos q]
          constructor
          · rintro ⟨k, hk⟩
            have := List.mem_singleton.mp hk
            exact ⟨q, congrArg Prod.snd this⟩
          · rintro ⟨_, h⟩
            exact ⟨0, by rw [h]; exact List.mem_singleton.mpr rfl⟩
        · rw [if_neg q]
          exact ⟨fun ⟨k, hk⟩ => (by cases hk), fun h => absurd h.1 q⟩
      · unfold sp_A
        rw [if_neg h0, if_neg h1, if_neg h2, sp_alt_plus (by omega)]
        by_cases q : sp_get v it.2.2 0 + sp_get v it.2.2 1 < 100
        · rw [if_pos q]
          constructor
          · rintro ⟨k, hk⟩
            rw [Option.mem_toList, Option.map_eq_some_iff] at hk
            obtain ⟨w, hw, e⟩ := hk
            have : w = u := congrArg Prod.snd e
            rw [← this]
            exact ⟨q, hw⟩
          · rintro ⟨_, h⟩
            exact ⟨0, by rw [Option.mem_toList, h]; rfl⟩
        · rw [if_neg q]
          exact ⟨fun ⟨k, hk⟩ => (by cases hk), fun h => absurd h.1 q⟩
theorem sp_m_M {F : List Nat} {its : List sp_I} : ∀ {v w : sp_V}, (∃ ks, (ks, w) ∈ sp_m F its v) ↔ sp_M (fun f => f ∈ F) its v w := by
  induction its with
  | nil =>
    intro v w
    constructor
    · rintro ⟨ks, h⟩
      have h' : (ks, w) ∈ [(([] : List Nat), v)] := h
      exact congrArg Prod.snd (List.mem_singleton.mp h')
    · intro h
      have h' : w = v := h
      exact ⟨[], by rw [h']; exact List.mem_singleton.mpr rfl⟩
  | cons it its ih =>
    intro v w
    constructor
    · rintro ⟨ks, h⟩
      rw [sp_m_cons, List.mem_flatMap] at h
      obtain ⟨a, ha, h⟩ := h
      rw [List.mem_map] at h
      obtain ⟨q, hq, e⟩ := h
      have e2 : q.2 = w := congrArg Prod.snd e
      exact ⟨a.2, sp_alt_A.mp ⟨a.1, ha⟩, ih.mp ⟨q.1, by rw [← e2]; exact hq⟩⟩
    · rintro ⟨u, h1, h2⟩
      obtain ⟨k, hk⟩ := sp_alt_A.mpr h1
      obtain ⟨ks, hks⟩ := ih.mpr h2
      refine ⟨k :: ks, ?_⟩
      rw [sp_m_cons, List.mem_flatMap]
      exact ⟨(k, u), hk, List.mem_map.mpr ⟨(ks, w), hks, rfl⟩⟩
theorem sp_A_bd {F : Nat → Prop} {it : sp_I} {v u : sp_V} (h : sp_A F it v u) (hv : sp_bd v) : sp_bd u := by
  unfold sp_A at h
  split at h
  · obtain ⟨f, _, _, h3⟩ := h
    exact sp_binds_bd h3 hv
  · split at h
    · rw [h.2]; exact hv
    · split at h
      · rw [h.2]; exact hv
      · exact sp_bind_bd h.2 hv h.1
theorem sp_num_rel {v : sp_V} (hv : sp_bd v) {w : Nat} {ts : List Nat} (h : ts.length ≤ 3) : sp_num v w ts / 1000000 = w := by
  have := sp_sum_lt hv ts h
  unfold sp_num
  omega
/-- more facts, but none of those that a NOT asks for: the matches stay -/
theorem sp_M_mono {S : List Nat} (hS : ∀ n, n ∈ S → 1 ≤ n ∧ n ≤ 3) {F G : Nat → Prop} (hFG : ∀ f, F f → G f) {its : List sp_I} (hw : ∀ it, it ∈ its → sp_wfI S it) (hn : ∀ it, it ∈ its → it.1 = 1 → ∀ f, G f → f / 1000000 = it.2.1 → F f) : ∀ {v w : sp_V}, sp_bd v → sp_M F its v w → sp_M G its v w := by
  induction its with
  | nil => intro v w _ h; exact h
  | cons it its ih =>
    intro v w hv h
    obtain ⟨u, h1, h2⟩ := h
    refine ⟨u, ?_, ih (fun i hi => hw i (List.mem_cons_of_mem _ hi)) (fun i hi => hn i (List.mem_cons_of_mem _ hi)) (sp_A_bd h1 hv) h2⟩
    unfold sp_A at h1 ⊢
    split at h1
    · rename_i q
      rw [if_pos q]
      obtain ⟨f, a, b⟩ := h1
      exact ⟨f, hFG f a, b⟩
    · rename_i q
      rw [if_neg q]
      split at h1
      · rename_i q1
        rw [if_pos q1]
        refine ⟨fun hG => h1.1 (hn it List.mem_cons_self q1 _ hG (sp_num_rel hv ?_)), h1.2⟩
        exact ((hw it List.mem_cons_self).len hS).2
      · rename_i q1
        rw [if_neg q1]
        exact h1
/-- facts alike for all relations that items name: the same matches -/
theorem sp_M_same {S : List Nat} (hS : ∀ n, n ∈ S → 1 ≤ n ∧ n ≤ 3) {F G : Nat → Prop} {its : List sp_I} (hw : ∀ it, it ∈ its → sp_wfI S it) (hn : ∀ it, it ∈ its → it.1 ≤ 1 → ∀ f, f / 1000000 = it.2.1 → (F f ↔ G f)) : ∀ {v w : sp_V}, sp_bd v → (sp_M F its v w ↔ sp_M G its v w) := by
  induction its with
  | nil => intro v w _; exact Iff.rfl
  | cons it its ih =>
    intro v w hv
    have ha : ∀ u, sp_A F it v u ↔ sp_A G it v u := by
      intro u
      unfold sp_A
      by_cases q : it.1 = 0
      · rw [if_pos q, if_pos q]
        have h := hn it List.mem_cons_self (by omega)
        constructor
        · rintro ⟨f, a, b, c⟩
          exact ⟨f, (h f b).mp a, b, c⟩
        · rintro ⟨f, a, b, c⟩
          exact ⟨f, (h f b).mpr a, b, c⟩
      · rw [if_neg q, if_neg q]
        by_cases q1 : it.1 = 1
        · rw [if_pos q1, if_pos q1]
          have h := hn it List.mem_cons_self (by omega) _ (sp_num_rel hv ((hw it List.mem_cons_self).len hS).2)
          rw [h]
        · rw [if_neg q1, if_neg q1]
    show (∃ u, sp_A F it v u ∧ sp_M F its u w) ↔ ∃ u, sp_A G it v u ∧ sp_M G its u w
    constructor
    · rintro ⟨u, h1, h2⟩
      exact ⟨u, (ha u).mp h1, (ih (fun i hi => hw i (List.mem_cons_of_mem _ hi)) (fun i hi => hn i (List.mem_cons_of_mem _ hi)) (sp_A_bd h1 hv)).mp h2⟩
    · rintro ⟨u, h1, h2⟩
      have h1' := (ha u).mpr h1
      exact ⟨u, h1', (ih (fun i hi => hw i (List.mem_cons_of_mem _ hi)) (fun i hi => hn i (List.mem_cons_of_mem _ hi)) (sp_A_bd h1' hv)).mpr h2⟩
/-- what a rule gives, by the facts as a set -/
theorem sp_give_plain {F : List Nat} {C : sp_C} (h : C.gath = none) {f : Nat} : f ∈ sp_give F C ↔ ∃ w, sp_M (fun f => f ∈ F) C.its (fun _ => none) w ∧ f = sp_hfact C w 0 := by
  unfold sp_give
  rw [if_pos h, List.mem_map]
  constructor
  · rintro ⟨q, hq, e⟩
    exact ⟨q.2, sp_m_M.mp ⟨q.1, hq⟩, e.symm⟩
  · rintro ⟨w, hw, e⟩
    obtain ⟨ks, hk⟩ := sp_m_M.mpr hw
    exact ⟨(ks, w), hk, e.symm⟩
theorem sp_hasv_M {F : List Nat} {C : sp_C} {x key a : Nat} : sp_hasv x (sp_grp C (sp_m F C.its (fun _ => none)) key) a = true ↔ ∃ w, sp_M (fun f => f ∈ F) C.its (fun _ => none) w ∧ sp_hfact C w 0 = key ∧ w x = some a := by
  unfold sp_hasv sp_grp
  rw [List.any_eq_true]
  constructor
  · rintro ⟨q, hq, e⟩
    obtain ⟨h1, h2⟩ := List.mem_filter.mp hq
    exact ⟨q.2, sp_m_M.mp ⟨q.1, h1⟩, by simpa [sp_key] using h2, by simpa using e⟩
  · rintro ⟨w, h1, h2, h3⟩
    obtain ⟨ks, hk⟩ := sp_m_M.mpr h1
    exact ⟨(ks, w), List.mem_filter.mpr ⟨hk, by simpa [sp_key] using h2⟩, by simp [h3]⟩
theorem sp_keys_M {F : List Nat} {C : sp_C} {key : Nat} : key ∈ sp_keys C (sp_m F C.its (fun _ => none)) ↔ ∃ w, sp_M (fun f => f ∈ F) C.its (fun _ => none) w ∧ sp_hfact C w 0 = key := by
  unfold sp_keys
  rw [sp_dd_mem, List.mem_map]
  constructor
  · rintro ⟨q, hq, e⟩
    exact ⟨q.2, sp_m_M.mp ⟨q.1, hq⟩, e⟩
  · rintro ⟨w, hw, e⟩
    obtain ⟨ks, hk⟩ := sp_m_M.mpr hw
    exact ⟨(ks, w), hk, e⟩
/-- alike facts: the same is gathered -/
theorem sp_give_same {S : List Nat} (hS : ∀ n, n ∈ S → 1 ≤ n ∧ n ≤ 3) {F G : List Nat} {C : sp_C} (hg : C.gath ≠ none) (hw : ∀ it, it ∈ C.its → sp_wfI S it) (hn : ∀ it, it ∈ C.its → it.1 ≤ 1 → ∀ f, f / 1000000 = it.2.1 → (f ∈ F ↔ f ∈ G)) {f : Nat} (h : f ∈ sp_give F C) : f ∈ sp_give G C := by
  have hM : ∀ w, sp_M (fun f => f ∈ F) C.its (fun _ => none) w ↔ sp_M (fun f => f ∈ G) C.its (fun _ => none) w := fun w => sp_M_same hS hw hn sp_none_bd
  unfold sp_give at h ⊢
  rw [if_neg hg] at h ⊢
  obtain ⟨key, hk, e⟩ := List.mem_map.mp h
  refine List.mem_map.mpr ⟨key, ?_, ?_⟩
  · obtain ⟨w, h1, h2⟩ := sp_keys_M.mp hk
    exact sp_keys_M.mpr ⟨w, (hM w).mp h1, h2⟩
  · rw [← e]
    unfold sp_gfact
    have : sp_hasv C.gx (sp_grp C (sp_m G C.its (fun _ => none)) key) = sp_hasv C.gx (sp_grp C (sp_m F C.its (fun _ => none)) key) := by
      funext a
      rw [Bool.eq_iff_iff, sp_hasv_M, sp_hasv_M]
      constructor
      · rintro ⟨w, h1, h2⟩
        exact ⟨w, (hM w).mpr h1, h2⟩
      · rintro ⟨w, h1, h2⟩
        exact ⟨w, (hM w).mp h1, h2⟩
    rw [this]
/-- strata that fit a rule -/
def sp_fit (st : Nat → Nat) (C : sp_C) : Prop := ∀ it, it ∈ C.its → it.1 ≤ 1 → st it.2.1 + (if it.1 = 1 ∨ C.gath ≠ none then 1 else 0) ≤ st C.rel
theorem sp_give_mono {S : List Nat} (hS : ∀ n, n ∈ S → 1 ≤ n ∧ n ≤ 3) {st : Nat → Nat} {C : sp_C} (hw : sp_wfC S C) (hf : sp_fit st C) {F G : List Nat} (h1 : ∀ f, f ∈ F → f ∈ G) (h2 : ∀ f, f ∈ G → f ∈ F ∨ st (f / 1000000) = st C.rel) {f : Nat} (h : f ∈ sp_give F C) : f ∈ sp_give G C := by
  by_cases hg : C.gath = none
  · obtain ⟨w, hM, e⟩ := (sp_give_plain hg).mp h
    refine (sp_give_plain hg).mpr ⟨w, sp_M_mono hS h1 hw.its (fun it hit q f hG hr => ?_) sp_none_bd hM, e⟩
    rcases h2 f hG with q2 | q2
    · exact q2
    · have := hf it hit (by omega)
      rw [if_pos (Or.inl q)] at this
      rw [hr] at q2
      omega
  · refine sp_give_same hS hg hw.its (fun it hit q f hr => ⟨fun h => h1 f h, fun h => ?_⟩) h
    rcases h2 f h with q2 | q2
    · exact q2
    · have := hf it hit q
      rw [if_pos (Or.inr hg)] at this
      rw [hr] at q2
      omega
/-- what a rule gives is of its relation -/
theorem sp_give_rel {F : List Nat} {C : sp_C} (hl : C.hts.length ≤ 3) {f : Nat} (h : f ∈ sp_give F C) : f / 1000000 = C.rel ∧ (C.rel < 8 → f < 8000000) := by
  have hk : ∀ w, sp_bd w → ∀ g, g < 100 → sp_hfact C w g / 1000000 = C.rel := fun w hw g hg => by
    have := sp_hsum_lt hw hg C.hts hl
    unfold sp_hfact
    omega
  have key : f / 1000000 = C.rel := by
    by_cases hg : C.gath = none
    · obtain ⟨w, hM, e⟩ := (sp_give_plain hg).mp h
      obtain ⟨ks, hks⟩ := sp_m_M.mpr hM
      rw [e]
      exact hk w (sp_m_bd sp_none_bd (ks, w) hks) 0 (by decide)
    · unfold sp_give at h
      rw [if_neg hg] at h
      obtain ⟨key, hkey, e⟩ := List.mem_map.mp h
      obtain ⟨w, hM, e2⟩ := sp_keys_M.mp hkey
      obtain ⟨ks, hks⟩ := sp_m_M.mpr hM
      have hbd := sp_m_bd sp_none_bd (ks, w) hks
      obtain ⟨s, hs⟩ := Option.ne_none_iff_exists'.mp hg
      obtain ⟨_, t, ht, ht2⟩ := sp_gslot_get hs
      rw [Nat.sub_zero] at ht
      have h0 := sp_hfact_slot hbd (show 0 < 100 by decide) hl ht
      have h3 : sp_hval w 0 t = 0 := by unfold sp_hval; rw [if_pos ht2]
      have hsum := sp_hsum_lt (g := 0) hbd (by decide) C.hts hl
      have hs3 := (List.getElem?_eq_some_iff.mp ht).1
      have e0 : (C.gath).getD 0 = s := by rw [hs]; rfl
      rw [← e, ← e2]
      unfold sp_gfact
      rw [e0]
      have hm := sp_min99_lt (sp_agg ((C.gt - 200) / 8) (sp_hasv C.gx (sp_grp C (sp_m F C.its (fun _ => none)) (sp_hfact C w 0))))
      generalize sp_min99 (sp_agg ((C.gt - 200) / 8) (sp_hasv C.gx (sp_grp C (sp_m F C.its (fun _ => none)) (sp_hfact C w 0)))) = m at hm
      rw [h3] at h0
      have h0' : sp_slot (sp_hfact C w 0) s = 0 := h0
      unfold sp_hfact at h0' ⊢
      have hsum' : sp_hsum w 0 C.hts 0 < 1000000 := hsum
      generalize sp_hsum w 0 C.hts 0 = y at h0' hsum' ⊢
      unfold sp_slot at h0'
      unfold sp_wt
      by_cases q0 : s = 0
      · rw [if_pos q0] at h0' ⊢; omega
      · rw [if_neg q0] at h0' ⊢
        by_cases q1 : s = 1
        · rw [if_pos q1] at h0' ⊢; omega
        · rw [if_neg q1] at h0' ⊢; omega
  exact ⟨key, fun h8 => by omega⟩
/-- the least closed list over one stratum -/
def sp_up1 (st : Nat → Nat) (s : Nat) (F G : List Nat) : Prop := sp_srt G ∧ (∀ f, f ∈ F → f ∈ G) ∧ ∀ f, f ∈ G → f ∈ F ∨ st (f / 1000000) = s
def sp_cls (R : List sp_C) (st : Nat → Nat) (s : Nat) (G : List Nat) : Prop := ∀ C, C ∈ R → st C.rel = s → ∀ f, f ∈ sp_give G C → f ∈ G
def sp_lf (R : List sp_C) (st : Nat → Nat) (s : Nat) (F G : List Nat) : Prop := sp_up1 st s F G ∧ G.length ≤ 60 ∧ sp_cls R st s G ∧ ∀ G', sp_up1 st s F G' → sp_cls R st s G' → ∀ f, f ∈ G → f ∈ G'
theorem sp_lf_uniq {R : List sp_C} {st : Nat → Nat} {s : Nat} {F G H : List Nat} (h1 : sp_lf R st s F G) (h2 : sp_lf R st s F H) : G = H := sp_srt_uniq h1.1.1 h2.1.1 (fun x => ⟨fun hx => h1.2.2.2 H h2.1 h2.2.2.1 x hx, fun hx => h2.2.2.2 G h1.1 h1.2.2.1 x hx⟩)
def sp_chain (R : List sp_C) (st : Nat → Nat) : Nat → List Nat → List Nat → Prop
  | 0, F, G => G = F
  | n + 1, F, G => ∃ H, sp_chain R st n F H ∧ sp_lf R st n H G
theorem sp_chain_uniq {R : List sp_C} {st : Nat → Nat} {F : List Nat} : ∀ {n : Nat} {G H : List Nat}, sp_chain R st n F G → sp_chain R st n F H → G = H := by
  intro n
  induction n with
  | zero => intro G H h1 h2; exact h1.trans h2.symm
  | succ n ih =>
    intro G H h1 h2
    obtain ⟨A, a1, a2⟩ := h1
    obtain ⟨B, b1, b2⟩ := h2
    have := ih a1 b1
    subst this
    exact sp_lf_uniq a2 b2
/-- what stands by what is told -/
def sp_stl (R : List sp_C) (st : Nat → Nat) (T G : List Nat) : Prop := ∃ F, sp_srt F ∧ F.length ≤ 60 ∧ (∀ x, x ∈ F ↔ x ∈ T) ∧ sp_chain R st 8 F G
theorem sp_stl_uniq {R : List sp_C} {st : Nat → Nat} {T G H : List Nat} (h1 : sp_stl R st T G) (h2 : sp_stl R st T H) : G = H := by
  obtain ⟨A, a1, a2, a3, a4⟩ := h1
  obtain ⟨B, b1, b2, b3, b4⟩ := h2
  have := sp_srt_uniq a1 b1 (fun x => (a3 x).trans (b3 x).symm)
  subst this
  exact sp_chain_uniq a4 b4
/-- on the way to the least closed list -/
def sp_way (R : List sp_C) (st : Nat → Nat) (s : Nat) (F cur : List Nat) : Prop := sp_up1 st s F cur ∧ ∀ G', sp_up1 st s F G' → sp_cls R st s G' → ∀ f, f ∈ cur → f ∈ G'
theorem sp_way.rf {R : List sp_C} {st : Nat → Nat} {s : Nat} {F : List Nat} (h : sp_srt F) : sp_way R st s F F := ⟨⟨h, fun _ q => q, fun _ q => Or.inl q⟩, fun _ hG _ f hf => hG.2.1 f hf⟩
theorem sp_way.give {S : List Nat} (hS : ∀ n, n ∈ S → 1 ≤ n ∧ n ≤ 3) {R : List sp_C} {st : Nat → Nat} {s : Nat} {F cur : List Nat} (h : sp_way R st s F cur) {C : sp_C} (hC : C ∈ R) (hw : sp_wfC S C) (hf : sp_fit st C) (hs : st C.rel = s) : ∀ G', sp_up1 st s F G' → sp_cls R st s G' → ∀ f, f ∈ sp_give cur C → f ∈ G' := by
  intro G' hG hc f hfc
  refine hc C hC hs f (sp_give_mono hS hw hf (h.2 G' hG hc) (fun x hx => ?_) hfc)
  rcases hG.2.2 x hx with q | q
  · exact Or.inl (h.1.2.1 x q)
  · exact Or.inr (by rw [q, hs])
theorem sp_way.step {S : List Nat} (hS : ∀ n, n ∈ S → 1 ≤ n ∧ n ≤ 3) {R : List sp_C} {st : Nat → Nat} {s : Nat} {F cur cur' : List Nat} (h : sp_way R st s F cur) {C : sp_C} (hC : C ∈ R) (hw : sp_wfC S C) (hl : C.hts.length ≤ 3) (hf : sp_fit st C) (hs : st C.rel = s) (hsr : sp_srt cur') (hx : ∀ x, x ∈ cur' → x ∈ cur ∨ x ∈ sp_give cur C) (hx2 : ∀ x, x ∈ cur → x ∈ cur') : sp_way R st s F cur' := by
  refine ⟨⟨hsr, fun f hf => hx2 f (h.1.2.1 f hf), fun f hf => ?_⟩, fun G' hG hc f hf' => ?_⟩
  · rcases hx f hf with q | q
    · exact h.1.2.2 f q
    · exact Or.inr (by rw [(sp_give_rel hl q).1, hs])
  · rcases hx f hf' with q | q
    · exact h.2 G' hG hc f q
    · exact h.give hS hC hw hf hs G' hG hc f q
