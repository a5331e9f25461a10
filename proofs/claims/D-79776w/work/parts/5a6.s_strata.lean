/-! THE PLAIN LAW, 9: strata are there if any fit; rules and deeds kept or dropped -/
set_option maxRecDepth 100000
theorem sp_own_mono {a b : Nat → Nat} (h : ∀ i, a i ≤ b i) (C : sp_C) (it : sp_I) : sp_own a C it ≤ sp_own b C it := by
  unfold sp_own
  split
  · exact Nat.le_refl _
  · exact Nat.add_le_add_right (h _) _
theorem sp_lst_le {st : Nat → Nat} {C : sp_C} {m : Nat} (h : ∀ it, it ∈ C.its → sp_own st C it ≤ m) : sp_lst st C ≤ m := by
  unfold sp_lst
  have : ∀ (l : List sp_I) (a : Nat), a ≤ m → (∀ it, it ∈ l → sp_own st C it ≤ m) → l.foldl (fun m it => if m < sp_own st C it then sp_own st C it else m) a ≤ m := by
    intro l
    induction l with
    | nil => intro a ha _; exact ha
    | cons x l ih =>
      intro a ha hl
      rw [List.foldl_cons]
      refine ih _ ?_ (fun it hit => hl it (List.mem_cons_of_mem _ hit))
      split
      · exact hl x List.mem_cons_self
      · exact ha
  exact this _ 0 (Nat.zero_le _) h
theorem sp_fit_lst {a b : Nat → Nat} (h : ∀ i, a i ≤ b i) {C : sp_C} (hf : sp_fit b C) : sp_lst a C ≤ b C.rel := by
  refine sp_lst_le (fun it hit => Nat.le_trans (sp_own_mono h C it) ?_)
  unfold sp_own
  split
  · exact Nat.zero_le _
  · exact hf it hit (by omega)
theorem sp_s8_le {a b : Nat → Nat} (h : ∀ i, a i ≤ b i) : sp_s8 a ≤ sp_s8 b := by
  unfold sp_s8
  have := h 0
  have := h 1
  have := h 2
  have := h 3
  have := h 4
  have := h 5
  have := h 6
  have := h 7
  omega
theorem sp_strata_ex {R : List sp_C} {b : Nat → Nat} (h8 : ∀ i, b i < 8) (hf : ∀ C, C ∈ R → sp_fit b C) (hr : ∀ C, C ∈ R → C.rel < 8) : ∃ st, sp_strata R = some st := by
  have rnd : ∀ (cs : List sp_C) (a : Nat → Nat) (ch : Bool), (∀ C, C ∈ cs → C ∈ R) → (∀ i, a i ≤ b i) → ∃ a' c, sp_srnd cs a ch = some (a', c) ∧ (∀ i, a' i ≤ b i) ∧ (c = false → ch = false) ∧ sp_s8 a ≤ sp_s8 a' ∧ (c = true → ch = false → sp_s8 a < sp_s8 a') := by
    intro cs
    induction cs with
    | nil => intro a ch _ ha; exact ⟨a, ch, rfl, ha, fun h => h, Nat.le_refl _, fun h1 h2 => by rw [h1] at h2; cases h2⟩
    | cons C cs ih =>
      intro a ch hcs ha
      have hC := hcs C List.mem_cons_self
      have hl := sp_fit_lst ha (hf C hC)
      have hlt := h8 C.rel
      have e : sp_srnd (C :: cs) a ch = if 8 ≤ sp_lst a C then none else if a C.rel < sp_lst a C then sp_srnd cs (sp_put a C.rel (sp_lst a C)) true else sp_srnd cs a ch := rfl
      rw [e, if_neg (by omega)]
      by_cases q : a C.rel < sp_lst a C
      · rw [if_pos q]
        obtain ⟨a', c, h1, h2, h3, h4, h5⟩ := ih (sp_put a C.rel (sp_lst a C)) true (fun D hD => hcs D (List.mem_cons_of_mem _ hD)) (fun i => by
          unfold sp_put
          split
          · rename_i q2; rw [q2]; exact hl
          · exact ha i)
        have hs := sp_s8_put (hr C hC) q
        exact ⟨a', c, h1, h2, fun h => absurd (h3 h) (by decide), by omega, fun _ _ => by omega⟩
      · rw [if_neg q]
        exact ih a ch (fun D hD => hcs D (List.mem_cons_of_mem _ hD)) ha
  have main : ∀ (n : Nat) (a : Nat → Nat), (∀ i, a i ≤ b i) → 57 ≤ sp_s8 a + n → ∃ st, sp_strt n R a = some st := by
    intro n
    induction n with
    | zero =>
      intro a ha h
      have h1 := sp_s8_le ha
      have : sp_s8 b ≤ 56 := by
        unfold sp_s8
        have := h8 0
        have := h8 1
        have := h8 2
        have := h8 3
        have := h8 4
        have := h8 5
        have := h8 6
        have := h8 7
        omega
      omega
    | succ n ih =>
      intro a ha h
      obtain ⟨a', c, h1, h2, h3, h4, h5⟩ := rnd R a false (fun _ h => h) ha
      have e : sp_strt (n + 1) R a = match sp_srnd R a false with | none => none | some (st', ch) => if ch = true then sp_strt n R st' else some st' := rfl
      rw [e, h1]
      show ∃ st, (if c = true then sp_strt n R a' else some a') = some st
      cases c with
      | false => exact ⟨a', rfl⟩
      | true =>
        rw [if_pos rfl]
        exact ih a' h2 (by have := h5 rfl rfl; omega)
  exact main 57 _ (fun _ => Nat.zero_le _) (by decide)
theorem sp_strata_sub {S : List Nat} (hS : S.length ≤ 8) {R R' : List sp_C} (hw : ∀ C, C ∈ R → sp_wfC S C) (hs : ∀ C, C ∈ R' → C ∈ R) {st : Nat → Nat} (h : sp_strata R = some st) : ∃ st', sp_strata R' = some st' :=
  sp_strata_ex (sp_strata_8 h) (fun C hC => sp_strata_fit h C (hs C hC)) (fun C hC => by have := (List.getElem?_eq_some_iff.mp (hw C (hs C hC)).hd).1; omega)
/-- the clause of a draft -/
def wDr.C (d : wDr) (num : Nat) : sp_C := (num, d.rel, d.hts, d.its, d.mod, d.sal, d.tells)
def wDr.ready (s : wS) : Bool := decide (s.d.k ≠ 0) && (!s.d.its.isEmpty && (!s.d.lacks s.w.S && ((decide (s.d.k = 1) || decide (0 < s.d.nat)) && (s.d.sound && (if s.d.k = 1 then decide (s.w.R.length < 10) else decide (s.w.D.length < 6))))))
noncomputable def o_done (s : wS) : wA := if wDr.ready s = false then (1, 0, s) else if s.d.k = 2 then (0, nI s.w.nd, (s.setw (s.w.setD (s.w.D ++ [s.d.C s.w.nd]) (s.w.nd + 1))).setd s.d.off) else match (s.w.setR (s.w.R ++ [s.d.C s.w.nr]) (s.w.nr + 1)).stl with
  | none => (1, 0, s)
  | some w' => (0, nI s.w.nr, (s.setw w').setd s.d.off)
noncomputable def o_drop (s : wS) (r : Int32) : wA := match sp_find s.w.R r with
  | none => (1, 0, s)
  | some k => s.step 2 (s.w.setR (s.w.R.eraseIdx k) s.w.nr)
def o_dropDeed (s : wS) (r : Int32) : wA := match sp_find s.w.D r with
  | none => (1, 0, s)
  | some k => (0, nI (s.w.D.eraseIdx k).length, s.setw (s.w.setD (s.w.D.eraseIdx k) s.w.nd))
def o_stratum (s : wS) (r : Int32) : wA := match w_idx r s.w.S.length with
  | none => (1, 0, s)
  | some k => (0, nI (((sp_strata s.w.R).getD (fun _ => 0)) k), s)
theorem wDr.C_wf {S : List Nat} (hS : ∀ n, n ∈ S → 1 ≤ n ∧ n ≤ 3) {d : wDr} (hw : wfD S d) (hh : d.whole S) (hs : d.sound = true) {n : Nat} (hn : n < 100) : sp_wfC S (d.C n) := by
  obtain ⟨h1, h2⟩ := wDr.whole_wf hS hh hw
  obtain ⟨w1, w2, w3, w4, w5, w6, w7, w8, w9⟩ := hw.2.2.2 hh.1
  obtain ⟨s1, s2⟩ := Bool.and_eq_true_iff.mp hs
  refine ⟨hn, ?_, w3, ⟨?_, w5⟩, h1, w6, s1, s2, hw.2.1, hw.2.2.1⟩
  · show S[d.rel]? = some d.hts.length
    rw [h2]
    exact sp_S_getD w1
  · show 1 ≤ d.its.length
    have := List.length_pos_iff.mpr hh.2.1
    omega
theorem mDraft.body {σ : rv_S} {S : List Nat} {d : wDr} (hS : ∀ n, n ∈ S → 1 ≤ n ∧ n ≤ 3) (h : mDraft σ S d) (hw : wfD S d) (hh : d.whole S) {n : Nat} (hn : σ.2.1 3 16 = nI n) : mBody σ 16 (d.C n) := by
  obtain ⟨h1, h2⟩ := wDr.whole_wf hS hh hw
  obtain ⟨d1, d2, d3, d4, d5, d6, d7⟩ := h.2.2.2.2.2 hh.1
  have h3 := (hS _ (List.mem_of_getElem? (sp_S_getD d2))).2
  refine ⟨hn, d1, fun k t e => ?_, d3, d7, h.2.2.1, h.2.2.2.1, h.2.2.2.2.1⟩
  have e' : d.hts[k]? = some t := e
  have := (List.getElem?_eq_some_iff.mp e').1
  rw [show 3 * 16 + k = 48 + k by omega, d6 k (by omega), sp_getD e']
/-- what a change of bodies leaves -/
theorem mW0.chR {fs js : List Nat} {σ τ : rv_S} {w : wW} {R : List sp_C} {n : Nat} (h : mW0 σ w) (hs : rv_same fs js σ τ) (hj : ∀ j, j ∈ [2, 13, 14, 15, 16, 17] → j ∉ js) (h1 : ∀ i, i ≠ 1 → i ≠ 3 → τ.2.1 1 i = σ.2.1 1 i) (h11 : τ.2.1 1 1 = nI R.length) (h13 : τ.2.1 1 3 = nI n) (hl : R.length ≤ 10) (hR : ∀ (i : Nat) (C : sp_C), R[i]? = some C → mBody τ i C ∧ sp_wfC w.S C) (hD : ∀ (i : Nat) (C : sp_C), w.D[i]? = some C → mBody τ (10 + i) C) : mW0 τ (w.setR R n) := by
  have hrel := h.rel.same2 hs (h1 0 (by decide) (by decide)) (hj 2 (by decide))
  exact ⟨⟨hrel, h11, hl, hR⟩, ⟨hrel, by rw [h1 2 (by decide) (by decide)]; exact h.deeds.2.1, h.deeds.2.2.1, fun i C e => ⟨hD i C e, (h.deeds.2.2.2 i C e).2⟩⟩, h13, by rw [h1 4 (by decide) (by decide)]; exact h.nd, h.tl.same2 hs (h1 5 (by decide) (by decide)) ⟨hj 13 (by decide), hj 14 (by decide)⟩, ⟨by rw [h1 6 (by decide) (by decide)]; exact h.facts.1, h.facts.2.1, h.facts.2.2.1, fun k f e => by rw [hs.2.1 15 (hj 15 (by decide))]; exact h.facts.2.2.2 k f e⟩, h.tags.same hs (hj 16 (by decide)), by rw [h1 7 (by decide) (by decide)]; exact h.g, h.stk.same2 hs (h1 8 (by decide) (by decide)) (hj 17 (by decide)), by rw [h1 9 (by decide) (by decide)]; exact h.now, by rw [h1 10 (by decide) (by decide)]; exact h.fd⟩
theorem mW0.chD {fs js : List Nat} {σ τ : rv_S} {w : wW} {D : List sp_C} {n : Nat} (h : mW0 σ w) (hs : rv_same fs js σ τ) (hj : ∀ j, j ∈ [2, 13, 14, 15, 16, 17] → j ∉ js) (h1 : ∀ i, i ≠ 2 → i ≠ 4 → τ.2.1 1 i = σ.2.1 1 i) (h12 : τ.2.1 1 2 = nI D.length) (h14 : τ.2.1 1 4 = nI n) (hl : D.length ≤ 6) (hD : ∀ (i : Nat) (C : sp_C), D[i]? = some C → mBody τ (10 + i) C ∧ sp_wfC w.S C) (hR : ∀ (i : Nat) (C : sp_C), w.R[i]? = some C → mBody τ i C) : mW0 τ (w.setD D n) := by
  have hrel := h.rel.same2 hs (h1 0 (by decide) (by decide)) (hj 2 (by decide))
  exact ⟨⟨hrel, by rw [h1 1 (by decide) (by decide)]; exact h.rules.2.1, h.rules.2.2.1, fun i C e => ⟨hR i C e, (h.rules.2.2.2 i C e).2⟩⟩, ⟨hrel, h12, hl, hD⟩, by rw [h1 3 (by decide) (by decide)]; exact h.nr, h14, h.tl.same2 hs (h1 5 (by decide) (by decide)) ⟨hj 13 (by decide), hj 14 (by decide)⟩, ⟨by rw [h1 6 (by decide) (by decide)]; exact h.facts.1, h.facts.2.1, h.facts.2.2.1, fun k f e => by rw [hs.2.1 15 (hj 15 (by decide))]; exact h.facts.2.2.2 k f e⟩, h.tags.same hs (hj 16 (by decide)), by rw [h1 7 (by decide) (by decide)]; exact h.g, h.stk.same2 hs (h1 8 (by decide) (by decide)) (hj 17 (by decide)), by rw [h1 9 (by decide) (by decide)]; exact h.now, by rw [h1 10 (by decide) (by decide)]; exact h.fd⟩
theorem mBody.n16 {σ : rv_S} {i : Nat} {C : sp_C} {v : Int32} (h : mBody σ i C) (hi : i ≠ 16) : mBody (rv_sU σ 3 16 v) i C := by
  refine ⟨by rw [rv_sU_2, if_neg (fun q => hi q.2)]; exact h.num, by rw [rv_sU_2, if_neg (fun q => absurd q.1 (by decide))]; exact h.rel, fun k t e => by rw [rv_sU_2, if_neg (fun q => absurd q.1 (by decide))]; exact h.hts k t e, by rw [rv_sU_2, if_neg (fun q => absurd q.1 (by decide))]; exact h.len, fun j it e => ?_, by rw [rv_sU_2, if_neg (fun q => absurd q.1 (by decide))]; exact h.mod, by rw [rv_sU_2, if_neg (fun q => absurd q.1 (by decide))]; exact h.sal, by rw [rv_sU_2, if_neg (fun q => absurd q.1 (by decide))]; exact h.tells⟩
  exact (h.its j it e).same (fs := []) (js := [3]) (.u (by decide)) (by decide) (by decide) (by decide)
theorem mDraft.n16 {σ : rv_S} {S : List Nat} {d : wDr} {v : Int32} (h : mDraft σ S d) : mDraft (rv_sU σ 3 16 v) S d := h.same (fs := []) (js := [3]) (.u (by decide)) (by decide) (by decide)
