/-! THE REFERENCE: what its arrays mean -/
set_option maxRecDepth 100000
def rv_same (fs js : List Nat) (σ τ : rv_S) : Prop := (∀ k, k ∉ fs → τ.1 k = σ.1 k) ∧ (∀ j, j ∉ js → τ.2.1 j = σ.2.1 j) ∧ ∀ j, j ∉ js → τ.2.2 j = σ.2.2 j
theorem rv_same.rf {fs js : List Nat} {σ : rv_S} : rv_same fs js σ σ := ⟨fun _ _ => rfl, fun _ _ => rfl, fun _ _ => rfl⟩
theorem rv_same.tr {fs js : List Nat} {σ τ υ : rv_S} (h1 : rv_same fs js σ τ) (h2 : rv_same fs js τ υ) : rv_same fs js σ υ := ⟨fun k hk => (h2.1 k hk).trans (h1.1 k hk), fun j hj => (h2.2.1 j hj).trans (h1.2.1 j hj), fun j hj => (h2.2.2 j hj).trans (h1.2.2 j hj)⟩
theorem rv_same.mn {fs js fs' js' : List Nat} {σ τ : rv_S} (h : rv_same fs js σ τ) (h1 : ∀ k, k ∈ fs → k ∈ fs') (h2 : ∀ j, j ∈ js → j ∈ js') : rv_same fs' js' σ τ := ⟨fun k hk => h.1 k (fun q => hk (h1 k q)), fun j hj => h.2.1 j (fun q => hj (h2 j q)), fun j hj => h.2.2 j (fun q => hj (h2 j q))⟩
theorem rv_same.f {fs js : List Nat} {σ : rv_S} {k : Nat} {v : Int32} (hk : k ∈ fs) : rv_same fs js σ (rv_sF σ k v) := ⟨fun i hi => by show (if i = k then v else σ.1 i) = _; rw [if_neg (fun e : i = k => hi (by rw [e]; exact hk))], fun _ _ => rfl, fun _ _ => rfl⟩
theorem rv_same.u {fs js : List Nat} {σ : rv_S} {j t : Nat} {v : Int32} (hj : j ∈ js) : rv_same fs js σ (rv_sU σ j t v) := ⟨fun _ _ => rfl, fun i hi => by funext s; show (if i = j ∧ s = t then v else σ.2.1 i s) = _; rw [if_neg (fun e : i = j ∧ s = t => hi (by rw [e.1]; exact hj))], fun _ _ => rfl⟩
theorem rv_same.w {fs js : List Nat} {σ : rv_S} {j t : Nat} {v : Int64} (hj : j ∈ js) : rv_same fs js σ (rv_sW σ j t v) := ⟨fun _ _ => rfl, fun _ _ => rfl, fun i hi => by funext s; show (if i = j ∧ s = t then v else σ.2.2 i s) = _; rw [if_neg (fun e : i = j ∧ s = t => hi (by rw [e.1]; exact hj))]⟩
theorem rv_sF_1 (σ : rv_S) (k : Nat) (v : Int32) (i : Nat) : (rv_sF σ k v).1 i = if i = k then v else σ.1 i := rfl
theorem rv_sF_2 (σ : rv_S) (k : Nat) (v : Int32) : (rv_sF σ k v).2 = σ.2 := rfl
theorem rv_sU_1 (σ : rv_S) (j t : Nat) (v : Int32) : (rv_sU σ j t v).1 = σ.1 := rfl
theorem rv_sU_2 (σ : rv_S) (j t : Nat) (v : Int32) (i s : Nat) : (rv_sU σ j t v).2.1 i s = if i = j ∧ s = t then v else σ.2.1 i s := rfl
theorem rv_sU_3 (σ : rv_S) (j t : Nat) (v : Int32) : (rv_sU σ j t v).2.2 = σ.2.2 := rfl
theorem rv_sW_1 (σ : rv_S) (j t : Nat) (v : Int64) : (rv_sW σ j t v).1 = σ.1 := rfl
theorem rv_sW_2 (σ : rv_S) (j t : Nat) (v : Int64) : (rv_sW σ j t v).2.1 = σ.2.1 := rfl
theorem rv_sW_3 (σ : rv_S) (j t : Nat) (v : Int64) (i s : Nat) : (rv_sW σ j t v).2.2 i s = if i = j ∧ s = t then v else σ.2.2 i s := rfl
/-- a place or -1 -/
def rv_oi (x : Option Nat) : Int32 := match x with
  | none => -1
  | some a => nI a
theorem nI_m1 {a : Nat} (h : a < 2147483648) : ¬ nI a = -1 := by
  intro e
  have h1 := nI_toInt h
  rw [e] at h1
  have h2 : (-1 : Int32).toInt = -1 := by decide
  omega
theorem rv_oi_m1 {x : Option Nat} (h : ∀ a, x = some a → a < 2147483648) : rv_oi x = -1 ↔ x = none := by
  cases x with
  | none => exact ⟨fun _ => rfl, fun _ => rfl⟩
  | some a => exact ⟨fun e => absurd e (nI_m1 (h a rfl)), fun e => by cases e⟩
theorem rv_oi_inj {x y : Option Nat} (h : ∀ a, x = some a → a < 2147483648) (h2 : ∀ a, y = some a → a < 2147483648) : rv_oi x = rv_oi y ↔ x = y := by
  cases y with
  | none => exact rv_oi_m1 h
  | some b =>
    cases x with
    | none => exact ⟨fun e => absurd e.symm (nI_m1 (h2 b rfl)), fun e => by cases e⟩
    | some a => exact ⟨fun e => by rw [(nI_eq (h a rfl) (h2 b rfl)).mp e], fun e => by rw [e]⟩
/-- the facts that stand, as a list -/
def mFacts (σ : rv_S) (F : List Nat) : Prop := σ.2.1 1 6 = nI F.length ∧ F.length ≤ 61 ∧ (∀ f, f ∈ F → f < 8000000) ∧ ∀ (k f : Nat), F[k]? = some f → σ.2.1 15 k = nI f
/-- the relations' slots -/
def mRel (σ : rv_S) (S : List Nat) : Prop := σ.2.1 1 0 = nI S.length ∧ S.length ≤ 8 ∧ (∀ n, n ∈ S → 1 ≤ n ∧ n ≤ 3) ∧ ∀ (k n : Nat), S[k]? = some n → σ.2.1 2 k = nI n
def mVal (σ : rv_S) (v : sp_V) : Prop := (∀ x, x < 8 → σ.2.1 28 x = rv_oi (v x)) ∧ ∀ x a, v x = some a → a < 100
def mKb (σ : rv_S) (kb : Nat → Option Nat) : Prop := (∀ x, x < 8 → σ.2.1 29 x = rv_oi (kb x)) ∧ ∀ x a, kb x = some a → a < 6
/-- an item of a body -/
def mItem (σ : rv_S) (b i : Nat) (it : sp_I) : Prop := σ.2.1 7 (6 * b + i) = nI it.1 ∧ σ.2.1 8 (6 * b + i) = nI it.2.1 ∧ ∀ (k t : Nat), it.2.2[k]? = some t → σ.2.1 9 (3 * (6 * b + i) + k) = nI t
def sp_wfT (t : Nat) : Prop := t < 108
/-- an item that can be typed: its kind, its relation or test, so many terms -/
def sp_wfI (S : List Nat) (it : sp_I) : Prop := it.1 ≤ 3 ∧ (it.1 ≤ 1 → S[it.2.1]? = some it.2.2.length) ∧ (it.1 = 2 → it.2.1 ≤ 2 ∧ it.2.2.length = 2) ∧ (it.1 = 3 → it.2.1 = 0 ∧ it.2.2.length = 3) ∧ ∀ t, t ∈ it.2.2 → t < 108
theorem sp_wfI.len {S : List Nat} {it : sp_I} (hS : ∀ n, n ∈ S → 1 ≤ n ∧ n ≤ 3) (h : sp_wfI S it) : 1 ≤ it.2.2.length ∧ it.2.2.length ≤ 3 := by
  obtain ⟨h1, h2, h3, h4, -⟩ := h
  by_cases a : it.1 ≤ 1
  · exact hS _ (List.mem_of_getElem? (h2 a))
  · by_cases b : it.1 = 2
    · have := (h3 b).2; omega
    · have := (h4 (by omega)).2; omega
theorem mFacts.same {fs js : List Nat} {σ τ : rv_S} {F : List Nat} (h : mFacts σ F) (hs : rv_same fs js σ τ) (h1 : 1 ∉ js) (h15 : 15 ∉ js) : mFacts τ F := by
  obtain ⟨a, b, c, d⟩ := h
  exact ⟨by rw [hs.2.1 1 h1]; exact a, b, c, fun k f hk => by rw [hs.2.1 15 h15]; exact d k f hk⟩
theorem mRel.same {fs js : List Nat} {σ τ : rv_S} {S : List Nat} (h : mRel σ S) (hs : rv_same fs js σ τ) (h1 : 1 ∉ js) (h2 : 2 ∉ js) : mRel τ S := by
  obtain ⟨a, b, c, d⟩ := h
  exact ⟨by rw [hs.2.1 1 h1]; exact a, b, c, fun k f hk => by rw [hs.2.1 2 h2]; exact d k f hk⟩
theorem mItem.same {fs js : List Nat} {σ τ : rv_S} {b i : Nat} {it : sp_I} (h : mItem σ b i it) (hs : rv_same fs js σ τ) (h7 : 7 ∉ js) (h8 : 8 ∉ js) (h9 : 9 ∉ js) : mItem τ b i it := by
  obtain ⟨a, b, c⟩ := h
  exact ⟨by rw [hs.2.1 7 h7]; exact a, by rw [hs.2.1 8 h8]; exact b, fun k t hk => by rw [hs.2.1 9 h9]; exact c k t hk⟩
theorem mVal.same {fs js : List Nat} {σ τ : rv_S} {v : sp_V} (h : mVal σ v) (hs : rv_same fs js σ τ) (h28 : 28 ∉ js) : mVal τ v := ⟨fun x hx => by rw [hs.2.1 28 h28]; exact h.1 x hx, h.2⟩
theorem mKb.same {fs js : List Nat} {σ τ : rv_S} {v : Nat → Option Nat} (h : mKb σ v) (hs : rv_same fs js σ τ) (h29 : 29 ∉ js) : mKb τ v := ⟨fun x hx => by rw [hs.2.1 29 h29]; exact h.1 x hx, h.2⟩
theorem sp_val_lt {v : sp_V} (h : ∀ x a, v x = some a → a < 100) {t a : Nat} (e : sp_val v t = some a) : a < 100 := by
  unfold sp_val at e
  split at e
  · cases e; assumption
  · exact h _ _ e
theorem sp_slot_lt (f s : Nat) : sp_slot f s < 100 := by
  unfold sp_slot
  split
  · omega
  · split <;> omega
