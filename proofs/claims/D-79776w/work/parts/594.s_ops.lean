/-! WHAT THE CALLS DO, 1: relations and facts -/
set_option maxRecDepth 100000
/-- a number in a range, an index -/
abbrev w_rng (a b : Nat) (v : Int32) : Prop := nI a ≤ v ∧ v ≤ nI b
def w_idx (p : Int32) (n : Nat) : Option Nat := if nI 0 ≤ p ∧ p.toNatClampNeg < n then some p.toNatClampNeg else none
theorem w_rng_nat {a b : Nat} {v : Int32} (hb : b < 2147483648) (ha : a ≤ b) (h : w_rng a b v) : ∃ n, a ≤ n ∧ n ≤ b ∧ v = nI n ∧ v.toNatClampNeg = n := by
  obtain ⟨h1, h2⟩ := h
  have h0 : (0 : Int32) ≤ v := Int32.le_trans (nI_pos' (n := a) (by omega)) h1
  obtain ⟨n, hn, rfl⟩ := sp_nI_of h0
  exact ⟨n, (nI_leI (by omega) (by omega)).mp h1, (nI_leI (by omega) (by omega)).mp h2, rfl, nI_clamp (by omega)⟩
theorem w_idx_nI {k n : Nat} (h : k < n) (hn : n < 2147483648) : w_idx (nI k) n = some k := by
  unfold w_idx
  rw [nI_clamp (by omega), if_pos ⟨nI_le (Nat.zero_le _) (by omega), h⟩]
theorem w_idx_no {p : Int32} {n : Nat} (hn : n < 2147483648) (h : ¬ ∃ k, k < n ∧ p = nI k) : w_idx p n = none := by
  unfold w_idx
  refine if_neg (fun hp => h ?_)
  obtain ⟨k, hk, rfl⟩ := sp_nI_of (f := p) (by have := hp.1; rw [nI_0] at this; exact this)
  rw [nI_clamp (by omega)] at hp
  exact ⟨k, hp.2, rfl⟩
theorem w_idx_some {p : Int32} {n k : Nat} (hn : n < 2147483648) (h : w_idx p n = some k) : k < n ∧ p = nI k := by
  by_cases hx : ∃ k, k < n ∧ p = nI k
  · obtain ⟨j, h1, rfl⟩ := hx
    rw [w_idx_nI h1 hn] at h
    cases h
    exact ⟨h1, rfl⟩
  · rw [w_idx_no hn hx] at h
    cases h
theorem w_in_iff {p : Int32} {n : Nat} (hn : n < 2147483648) : (nI 0 ≤ p ∧ p ≤ nI n - nI 1) ↔ ∃ k, k < n ∧ p = nI k := by
  constructor
  · rintro ⟨h1, h2⟩
    obtain ⟨k, hk, rfl⟩ := sp_nI_of (f := p) (by rw [nI_0] at h1; exact h1)
    refine ⟨k, ?_, rfl⟩
    cases n with
    | zero =>
      have : nI 0 ≤ nI 0 - nI 1 := Int32.le_trans h1 h2
      exact absurd this (by decide)
    | succ n =>
      rw [pk_sub (by omega), show n + 1 - 1 = n by omega] at h2
      have := (nI_leI (by omega) (by omega)).mp h2
      omega
  · rintro ⟨k, hk, rfl⟩
    refine ⟨nI_le (Nat.zero_le _) (by omega), ?_⟩
    rw [pk_sub (by omega)]
    exact nI_le (by omega) (by omega)
def o_relation (s : wS) (k : Int32) : wA := if ¬ w_rng 1 3 k then (1, 0, s) else if s.w.S.length = 8 then (2, 0, s) else (0, nI s.w.S.length, s.setw (s.w.setS (s.w.S ++ [k.toNatClampNeg])))
noncomputable def o_tell (s : wS) (f t : Int32) : wA := if sp_fault s.w.S f ≠ 0 then (sp_fault s.w.S f, 0, s) else if ¬ w_rng 0 100 t then (2, 0, s) else s.step 3 (s.w.setT (sp_tellF s.w.T f.toNatClampNeg (if t = 0 then 0 else s.w.now + t.toNatClampNeg)))
noncomputable def o_take (s : wS) (f : Int32) : wA := if sp_fault s.w.S f ≠ 0 then (sp_fault s.w.S f, 0, s) else match sp_at s.w.T f.toNatClampNeg with
  | none => (3, 0, s)
  | some k => s.step 3 (s.w.setT (s.w.T.eraseIdx k))
def o_stands (s : wS) (f : Int32) : wA := if sp_fault s.w.S f ≠ 0 then (sp_fault s.w.S f, 0, s) else (0, rv_z (decide (f.toNatClampNeg ∈ s.w.F)), s)
def o_endOf (s : wS) (f : Int32) : wA := if sp_fault s.w.S f ≠ 0 then (sp_fault s.w.S f, 0, s) else (0, (match sp_at s.w.T f.toNatClampNeg with
  | none => -1
  | some k => nI (s.w.T.getD k (0, 0)).2), s)
def o_tag (s : wS) (f : Int32) : wA := if sp_fault s.w.S f ≠ 0 then (sp_fault s.w.S f, 0, s) else (0, (match sp_ix s.w.F f.toNatClampNeg with
  | none => -1
  | some k => nI (s.w.A.getD k 0)), s)
def o_standing (s : wS) : wA := (0, nI s.w.F.length, s)
def o_standingAt (s : wS) (p : Int32) : wA := match w_idx p s.w.F.length with
  | none => (1, 0, s)
  | some k => (0, nI (s.w.F.getD k 0), s)
theorem sp_wfI.app {S : List Nat} {it : sp_I} (h : sp_wfI S it) (k : Nat) : sp_wfI (S ++ [k]) it := by
  obtain ⟨h1, h2, h3⟩ := h
  refine ⟨h1, fun q => ?_, h3⟩
  have := h2 q
  rw [List.getElem?_append_left (List.getElem?_eq_some_iff.mp this).1]
  exact this
theorem sp_wfC.app {S : List Nat} {C : sp_C} (h : sp_wfC S C) (k : Nat) : sp_wfC (S ++ [k]) C := by
  obtain ⟨h1, h2, h3, h4, h5, h6⟩ := h
  refine ⟨h1, ?_, h3, h4, fun it hit => (h5 it hit).app k, h6⟩
  rw [List.getElem?_append_left (List.getElem?_eq_some_iff.mp h2).1]
  exact h2
