/-! THE SYSTEM: entries of what has fired; lists' elements; tags -/
set_option maxRecDepth 100000
/-- the tags of an entry -/
def xet (e : Nat × Nat × Nat × Nat) (k : Nat) : Nat := [e.2.1, e.2.2.1, e.2.2.2].getD k 0
def xFi (G : rv_G) (rd : Nat → rv_C → Prop) (a : Nat) (e : Nat × Nat × Nat × Nat) : Prop := ∃ z f, rd a (cI (1 + z) f) ∧ rv_b G ≤ a ∧ z ≤ 3 ∧ f 0 = nI e.1 ∧ (∀ k, k < z → f (1 + k) = nI (xet e k)) ∧ ∀ k, k < 3 → (k < z ↔ xet e k ≠ 0)
theorem xFi.mono {G : rv_G} {rd rd2 : Nat → rv_C → Prop} {a : Nat} {e : Nat × Nat × Nat × Nat} (h : xFi G rd a e) (hm : ∀ a c, rd a c → rd2 a c) : xFi G rd2 a e := by
  obtain ⟨z, f, h1, h2⟩ := h
  exact ⟨z, f, hm _ _ h1, h2⟩
/-- whether an entry's tags are all those of facts that stand -/
def xal3 (A : List Nat) (e : Nat × Nat × Nat × Nat) : Bool := sp_alive A 3 (xet e)
theorem xal3_z {A : List Nat} {e : Nat × Nat × Nat × Nat} {z : Nat} (hz : z ≤ 3) (h : ∀ k, k < 3 → (k < z ↔ xet e k ≠ 0)) : sp_alive A z (xet e) = xal3 A e := by
  unfold xal3 sp_alive
  rw [Bool.eq_iff_iff, List.all_eq_true, List.all_eq_true]
  constructor
  · intro q k hk
    have hk := List.mem_range.mp hk
    by_cases hkz : k < z
    · exact q k (List.mem_range.mpr hkz)
    · have : xet e k = 0 := Classical.byContradiction (fun n => hkz ((h k hk).mpr n))
      exact decide_eq_true (Or.inl this)
  · intro q k hk
    exact q k (List.mem_range.mpr (by have := List.mem_range.mp hk; omega))
theorem xal3_iff {A : List Nat} {e : Nat × Nat × Nat × Nat} : xal3 A e = true ↔ (e.2.1 = 0 ∨ e.2.1 ∈ A) ∧ (e.2.2.1 = 0 ∨ e.2.2.1 ∈ A) ∧ (e.2.2.2 = 0 ∨ e.2.2.2 ∈ A) := by
  unfold xal3 sp_alive
  rw [List.all_eq_true]
  constructor
  · intro q
    exact ⟨of_decide_eq_true (q 0 (by decide)), of_decide_eq_true (q 1 (by decide)), of_decide_eq_true (q 2 (by decide))⟩
  · rintro ⟨q0, q1, q2⟩ k hk
    have hk := List.mem_range.mp hk
    rcases (by omega : k = 0 ∨ k = 1 ∨ k = 2) with e | e | e
    · subst e; exact decide_eq_true q0
    · subst e; exact decide_eq_true q1
    · subst e; exact decide_eq_true q2
/-! what may lie in lists, and lies apart from own cells -/
theorem xr.F {G : rv_G} {F : xF} {a : Nat} {c : rv_C} (h : xr G F a c) (hb : rv_b G ≤ a) : F a = some c := h.elim id (fun q => absurd q.1 (Nat.not_lt.mpr hb))
theorem xel_I {G : rv_G} {F : xF} {h : rv_H} {M : xM} {n m a z : Nat} {f : Nat → Int32} (hH : xH G F M n m h) (hr : xr G F a (cI z f)) (hb : rv_b G ≤ a) : rv_el G h a := ⟨"[I", q2826, Or.inr ⟨_, (hH.1 _ _ (hr.F hb)).1, by decide, by decide⟩⟩
theorem xel_O {G : rv_G} {F : xF} {h : rv_H} {M : xM} {n m a ci N : Nat} {fs : List Value} {C : String} {T : u_T} (hH : xH G F M n m h) (hr : xr G F a (cO ci fs)) (hc : rv_cl[ci]? = some (C, T, N)) (hq : (Cond.castable C "java/lang/Object") ∈ lw_tbl) : rv_el G h a := ⟨C, hq, Or.inl ⟨ci, N, fs, T, hH.f hr, hc⟩⟩
theorem xown_ne {G : rv_G} {F : xF} {h : rv_H} {M : xM} {n m a : Nat} {c : rv_C} (hH : xH G F M n m h) (hr : xr G F a c) : a ∉ xad M := by
  intro hm
  obtain ⟨q, hq, rfl⟩ := List.mem_map.mp hm
  obtain ⟨q1, q2, q3⟩ := hH.2.1 q hq
  rcases hr with e | e
  · rw [q3] at e
    cases e
  · have := (hH.2.2.2.1.2 _ _ q1).1
    have := e.1
    omega
/-! tags -/
theorem sp_tg_ix {Fs A : List Nat} (hF : sp_srt Fs) (hl : A.length = Fs.length) {f : Nat} : (sp_ix Fs f = none → sp_tg Fs A f = 0) ∧ ∀ j, sp_ix Fs f = some j → A[j]? = some (sp_tg Fs A f) := by
  obtain ⟨h1, h2⟩ := sp_tgk_spec (sp_srt_nd hF) hl (f := f) (Nat.le_refl Fs.length)
  refine ⟨fun e => ?_, fun j e => ?_⟩
  · rcases h1 with q | ⟨i, -, q, -⟩
    · exact q
    · rw [sp_ix_some hF q] at e
      cases e
  · have hj := sp_ix_get e
    exact h2 j (List.getElem?_eq_some_iff.mp hj).1 hj
def xdn : Nat → Int32
  | 0 => -1
  | k + 1 => nI k
theorem xdn_dec {k : Nat} : nI k + (-1) = xdn k := by
  cases k with
  | zero => decide
  | succ k => exact nI_dec (Nat.succ_pos k)
