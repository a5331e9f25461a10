/-! WHAT THE CALLS DO, 2: the draft -/
set_option maxRecDepth 100000
def d_mk (k m : Nat) (sal : Int32) (t : Bool) (rel : Nat) (hts : List Nat) (its : List sp_I) : wDr := (k, m, sal, t, rel, hts, its)
def wDr.addT (d : wDr) (t : Nat) : wDr := match d.its.getLast? with
  | none => d_mk d.k d.mod d.sal d.tells d.rel (d.hts ++ [t]) d.its
  | some it => d_mk d.k d.mod d.sal d.tells d.rel d.hts (d.its.dropLast ++ [(it.1, it.2.1, it.2.2 ++ [t])])
def wDr.addI (d : wDr) (kind what : Nat) : wDr := d_mk d.k d.mod d.sal d.tells d.rel d.hts (d.its ++ [(kind, what, [])])
def wDr.can (S : List Nat) (d : wDr) : Bool := decide (0 < d.k) && (!d.lacks S && decide (d.its.length < 6))
def wDr.nat (d : wDr) : Nat := (d.its.filter (fun it => it.1 == 0)).length
def o_rule (s : wS) (r : Int32) : wA := match w_idx r s.w.S.length with
  | none => (1, 0, s)
  | some k => if 0 < s.d.k then (2, 0, s) else (0, 0, s.setd (d_mk 1 s.d.mod s.d.sal s.d.tells k [] []))
def o_deed (s : wS) (m sal : Int32) (t : Bool) (r : Int32) : wA := match w_idx r s.w.S.length with
  | none => (1, 0, s)
  | some k => if ¬ (w_rng 0 3 m ∧ -10 ≤ sal ∧ sal ≤ nI 10) then (2, 0, s) else if 0 < s.d.k then (3, 0, s) else (0, 0, s.setd (d_mk 2 m.toNatClampNeg sal t k [] []))
def o_variable (s : wS) (v : Int32) : wA := if ¬ w_rng 0 7 v then (1, 0, s) else if s.d.k = 0 ∨ s.d.lacks s.w.S = false then (2, 0, s) else (0, 0, s.setd (s.d.addT (100 + v.toNatClampNeg)))
def o_value (s : wS) (v : Int32) : wA := if ¬ w_rng 0 99 v then (1, 0, s) else if s.d.k = 0 ∨ s.d.lacks s.w.S = false then (2, 0, s) else (0, 0, s.setd (s.d.addT v.toNatClampNeg))
def o_gather (s : wS) (kd v : Int32) : wA := if ¬ (w_rng 0 3 kd ∧ w_rng 0 7 v) then (1, 0, s) else if ¬ (s.d.k = 1 ∧ s.d.its.length = 0 ∧ s.d.lacks s.w.S = true ∧ sp_gslot s.d.hts 0 = none) then (2, 0, s) else (0, 0, s.setd (s.d.addT (200 + 8 * kd.toNatClampNeg + v.toNatClampNeg)))
def o_atom (s : wS) (r : Int32) : wA := match w_idx r s.w.S.length with
  | none => (1, 0, s)
  | some k => if ¬ (s.d.can s.w.S = true ∧ s.d.nat < 3) then (2, 0, s) else (0, 0, s.setd (s.d.addI 0 k))
def o_not (s : wS) (r : Int32) : wA := match w_idx r s.w.S.length with
  | none => (1, 0, s)
  | some k => if s.d.can s.w.S = false then (2, 0, s) else (0, 0, s.setd (s.d.addI 1 k))
def o_test (s : wS) (r : Int32) : wA := if ¬ w_rng 0 2 r then (1, 0, s) else if s.d.can s.w.S = false then (2, 0, s) else (0, 0, s.setd (s.d.addI 2 r.toNatClampNeg))
def o_plus (s : wS) : wA := if s.d.can s.w.S = false then (1, 0, s) else (0, 0, s.setd (s.d.addI 3 0))
def o_cancel (s : wS) : wA := (0, rv_z (decide (0 < s.d.k)), s.setd s.d.off)
/-! pictures of the draft -/
theorem sp_gslot_pad {ts : List Nat} : ∀ {n s : Nat}, sp_gslot (ts ++ List.replicate n 0) s = sp_gslot ts s := by
  induction ts with
  | nil =>
    intro n
    induction n with
    | zero => intro s; rfl
    | succ n ih =>
      intro s
      rw [List.nil_append, List.replicate_succ, sp_gslot_lt (by decide)]
      have := ih (s := s + 1)
      rw [List.nil_append] at this
      rw [this]
      rfl
  | cons t ts ih =>
    intro n s
    rw [List.cons_append]
    by_cases h : 200 ≤ t
    · rw [sp_gslot_ge h, sp_gslot_ge h]
    · rw [sp_gslot_lt (by omega), sp_gslot_lt (by omega)]
      exact ih
theorem sp_S_getD {S : List Nat} {k : Nat} (h : k < S.length) : S[k]? = some (S.getD k 0) := by rw [List.getD_eq_getElem?_getD, List.getElem?_eq_getElem h]; rfl
/-- the draft's head, filled up -/
theorem mDraft.mHd {σ : rv_S} {S : List Nat} {d : wDr} (h : mDraft σ S d) (hS : mRel σ S) (hw : wfD S d) (hk : d.k ≠ 0) : mHd σ S 16 d.rel (d.hts ++ List.replicate (S.getD d.rel 0 - d.hts.length) 0) := by
  obtain ⟨h1, h2, h3, h4, h5, h6, h7⟩ := h.2.2.2.2.2 hk
  obtain ⟨w1, w2, w3, w4, -⟩ := hw.2.2.2 hk
  have e := sp_S_getD h2
  have hn := hS.2.2.1 _ (List.mem_of_getElem? e)
  refine ⟨hS, by decide, h1, ?_, fun k t ht => ?_, fun t ht => ?_⟩
  · rw [e, List.length_append, List.length_replicate]
    congr 1
    omega
  · have hk3 : k < 3 := by
      have := (List.getElem?_eq_some_iff.mp ht).1
      rw [List.length_append, List.length_replicate] at this
      omega
    rw [show 3 * 16 + k = 48 + k by omega, h6 k hk3]
    congr 1
    by_cases q : k < d.hts.length
    · rw [List.getElem?_append_left q] at ht
      rw [List.getD_eq_getElem?_getD, ht]
      rfl
    · rw [List.getElem?_append_right (by omega)] at ht
      obtain ⟨q2, q3⟩ := List.getElem?_eq_some_iff.mp ht
      rw [List.getElem_replicate] at q3
      rw [List.getD_eq_getElem?_getD, List.getElem?_eq_none (by omega), ← q3]
      rfl
  · rcases List.mem_append.mp ht with q | q
    · exact w3.1 t q
    · rw [(List.mem_replicate.mp q).2]
      exact Or.inl (by decide)
