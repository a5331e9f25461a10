/-! BEGINNINGS: bodies alike up to the names of variables -/
set_option maxRecDepth 100000
def sp_vs (ts : List Nat) : List Nat := ts.foldl (fun L x => if 100 ≤ x ∧ x ∉ L then L ++ [x] else L) []
theorem sp_vs_snoc {ts : List Nat} {x : Nat} : sp_vs (ts ++ [x]) = if 100 ≤ x ∧ x ∉ sp_vs ts then sp_vs ts ++ [x] else sp_vs ts := by
  unfold sp_vs
  rw [List.foldl_append]
  rfl
theorem sp_snoc_ind {α : Type} {P : List α → Prop} (h0 : P []) (hs : ∀ l x, P l → P (l ++ [x])) : ∀ l, P l := by
  have : ∀ (n : Nat) (l : List α), l.length = n → P l := by
    intro n
    induction n with
    | zero => intro l h; rw [List.eq_nil_of_length_eq_zero h]; exact h0
    | succ n ih =>
      intro l h
      have hne : l ≠ [] := fun e => by rw [e] at h; cases h
      rw [← List.dropLast_concat_getLast hne]
      exact hs _ _ (ih _ (by rw [List.length_dropLast, h]; rfl))
  exact fun l => this _ l rfl
theorem sp_vs_mem : ∀ {ts : List Nat} {x : Nat}, x ∈ sp_vs ts ↔ 100 ≤ x ∧ x ∈ ts := by
  intro ts
  refine sp_snoc_ind (P := fun ts => ∀ {x : Nat}, x ∈ sp_vs ts ↔ 100 ≤ x ∧ x ∈ ts) ?_ ?_ ts
  · intro x
    exact ⟨fun h => (by cases h), fun h => (by cases h.2)⟩
  · intro l y ih x
    rw [sp_vs_snoc]
    split
    · rename_i q
      rw [List.mem_append, List.mem_append, ih, List.mem_singleton]
      constructor
      · rintro (h | h)
        · exact ⟨h.1, Or.inl h.2⟩
        · exact ⟨by rw [h]; exact q.1, Or.inr h⟩
      · rintro ⟨h1, h2 | h2⟩
        · exact Or.inl ⟨h1, h2⟩
        · exact Or.inr h2
    · rename_i q
      rw [List.mem_append, ih, List.mem_singleton]
      constructor
      · rintro ⟨h1, h2⟩
        exact ⟨h1, Or.inl h2⟩
      · rintro ⟨h1, h2 | h2⟩
        · exact ⟨h1, h2⟩
        · subst h2
          exact ih.mp (Classical.byContradiction fun g => q ⟨h1, g⟩)
/-- a variable's number among those that come -/
def sp_ren (ts : List Nat) (v : Nat) : Nat := (sp_vs (ts.takeWhile (fun x => decide (x ≠ v)))).length
theorem sp_tw_all {ts : List Nat} {v : Nat} (h : v ∉ ts) : ts.takeWhile (fun x => decide (x ≠ v)) = ts := by
  induction ts with
  | nil => rfl
  | cons a ts ih =>
    rw [List.takeWhile_cons, if_pos (decide_eq_true (show a ≠ v from fun e => h (by rw [← e]; exact List.mem_cons_self))), ih (fun q => h (List.mem_cons_of_mem _ q))]
theorem sp_tw_at {ts rest : List Nat} {v : Nat} (h : v ∉ ts) : (ts ++ v :: rest).takeWhile (fun x => decide (x ≠ v)) = ts := by
  induction ts with
  | nil => rw [List.nil_append, List.takeWhile_cons, if_neg (by simp)]
  | cons a ts ih =>
    rw [List.cons_append, List.takeWhile_cons, if_pos (decide_eq_true (show a ≠ v from fun e => h (by rw [← e]; exact List.mem_cons_self))), ih (fun q => h (List.mem_cons_of_mem _ q))]
theorem sp_ren_all {ts : List Nat} {v : Nat} (h : v ∉ ts) : sp_ren ts v = (sp_vs ts).length := by unfold sp_ren; rw [sp_tw_all h]
theorem sp_ren_at {ts rest : List Nat} {v : Nat} (h : v ∉ ts) : sp_ren (ts ++ v :: rest) v = (sp_vs ts).length := by unfold sp_ren; rw [sp_tw_at h]
/-- a body's terms in their order -/
def sp_ft (its : List sp_I) : List Nat := its.flatMap (fun it => it.2.2)
theorem sp_ft_split {its : List sp_I} {i k : Nat} {it : sp_I} (h : its[i]? = some it) : sp_ft its = (sp_ft (its.take i) ++ it.2.2.take k) ++ (it.2.2.drop k ++ sp_ft (its.drop (i + 1))) := by
  have hi := (List.getElem?_eq_some_iff.mp h).1
  have e1 : its = its.take i ++ it :: its.drop (i + 1) := by
    have : its.drop i = it :: its.drop (i + 1) := by
      rw [List.drop_eq_getElem_cons hi]
      congr 1
      exact Option.some.inj ((List.getElem?_eq_getElem hi).symm.trans h)
    rw [← this, List.take_append_drop]
  have e2 : sp_ft its = sp_ft (its.take i) ++ (it.2.2 ++ sp_ft (its.drop (i + 1))) := by
    conv => lhs; rw [e1]
    unfold sp_ft
    rw [List.flatMap_append, List.flatMap_cons]
  rw [e2, List.append_assoc, ← List.append_assoc (it.2.2.take k), List.take_append_drop]
theorem sp_ft_take {its : List sp_I} {i : Nat} {it : sp_I} (h : its[i]? = some it) : sp_ft (its.take (i + 1)) = sp_ft (its.take i) ++ it.2.2 := by
  rw [List.take_succ, h]
  unfold sp_ft
  rw [List.flatMap_append]
  simp
/-- a term with its variable's number -/
def sp_tt (ts : List Nat) (t : Nat) : Nat := if t < 100 then t else 100 + sp_ren ts t
def sp_nit (ts : List Nat) (it : sp_I) : sp_I := (it.1, it.2.1, it.2.2.map (sp_tt ts))
def sp_nrm (its : List sp_I) : List sp_I := its.map (sp_nit (sp_ft its))
/-- how many are alike from the first on -/
def sp_lcp {α : Type} [DecidableEq α] : List α → List α → Nat
  | a :: l, b :: m => if a = b then 1 + sp_lcp l m else 0
  | _, _ => 0
def sp_bB (R D : List sp_C) (b : Nat) : Option sp_C := if b < 10 then R[b]? else D[b - 10]?
def sp_mx (B : Nat → Option sp_C) (C : sp_C) : Nat → Nat
  | 0 => 0
  | n + 1 => match B n with
    | none => sp_mx B C n
    | some E => Nat.max (sp_mx B C n) (sp_lcp (sp_nrm C.its) (sp_nrm E.its))
def sp_bgs (B : Nat → Option sp_C) : Nat → Nat
  | 0 => 0
  | n + 1 => match B n with
    | none => sp_bgs B n
    | some C => sp_bgs B n + (C.its.length - sp_mx B C n)
def o_beginnings (s : wS) : wA := (0, nI (sp_bgs (sp_bB s.w.R s.w.D) (10 + s.w.D.length)), s)
theorem sp_lcp_le {α : Type} [DecidableEq α] : ∀ {l m : List α}, sp_lcp l m ≤ l.length ∧ sp_lcp l m ≤ m.length := by
  intro l
  induction l with
  | nil => intro m; exact ⟨Nat.zero_le _, Nat.zero_le _⟩
  | cons a l ih =>
    intro m
    cases m with
    | nil => exact ⟨Nat.zero_le _, Nat.zero_le _⟩
    | cons b m =>
      show (if a = b then 1 + sp_lcp l m else 0) ≤ l.length + 1 ∧ (if a = b then 1 + sp_lcp l m else 0) ≤ m.length + 1
      have := ih (m := m)
      split <;> omega
/-- alike up to a place, and not there -/
theorem sp_lcp_spec {α : Type} [DecidableEq α] : ∀ {l m : List α} {n : Nat}, (∀ (i : Nat) (a : α), i < n → l[i]? = some a → m[i]? = some a) → n ≤ l.length → n ≤ m.length → (n = l.length ∨ n = m.length ∨ l[n]? ≠ m[n]?) → sp_lcp l m = n := by
  intro l
  induction l with
  | nil => intro m n h1 h2 h3 h4; have : n = 0 := Nat.le_zero.mp h2; rw [this]; rfl
  | cons a l ih =>
    intro m n h1 h2 h3 h4
    cases m with
    | nil => have : n = 0 := Nat.le_zero.mp h3; rw [this]; rfl
    | cons b m =>
      show (if a = b then 1 + sp_lcp l m else 0) = n
      cases n with
      | zero =>
        rw [if_neg]
        rcases h4 with h4 | h4 | h4
        · cases h4
        · cases h4
        · exact fun e => h4 (by show some a = some b; rw [e])
      | succ n =>
        have hab : a = b := by
          have := h1 0 a (Nat.succ_pos _) rfl
          exact (Option.some.inj this).symm
        rw [if_pos hab, ih (m := m) (n := n) (fun i x hi e => h1 (i + 1) x (by omega) e) (Nat.le_of_succ_le_succ h2) (Nat.le_of_succ_le_succ h3) ?_]
        · omega
        · rcases h4 with h4 | h4 | h4
          · exact Or.inl (Nat.succ.inj h4)
          · exact Or.inr (Or.inl (Nat.succ.inj h4))
          · exact Or.inr (Or.inr h4)
theorem sp_mx_le {B : Nat → Option sp_C} {C : sp_C} : ∀ {n : Nat}, sp_mx B C n ≤ C.its.length := by
  intro n
  induction n with
  | zero => exact Nat.zero_le _
  | succ n ih =>
    show (match B n with | none => sp_mx B C n | some E => Nat.max (sp_mx B C n) (sp_lcp (sp_nrm C.its) (sp_nrm E.its))) ≤ _
    cases B n with
    | none => exact ih
    | some E =>
      show Nat.max (sp_mx B C n) (sp_lcp (sp_nrm C.its) (sp_nrm E.its)) ≤ _
      refine Nat.max_le.mpr ⟨ih, ?_⟩
      have := (sp_lcp_le (l := sp_nrm C.its) (m := sp_nrm E.its)).1
      unfold sp_nrm at this
      rw [List.length_map] at this
      exact this
theorem sp_ren_lt {ts : List Nat} {v : Nat} : sp_ren ts v ≤ ts.length := by
  have h1 : ∀ ts : List Nat, (sp_vs ts).length ≤ ts.length := by
    refine sp_snoc_ind (P := fun ts => (sp_vs ts).length ≤ ts.length) (Nat.le_refl _) (fun l x ih => ?_)
    rw [sp_vs_snoc, List.length_append]
    split
    · rw [List.length_append]; exact Nat.add_le_add_right ih 1
    · exact Nat.le_trans ih (Nat.le_add_right _ _)
  exact Nat.le_trans (h1 _) (List.takeWhile_sublist _).length_le
