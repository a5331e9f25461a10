/-! THE REFERENCE: the best activation of a module -/
set_option maxRecDepth 100000
def sp_aheadB (C E : sp_C) (tag tagE : Nat) : Bool := decide (E.sal < C.sal) || (decide (C.sal = E.sal) && (decide (tagE < tag) || (decide (tag = tagE) && decide (E.its.length < C.its.length))))
theorem sp_aheadB_iff {C E : sp_C} {tag tagE : Nat} : sp_aheadB C E tag tagE = true ↔ sp_ahead C E tag tagE := by
  unfold sp_aheadB sp_ahead
  simp only [Bool.or_eq_true, Bool.and_eq_true, decide_eq_true_eq]
/-- the better of what was best and an activation -/
def sp_pick (Cs : List sp_C) (C : sp_C) (B : Option sp_Act) (a : sp_Act) : Option sp_Act := match B with
  | none => some a
  | some e => match Cs[e.1]? with
    | none => some e
    | some E => if sp_aheadB C E a.2.1 e.2.1 = true then some a else some e
/-- the activations of a deed that can fire -/
def sp_acts (F : List Nat) (tv : Nat → Nat) (D : List (Nat × Nat × Nat × Nat)) (i : Nat) (C : sp_C) (M : List sp_Q) : List sp_Act := (M.map (sp_act tv i C)).filter (fun a => decide ((C.num, a.2.2.2.1, a.2.2.2.2.1, a.2.2.2.2.2) ∉ D))
theorem sp_acts_snoc {F : List Nat} {tv : Nat → Nat} {D : List (Nat × Nat × Nat × Nat)} {i : Nat} {C : sp_C} {M : List sp_Q} {q : sp_Q} : sp_acts F tv D i C (M ++ [q]) = sp_acts F tv D i C M ++ (if (C.num, (sp_act tv i C q).2.2.2.1, (sp_act tv i C q).2.2.2.2.1, (sp_act tv i C q).2.2.2.2.2) ∉ D then [sp_act tv i C q] else []) := by
  unfold sp_acts
  rw [List.map_append, List.filter_append]
  congr 1
  by_cases h : (C.num, (sp_act tv i C q).2.2.2.1, (sp_act tv i C q).2.2.2.2.1, (sp_act tv i C q).2.2.2.2.2) ∉ D
  · rw [if_pos h]
    show List.filter _ [sp_act tv i C q] = _
    rw [List.filter_cons_of_pos (by simpa using h)]
    rfl
  · rw [if_neg h]
    show List.filter _ [sp_act tv i C q] = _
    rw [List.filter_cons_of_neg (by simpa using h)]
    rfl
