/-! THE PLAIN LAW, 1: matches of a body, in the order in which both programs find them -/
set_option maxRecDepth 100000
/-- values of variables -/
abbrev sp_V : Type := Nat → Option Nat
/-- an item: its kind (0 ATOM, 1 NOT, 2 TEST, 3 PLUS), its relation or kind of test, its terms -/
abbrev sp_I : Type := Nat × Nat × List Nat
def sp_val (v : sp_V) (t : Nat) : Option Nat := if t < 100 then some t else v (t - 100)
def sp_up (v : sp_V) (x a : Nat) : sp_V := fun i => if i = x then some a else v i
def sp_bind (v : sp_V) (t a : Nat) : Option sp_V := match sp_val v t with
  | none => some (sp_up v (t - 100) a)
  | some b => if b = a then some v else none
def sp_slot (f s : Nat) : Nat := if s = 0 then f / 10000 % 100 else if s = 1 then f / 100 % 100 else f % 100
def sp_wt (s : Nat) : Nat := if s = 0 then 10000 else if s = 1 then 100 else 1
def sp_binds (v : sp_V) (f : Nat) : List Nat → Nat → Option sp_V
  | [], _ => some v
  | t :: ts, s => (sp_bind v t (sp_slot f s)).bind (fun w => sp_binds w f ts (s + 1))
def sp_sum (v : sp_V) : List Nat → Nat → Nat
  | [], _ => 0
  | t :: ts, s => sp_wt s * (sp_val v t).getD 0 + sp_sum v ts (s + 1)
/-- the fact of a relation and terms -/
def sp_num (v : sp_V) (w : Nat) (ts : List Nat) : Nat := 1000000 * w + sp_sum v ts 0
def sp_get (v : sp_V) (ts : List Nat) (k : Nat) : Nat := (sp_val v (ts.getD k 0)).getD 0
def sp_test (w a b : Nat) : Bool := if w = 0 then decide (a = b) else if w = 1 then decide (a ≠ b) else decide (a < b)
/-- the ways in which an item can be matched: the place of the fact (0 for none), the values then -/
def sp_alt (F : List Nat) (al : Nat → Bool) (it : sp_I) (v : sp_V) : List (Nat × sp_V) :=
  if it.1 = 0 then (List.range F.length).filterMap (fun k => if al k = true ∧ F.getD k 0 / 1000000 = it.2.1 then (sp_binds v (F.getD k 0) it.2.2 0).map (fun w => (k, w)) else none)
  else if it.1 = 1 then (if sp_num v it.2.1 it.2.2 ∈ F then [] else [(0, v)])
  else if it.1 = 2 then (if sp_test it.2.1 (sp_get v it.2.2 0) (sp_get v it.2.2 1) = true then [(0, v)] else [])
  else if sp_get v it.2.2 0 + sp_get v it.2.2 1 < 100 then ((sp_bind v (it.2.2.getD 2 0) (sp_get v it.2.2 0 + sp_get v it.2.2 1)).map (fun w => (0, w))).toList else []
/-- all matches of items: the places, an item each, and the values -/
def sp_mat (F : List Nat) (al : Nat → Nat → Bool) : Nat → List sp_I → sp_V → List (List Nat × sp_V)
  | _, [], v => [([], v)]
  | a, it :: its, v => (sp_alt F (al a) it v).flatMap (fun p => (sp_mat F al (if it.1 = 0 then a + 1 else a) its p.2).map (fun q => (p.1 :: q.1, q.2)))
def sp_any : Nat → Nat → Bool := fun _ _ => true
abbrev sp_m (F : List Nat) (its : List sp_I) (v : sp_V) : List (List Nat × sp_V) := sp_mat F sp_any 0 its v
/-- how many items can be matched at the most -/
def sp_reach (F : List Nat) : List sp_I → sp_V → Nat
  | [], _ => 0
  | it :: its, v => (sp_alt F (fun _ => true) it v).foldr (fun p n => Nat.max (1 + sp_reach F its p.2) n) 0
theorem sp_mat_any (F : List Nat) (its : List sp_I) : ∀ (a b : Nat) (v : sp_V), sp_mat F sp_any a its v = sp_mat F sp_any b its v := by
  induction its with
  | nil => intro a b v; rfl
  | cons it its ih =>
    intro a b v
    show (sp_alt F (sp_any a) it v).flatMap _ = (sp_alt F (sp_any b) it v).flatMap _
    congr 1
    funext p
    congr 1
    exact ih _ _ _
theorem sp_m_cons (F : List Nat) (it : sp_I) (its : List sp_I) (v : sp_V) : sp_m F (it :: its) v = (sp_alt F (fun _ => true) it v).flatMap (fun p => (sp_m F its p.2).map (fun q => (p.1 :: q.1, q.2))) := by
  show (sp_alt F (sp_any 0) it v).flatMap _ = _
  congr 1
  funext p
  congr 1
  exact sp_mat_any _ _ _ _ _
/-! going back and forth: what comes behind the tried place of an item -/
def sp_aft (F : List Nat) (it : sp_I) (v : sp_V) (t : Nat) : List (Nat × sp_V) := if it.1 = 0 then (sp_alt F (fun _ => true) it v).filter (fun q => decide (t < q.1)) else []
def sp_left (F : List Nat) (it : sp_I) (v : sp_V) (t : Option Nat) : List (Nat × sp_V) := match t with
  | none => sp_alt F (fun _ => true) it v
  | some k => sp_aft F it v k
/-- an ATOM's ways from a place on -/
def sp_from (F : List Nat) (it : sp_I) (v : sp_V) (k : Nat) : List (Nat × sp_V) := (List.range' k (F.length - k)).filterMap (fun k => if F.getD k 0 / 1000000 = it.2.1 then (sp_binds v (F.getD k 0) it.2.2 0).map (fun w => (k, w)) else none)
theorem sp_from_0 {F : List Nat} {it : sp_I} {v : sp_V} (h : it.1 = 0) : sp_alt F (fun _ => true) it v = sp_from F it v 0 := by
  unfold sp_alt sp_from
  rw [if_pos h, List.range_eq_range']
  simp
theorem sp_from_end {F : List Nat} {it : sp_I} {v : sp_V} {k : Nat} (h : F.length ≤ k) : sp_from F it v k = [] := by
  unfold sp_from
  rw [show F.length - k = 0 by omega]
  rfl
theorem sp_from_step {F : List Nat} {it : sp_I} {v : sp_V} {k : Nat} (h : k < F.length) : sp_from F it v k = (if F.getD k 0 / 1000000 = it.2.1 then (sp_binds v (F.getD k 0) it.2.2 0).map (fun w => (k, w)) else none).toList ++ sp_from F it v (k + 1) := by
  unfold sp_from
  rw [show F.length - k = (F.length - (k + 1)) + 1 by omega, List.range'_succ, List.filterMap_cons]
  split
  · rename_i e
    rw [e]
    rfl
  · rename_i b e
    rw [e]
    rfl
theorem sp_from_ge {F : List Nat} {it : sp_I} {v : sp_V} {k : Nat} {q : Nat × sp_V} (h : q ∈ sp_from F it v k) : k ≤ q.1 := by
  unfold sp_from at h
  rw [List.mem_filterMap] at h
  obtain ⟨j, hj, h⟩ := h
  rw [List.mem_range'_1] at hj
  split at h
  · cases hb : sp_binds v (F.getD j 0) it.2.2 0 with
    | none => rw [hb] at h; cases h
    | some w =>
      rw [hb] at h
      simp only [Option.map_some, Option.some.injEq] at h
      rw [← h]
      exact hj.1
  · cases h
theorem sp_aft_from {F : List Nat} {it : sp_I} {v : sp_V} (h : it.1 = 0) (t : Nat) : sp_aft F it v t = sp_from F it v (t + 1) := by
  unfold sp_aft
  rw [if_pos h, sp_from_0 h]
  have key : ∀ n k, k + n = t + 1 → (sp_from F it v k).filter (fun q => decide (t < q.1)) = sp_from F it v (t + 1) := by
    intro n
    induction n with
    | zero =>
      intro k hk
      rw [show k = t + 1 by omega]
      exact List.filter_eq_self.mpr (fun q hq => decide_eq_true (by have := sp_from_ge hq; omega))
    | succ n ih =>
      intro k hk
      by_cases hl : k < F.length
      · rw [sp_from_step hl, List.filter_append, ih (k + 1) (by omega)]
        split
        · cases hb : sp_binds v (F.getD k 0) it.2.2 0 with
          | none => rfl
          | some w =>
            simp only [Option.map_some, Option.toList_some]
            rw [List.filter_cons_of_neg (by simp; omega)]
            rfl
        · rfl
      · rw [sp_from_end (by omega), sp_from_end (by omega)]
        rfl
  exact key (t + 1) 0 (by omega)
/-- behind the first of what is left comes what is left behind it -/
theorem sp_left_cons {F : List Nat} {it : sp_I} {v : sp_V} {t : Option Nat} {q : Nat × sp_V} {A : List (Nat × sp_V)} (h : sp_left F it v t = q :: A) : A = sp_aft F it v q.1 := by
  have hfrom : ∀ n k, F.length - k < n → ∀ q A, sp_from F it v k = q :: A → it.1 = 0 → A = sp_from F it v (q.1 + 1) := by
    intro n
    induction n with
    | zero => intro k h; omega
    | succ n ih =>
      intro k hn q A hq h0
      by_cases hl : k < F.length
      · rw [sp_from_step hl] at hq
        split at hq
        · cases hb : sp_binds v (F.getD k 0) it.2.2 0 with
          | none =>
            rw [hb] at hq
            exact ih (k + 1) (by omega) q A hq h0
          | some w =>
            rw [hb] at hq
            simp only [Option.map_some, Option.toList_some, List.cons_append, List.nil_append, List.cons.injEq] at hq
            obtain ⟨rfl, rfl⟩ := hq
            rfl
        · exact ih (k + 1) (by omega) q A hq h0
      · rw [sp_from_end (by omega)] at hq
        cases hq
  by_cases h0 : it.1 = 0
  · rw [sp_aft_from h0]
    cases t with
    | none =>
      have h' : sp_from F it v 0 = q :: A := by rw [← sp_from_0 h0]; exact h
      exact hfrom _ 0 (Nat.lt_succ_self _) q A h' h0
    | some k =>
      have h' : sp_from F it v (k + 1) = q :: A := by rw [← sp_aft_from h0]; exact h
      exact hfrom _ (k + 1) (Nat.lt_succ_self _) q A h' h0
  · unfold sp_aft
    rw [if_neg h0]
    cases t with
    | none =>
      have h' : sp_alt F (fun _ => true) it v = q :: A := h
      unfold sp_alt at h'
      rw [if_neg h0] at h'
      split at h'
      · split at h'
        · cases h'
        · cases h'; rfl
      · split at h'
        · split at h'
          · cases h'; rfl
          · cases h'
        · split at h'
          · cases hb : sp_bind v (it.2.2.getD 2 0) (sp_get v it.2.2 0 + sp_get v it.2.2 1) with
            | none => rw [hb] at h'; cases h'
            | some w =>
              rw [hb] at h'
              cases h'
              rfl
          · cases h'
    | some k =>
      have h' : sp_aft F it v k = q :: A := h
      unfold sp_aft at h'
      rw [if_neg h0] at h'
      cases h'
/-- matches that begin so: the places ahead, the ways at this item, the items behind -/
def sp_exp (F : List Nat) (its : List sp_I) (ks : List Nat) (A : List (Nat × sp_V)) : List (List Nat × sp_V) := A.flatMap (fun p => (sp_m F its p.2).map (fun q => (ks ++ p.1 :: q.1, q.2)))
theorem sp_exp_nil {F : List Nat} {its : List sp_I} {ks : List Nat} : sp_exp F its ks [] = [] := rfl
theorem sp_exp_cons {F : List Nat} {its : List sp_I} {ks : List Nat} {p : Nat × sp_V} {A : List (Nat × sp_V)} : sp_exp F its ks (p :: A) = (sp_m F its p.2).map (fun q => (ks ++ p.1 :: q.1, q.2)) ++ sp_exp F its ks A := by
  unfold sp_exp
  rw [List.flatMap_cons]
theorem sp_exp_step {F : List Nat} {it : sp_I} {its : List sp_I} {ks : List Nat} {p : Nat × sp_V} : (sp_m F (it :: its) p.2).map (fun q => (ks ++ p.1 :: q.1, q.2)) = sp_exp F its (ks ++ [p.1]) (sp_alt F (fun _ => true) it p.2) := by
  rw [sp_m_cons]
  unfold sp_exp
  rw [List.map_flatMap]
  congr 1
  funext a
  rw [List.map_map]
  congr 1
  funext q
  simp
/-- what is left of levels n - 1 .. 0: their items, values ahead of each, places -/
def sp_rest (F : List Nat) (its : List sp_I) (v : Nat → sp_V) (ks : List Nat) : Nat → List (List Nat × sp_V)
  | 0 => []
  | n + 1 => sp_exp F (its.drop (n + 1)) (ks.take n) (sp_aft F (its.getD n (0, 0, [])) (v n) (ks.getD n 0)) ++ sp_rest F its v ks n
theorem sp_rest_congr {F : List Nat} {its : List sp_I} {v w : Nat → sp_V} {ks js : List Nat} : ∀ {n : Nat}, (∀ i, i < n → v i = w i) → (∀ i, i < n → ks[i]? = js[i]?) → sp_rest F its v ks n = sp_rest F its w js n := by
  intro n
  induction n with
  | zero => intro _ _; rfl
  | succ n ih =>
    intro h1 h2
    have e1 : ks.take n = js.take n := by
      apply List.ext_getElem?
      intro i
      rw [List.getElem?_take, List.getElem?_take]
      split
      · exact h2 i (by omega)
      · rfl
    have e2 : ks.getD n 0 = js.getD n 0 := by rw [List.getD_eq_getElem?_getD, List.getD_eq_getElem?_getD, h2 n (by omega)]
    show sp_exp _ _ _ _ ++ _ = sp_exp _ _ _ _ ++ _
    rw [ih (fun i hi => h1 i (by omega)) (fun i hi => h2 i (by omega)), e1, e2, h1 n (by omega)]
