/-! THE PLAIN LAW, 4: what is gathered -/
set_option maxRecDepth 100000
/-- each once, in the order in which they come first -/
def sp_ddf (acc : List Nat) (x : Nat) : List Nat := if x ∈ acc then acc else acc ++ [x]
def sp_dd (l : List Nat) : List Nat := l.foldl sp_ddf []
theorem sp_dd_snoc (l : List Nat) (x : Nat) : sp_dd (l ++ [x]) = sp_ddf (sp_dd l) x := by
  unfold sp_dd
  rw [List.foldl_append]
  rfl
theorem sp_ddf_mem {l acc : List Nat} {x : Nat} : x ∈ l.foldl sp_ddf acc ↔ x ∈ acc ∨ x ∈ l := by
  induction l generalizing acc with
  | nil => simp
  | cons a l ih =>
    rw [List.foldl_cons, ih]
    unfold sp_ddf
    split
    · rename_i h
      constructor
      · rintro (g | g)
        · exact Or.inl g
        · exact Or.inr (List.mem_cons_of_mem _ g)
      · rintro (g | g)
        · exact Or.inl g
        · rcases List.mem_cons.mp g with rfl | g
          · exact Or.inl h
          · exact Or.inr g
    · simp only [List.mem_append, List.mem_cons, List.not_mem_nil, or_false]
      constructor
      · rintro ((g | g) | g)
        · exact Or.inl g
        · exact Or.inr (Or.inl g)
        · exact Or.inr (Or.inr g)
      · rintro (g | g | g)
        · exact Or.inl (Or.inl g)
        · exact Or.inl (Or.inr g)
        · exact Or.inr g
theorem sp_dd_mem {l : List Nat} {x : Nat} : x ∈ sp_dd l ↔ x ∈ l := by
  unfold sp_dd
  rw [sp_ddf_mem]
  simp
theorem sp_nd_snoc {l : List Nat} {x : Nat} (h : l.Nodup) (hx : x ∉ l) : (l ++ [x]).Nodup := by
  rw [List.nodup_append]
  refine ⟨h, by simp, fun a ha b hb => ?_⟩
  rw [List.mem_singleton] at hb
  subst hb
  intro e
  subst e
  exact hx ha
theorem sp_dd_nd (l : List Nat) : (sp_dd l).Nodup := by
  unfold sp_dd
  have : ∀ (l acc : List Nat), acc.Nodup → (l.foldl sp_ddf acc).Nodup := by
    intro l
    induction l with
    | nil => intro acc h; exact h
    | cons a l ih =>
      intro acc h
      rw [List.foldl_cons]
      refine ih _ ?_
      unfold sp_ddf
      split
      · exact h
      · rename_i g
        exact sp_nd_snoc h g
  exact this l [] (by simp)
theorem sp_nd_inj {l : List Nat} (h : l.Nodup) {i j x : Nat} (hi : l[i]? = some x) (hj : l[j]? = some x) : i = j := by
  have h1 := (List.getElem?_eq_some_iff.mp hi).1
  exact (List.getElem?_inj h1 h).mp (by rw [hi, hj])
/-- matches with a key -/
abbrev sp_Q : Type := List Nat × sp_V
def sp_key (C : sp_C) (q : sp_Q) : Nat := sp_hfact C q.2 0
def sp_grp (C : sp_C) (P : List sp_Q) (key : Nat) : List sp_Q := P.filter (fun q => sp_key C q == key)
def sp_keys (C : sp_C) (P : List sp_Q) : List Nat := sp_dd (P.map (sp_key C))
theorem sp_keys_snoc (C : sp_C) (P : List sp_Q) (q : sp_Q) : sp_keys C (P ++ [q]) = sp_ddf (sp_keys C P) (sp_key C q) := by
  unfold sp_keys
  rw [List.map_append]
  exact sp_dd_snoc _ _
theorem sp_grp_snoc_ne {C : sp_C} {P : List sp_Q} {q : sp_Q} {key : Nat} (h : sp_key C q ≠ key) : sp_grp C (P ++ [q]) key = sp_grp C P key := by
  unfold sp_grp
  rw [List.filter_append, List.filter_cons_of_neg (by simpa using h)]
  exact List.append_nil _
theorem sp_grp_snoc {C : sp_C} {P : List sp_Q} {q : sp_Q} : sp_grp C (P ++ [q]) (sp_key C q) = sp_grp C P (sp_key C q) ++ [q] := by
  unfold sp_grp
  rw [List.filter_append, List.filter_cons_of_pos (by simp)]
  rfl
theorem sp_grp_nil {C : sp_C} {P : List sp_Q} {key : Nat} (h : key ∉ sp_keys C P) : sp_grp C P key = [] := by
  unfold sp_grp
  rw [List.filter_eq_nil_iff]
  intro q hq e
  refine h (sp_dd_mem.mpr (List.mem_map.mpr ⟨q, hq, by simpa using e⟩))
theorem sp_grp_ne {C : sp_C} {P : List sp_Q} {key : Nat} (h : key ∈ sp_keys C P) : ∃ q, q ∈ sp_grp C P key := by
  obtain ⟨q, hq, e⟩ := List.mem_map.mp (sp_dd_mem.mp h)
  exact ⟨q, List.mem_filter.mpr ⟨hq, by simpa using e⟩⟩
/-- the values that came, the greatest depth, the facts of a group -/
def sp_hasv (x : Nat) (L : List sp_Q) (a : Nat) : Bool := L.any (fun q => q.2 x == some a)
def sp_gd (dep : Nat → Nat) (its : List sp_I) (L : List sp_Q) : Nat := L.foldl (fun m q => if m < sp_mxd dep (sp_atk its q.1) then sp_mxd dep (sp_atk its q.1) else m) 0
def sp_gf (its : List sp_I) (L : List sp_Q) (k : Nat) : Bool := L.any (fun q => decide (k ∈ sp_atk its q.1))
theorem sp_hasv_snoc (x : Nat) (L : List sp_Q) (q : sp_Q) (a : Nat) : sp_hasv x (L ++ [q]) a = (sp_hasv x L a || (q.2 x == some a)) := by
  unfold sp_hasv
  rw [List.any_append]
  simp
theorem sp_gf_snoc (its : List sp_I) (L : List sp_Q) (q : sp_Q) (k : Nat) : sp_gf its (L ++ [q]) k = (sp_gf its L k || decide (k ∈ sp_atk its q.1)) := by
  unfold sp_gf
  rw [List.any_append]
  simp
theorem sp_gd_snoc (dep : Nat → Nat) (its : List sp_I) (L : List sp_Q) (q : sp_Q) : sp_gd dep its (L ++ [q]) = if sp_gd dep its L < sp_mxd dep (sp_atk its q.1) then sp_mxd dep (sp_atk its q.1) else sp_gd dep its L := by
  unfold sp_gd
  rw [List.foldl_append]
  rfl
theorem sp_gd_le {dep : Nat → Nat} {its : List sp_I} {m : Nat} (h : ∀ k, dep k ≤ m) (L : List sp_Q) : sp_gd dep its L ≤ m := by
  unfold sp_gd
  have : ∀ (l : List sp_Q) (a : Nat), a ≤ m → l.foldl (fun m q => if m < sp_mxd dep (sp_atk its q.1) then sp_mxd dep (sp_atk its q.1) else m) a ≤ m := by
    intro l
    induction l with
    | nil => intro a h; exact h
    | cons x l ih =>
      intro a ha
      rw [List.foldl_cons]
      refine ih _ ?_
      split
      · exact sp_mxd_le h _
      · exact ha
  exact this L 0 (Nat.zero_le _)
/-- what is made of gathered values, of those below n -/
def sp_many (has : Nat → Bool) : Nat → Nat
  | 0 => 0
  | n + 1 => sp_many has n + (if has n = true then 1 else 0)
def sp_sumv (has : Nat → Bool) : Nat → Nat
  | 0 => 0
  | n + 1 => sp_sumv has n + (if has n = true then n else 0)
def sp_least (has : Nat → Bool) : Nat → Option Nat
  | 0 => none
  | n + 1 => match sp_least has n with
    | some a => some a
    | none => if has n = true then some n else none
def sp_great (has : Nat → Bool) : Nat → Nat
  | 0 => 0
  | n + 1 => if has n = true then n else sp_great has n
def sp_agg (kind : Nat) (has : Nat → Bool) : Nat := if kind = 0 then sp_many has 100 else if kind = 1 then sp_sumv has 100 else if kind = 2 then (sp_least has 100).getD 0 else sp_great has 100
theorem sp_many_le (has : Nat → Bool) (n : Nat) : sp_many has n ≤ n := by
  induction n with
  | zero => exact Nat.le_refl _
  | succ n ih => unfold sp_many; split <;> omega
theorem sp_sumv_le (has : Nat → Bool) (n : Nat) : sp_sumv has n ≤ 100 * n ∨ 100 < n := by
  induction n with
  | zero => exact Or.inl (Nat.le_refl _)
  | succ n ih => unfold sp_sumv; split <;> omega
theorem sp_great_le (has : Nat → Bool) (n : Nat) : sp_great has n ≤ n := by
  induction n with
  | zero => exact Nat.le_refl _
  | succ n ih => unfold sp_great; split <;> omega
theorem sp_least_lt {has : Nat → Bool} {n a : Nat} (h : sp_least has n = some a) : a < n := by
  induction n with
  | zero => cases h
  | succ n ih =>
    unfold sp_least at h
    cases e : sp_least has n with
    | some b =>
      rw [e] at h
      cases h
      have := ih e
      omega
    | none =>
      rw [e] at h
      have h' : (if has n = true then some n else none) = some a := h
      split at h'
      · cases h'; omega
      · cases h'
theorem sp_least_some {has : Nat → Bool} {n a : Nat} (h : has a = true) (ha : a < n) : ∃ b, sp_least has n = some b := by
  induction n with
  | zero => omega
  | succ n ih =>
    unfold sp_least
    cases e : sp_least has n with
    | some b => exact ⟨b, rfl⟩
    | none =>
      by_cases q : a = n
      · subst q
        exact ⟨a, by show (if has a = true then some a else none) = _; rw [if_pos h]⟩
      · obtain ⟨b, hb⟩ := ih (by omega)
        rw [e] at hb
        cases hb
