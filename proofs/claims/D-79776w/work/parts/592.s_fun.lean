/-! THE PLAIN LAW, 8: places and reasons as functions -/
set_option maxRecDepth 100000
theorem sp_fi {α : Type} {l : List α} {p : α → Bool} {x : Option Nat} (hu : ∀ (i j : Nat) (a b : α), l[i]? = some a → l[j]? = some b → p a = true → p b = true → i = j) (h : (x = none ∧ ∀ (i : Nat) (a : α), l[i]? = some a → p a = false) ∨ ∃ (i : Nat) (a : α), x = some i ∧ l[i]? = some a ∧ p a = true) : x = l.findIdx? p := by
  rcases h with ⟨rfl, h⟩ | ⟨i, a, rfl, h1, h2⟩
  · symm
    rw [List.findIdx?_eq_none_iff]
    intro a ha
    obtain ⟨i, hi⟩ := List.getElem?_of_mem ha
    exact h i a hi
  · symm
    rw [List.findIdx?_eq_some_iff_getElem]
    obtain ⟨hl, e⟩ := List.getElem?_eq_some_iff.mp h1
    refine ⟨hl, by rw [e]; exact h2, fun j hj hp => ?_⟩
    have := hu j i _ _ (List.getElem?_eq_getElem (by omega)) h1 hp h2
    omega
theorem sp_fi_some {α : Type} {l : List α} {p : α → Bool} {i : Nat} (h : l.findIdx? p = some i) : ∃ a, l[i]? = some a ∧ p a = true := by
  obtain ⟨h1, h2, -⟩ := List.findIdx?_eq_some_iff_getElem.mp h
  exact ⟨l[i], List.getElem?_eq_getElem h1, h2⟩
theorem sp_fi_none {α : Type} {l : List α} {p : α → Bool} (h : l.findIdx? p = none) : ∀ a, a ∈ l → p a = false := List.findIdx?_eq_none_iff.mp h
theorem sp_nd_map {α : Type} {f : α → Nat} {l : List α} (h : (l.map f).Nodup) {i j : Nat} {a b : α} (hi : l[i]? = some a) (hj : l[j]? = some b) (e : f a = f b) : i = j := sp_nd_inj h (x := f a) (by rw [List.getElem?_map, hi]; rfl) (by rw [List.getElem?_map, hj, e]; rfl)
/-- where a fact is told -/
def sp_at (T : List (Nat × Nat)) (f : Nat) : Option Nat := T.findIdx? (fun p => p.1 == f)
theorem sp_tAt.fn {T : List (Nat × Nat)} (h : (T.map (fun p => p.1)).Nodup) {f : Nat} {x : Option Nat} (hx : sp_tAt T f x) : x = sp_at T f := by
  refine sp_fi (fun i j a b hi hj ha hb => sp_nd_map h hi hj ((beq_iff_eq.mp ha).trans (beq_iff_eq.mp hb).symm)) ?_
  rcases hx with ⟨h1, h2⟩ | ⟨k, p, h1, h2, h3⟩
  · exact Or.inl ⟨h1, fun i a hi => by rw [beq_eq_false_iff_ne]; exact h2 i a hi⟩
  · exact Or.inr ⟨k, p, h1, h2, by rw [h3]; exact beq_self_eq_true _⟩
theorem sp_at_mem {T : List (Nat × Nat)} {f : Nat} : sp_at T f = none ↔ f ∉ T.map (fun p => p.1) := by
  unfold sp_at
  rw [List.findIdx?_eq_none_iff]
  constructor
  · intro h hm
    obtain ⟨p, hp, e⟩ := List.mem_map.mp hm
    have := h p hp
    rw [e, beq_self_eq_true] at this
    cases this
  · intro h p hp
    rw [beq_eq_false_iff_ne]
    exact fun e => h (List.mem_map.mpr ⟨p, hp, e⟩)
theorem sp_at_some {T : List (Nat × Nat)} {f k : Nat} (h : sp_at T f = some k) : ∃ e, T[k]? = some (f, e) := by
  obtain ⟨a, h1, h2⟩ := sp_fi_some h
  refine ⟨a.2, ?_⟩
  rw [h1, ← beq_iff_eq.mp h2]
/-- a fact is told until an end -/
def sp_tellF (T : List (Nat × Nat)) (f e : Nat) : List (Nat × Nat) := match sp_at T f with
  | none => T ++ [(f, e)]
  | some k => if e = 0 ∨ (0 < (T.getD k (0, 0)).2 ∧ (T.getD k (0, 0)).2 < e) then T.set k (f, e) else T
theorem sp_tell.fn {T T' : List (Nat × Nat)} (h : (T.map (fun p => p.1)).Nodup) {f e : Nat} (hx : sp_tell T f e T') : T' = sp_tellF T f e := by
  unfold sp_tellF
  rcases hx with ⟨h1, h2⟩ | ⟨k, p, h1, h2, h3⟩
  · rw [← sp_tAt.fn h (x := none) (Or.inl ⟨rfl, h1⟩)]
    exact h2
  · rw [← sp_tAt.fn h (x := some k) (Or.inr ⟨k, p, rfl, h1, h2⟩)]
    have : T.getD k (0, 0) = p := by rw [List.getD_eq_getElem?_getD, h1]; rfl
    show _ = if e = 0 ∨ (0 < (T.getD k (0, 0)).2 ∧ (T.getD k (0, 0)).2 < e) then T.set k (f, e) else T
    rw [this]
    exact h3
/-- the place of a rule or a deed -/
def sp_find (Cs : List sp_C) (num : Int32) : Option Nat := Cs.findIdx? (fun C => decide (nI C.num = num))
theorem sp_plc.fn {Cs : List sp_C} (h : (Cs.map (fun C => C.num)).Nodup) (hb : ∀ C, C ∈ Cs → C.num < 100) {num : Int32} {x : Option Nat} (hx : sp_plc Cs num x) : x = sp_find Cs num := by
  refine sp_fi (fun i j a b hi hj ha hb2 => sp_nd_map h hi hj ?_) ?_
  · have := (of_decide_eq_true ha).trans (of_decide_eq_true hb2).symm
    exact (nI_eq (by have := hb a (List.mem_of_getElem? hi); omega) (by have := hb b (List.mem_of_getElem? hj); omega)).mp this
  · rcases hx with ⟨h1, h2⟩ | ⟨k, p, h1, h2, h3⟩
    · exact Or.inl ⟨h1, fun i a hi => decide_eq_false (h2 a (List.mem_of_getElem? hi))⟩
    · exact Or.inr ⟨k, p, h1, h2, decide_eq_true h3⟩
/-- the place of a fact -/
def sp_ix (F : List Nat) (f : Nat) : Option Nat := F.findIdx? (fun x => x == f)
theorem sp_ix_some {F : List Nat} (h : sp_srt F) {f k : Nat} (hk : F[k]? = some f) : sp_ix F f = some k := by
  symm
  refine sp_fi (fun i j a b hi hj ha hb => ?_) (Or.inr ⟨k, f, rfl, hk, beq_self_eq_true _⟩)
  have e1 := beq_iff_eq.mp ha
  have e2 := beq_iff_eq.mp hb
  subst e1
  subst e2
  exact sp_nd_inj (sp_srt_nd h) hi hj
theorem sp_ix_none {F : List Nat} {f : Nat} (h : f ∉ F) : sp_ix F f = none := by
  unfold sp_ix
  rw [List.findIdx?_eq_none_iff]
  intro x hx
  rw [beq_eq_false_iff_ne]
  exact fun e => h (e ▸ hx)
theorem sp_ix_get {F : List Nat} {f k : Nat} (h : sp_ix F f = some k) : F[k]? = some f := by
  obtain ⟨a, h1, h2⟩ := sp_fi_some h
  rw [h1, beq_iff_eq.mp h2]
/-! depths alike: the same reasons -/
theorem sp_mxd_congr {a b : Nat → Nat} {l : List Nat} (h : ∀ k, k ∈ l → a k = b k) : sp_mxd a l = sp_mxd b l := by
  unfold sp_mxd
  have : ∀ (l : List Nat) (m : Nat), (∀ k, k ∈ l → a k = b k) → l.foldl (fun m k => if m < a k then a k else m) m = l.foldl (fun m k => if m < b k then b k else m) m := by
    intro l
    induction l with
    | nil => intro m _; rfl
    | cons x l ih =>
      intro m hx
      rw [List.foldl_cons, List.foldl_cons, hx x List.mem_cons_self]
      exact ih _ (fun k hk => hx k (List.mem_cons_of_mem _ hk))
  exact this l 0 h
theorem sp_gd_congr {a b : Nat → Nat} {its : List sp_I} {L : List sp_Q} (h : ∀ q, q ∈ L → ∀ k, k ∈ sp_atk its q.1 → a k = b k) : sp_gd a its L = sp_gd b its L := by
  unfold sp_gd
  have : ∀ (L : List sp_Q) (m : Nat), (∀ q, q ∈ L → ∀ k, k ∈ sp_atk its q.1 → a k = b k) → L.foldl (fun m q => if m < sp_mxd a (sp_atk its q.1) then sp_mxd a (sp_atk its q.1) else m) m = L.foldl (fun m q => if m < sp_mxd b (sp_atk its q.1) then sp_mxd b (sp_atk its q.1) else m) m := by
    intro L
    induction L with
    | nil => intro m _; rfl
    | cons x L ih =>
      intro m hx
      rw [List.foldl_cons, List.foldl_cons, sp_mxd_congr (hx x List.mem_cons_self)]
      exact ih _ (fun k hk => hx k (List.mem_cons_of_mem _ hk))
  exact this L 0 h
theorem sp_find_congr {α : Type} {p q : α → Bool} {l : List α} (h : ∀ x, x ∈ l → p x = q x) : l.find? p = l.find? q := by
  induction l with
  | nil => rfl
  | cons x l ih =>
    rw [List.find?_cons, List.find?_cons, h x List.mem_cons_self, ih (fun y hy => h y (List.mem_cons_of_mem _ hy))]
theorem sp_why1_congr {F : List Nat} {C : sp_C} {a b : Nat → Nat} {f dp : Nat} (h : ∀ i, i < F.length → a i = b i) : sp_why1 F C a f dp = sp_why1 F C b f dp := by
  unfold sp_why1
  split
  · congr 1
    refine sp_find_congr (fun q hq => ?_)
    unfold sp_w1
    rw [sp_mxd_congr (fun k hk => h k (sp_m_ks hq k hk))]
  · congr 1
    refine sp_find_congr (fun key hk => ?_)
    unfold sp_w2
    rw [sp_gd_congr (a := a) (b := b) (its := C.its) (L := sp_grp C (sp_m F C.its (fun _ => none)) key) (fun q hq k hk => h k (sp_m_ks (List.mem_filter.mp hq).1 k hk))]
noncomputable def sp_dep (R : List sp_C) (F T : List Nat) (i : Nat) : Nat := sp_dpt R F T (F.getD i 0)
noncomputable def sp_why (R : List sp_C) (F T : List Nat) (f : Nat) (C : sp_C) : Option (List Nat) := sp_why1 F C (sp_dep R F T) f (sp_dpt R F T f)
/-- the reasons of a fact: the place of the rule, the facts -/
noncomputable def sp_rsnF (R : List sp_C) (F T : List Nat) (f : Nat) : Option Nat × List Nat :=
  if f ∈ F ∧ f ∉ T then (match R.findIdx? (fun C => (sp_why R F T f C).isSome) with
    | none => (none, [])
    | some j => (some j, ((R[j]?).bind (sp_why R F T f)).getD [])) else (none, [])
theorem sp_rsn.fn {R : List sp_C} {F : List Nat} {T : List (Nat × Nat)} {f : Nat} {x : Option Nat} {L : List Nat} (hF : sp_srt F) (h60 : F.length ≤ 60) (hD : ∀ f, f ∈ F → ∃ n, sp_D R F (T.map (fun p => p.1)) n f) (h : sp_rsn R F T f x L) : (x, L) = sp_rsnF R F (T.map (fun p => p.1)) f := by
  unfold sp_rsnF
  rcases h with ⟨h1, rfl, rfl⟩ | ⟨h1, k, dep, h2, h3, h4, h5⟩
  · rw [if_neg (fun q => h1.elim (fun a => a q.1) (fun a => q.2 a))]
  · have hfF := List.mem_of_getElem? h2
    rw [if_pos ⟨hfF, h1⟩]
    have hdep : ∀ i, i < F.length → dep i = sp_dep R F (T.map (fun p => p.1)) i := fun i hi => by
      have e : F[i]? = some (F.getD i 0) := by rw [List.getD_eq_getElem?_getD, List.getElem?_eq_getElem hi]; rfl
      exact sp_isd_dpt h3 hF h60 e (hD _ (List.mem_of_getElem? e))
    have hk := sp_isd_dpt h3 hF h60 h2 (hD f hfF)
    have hw : ∀ C, sp_why1 F C dep f (dep k) = sp_why R F (T.map (fun p => p.1)) f C := fun C => by
      unfold sp_why
      rw [hk]
      exact sp_why1_congr hdep
    rcases h5 with ⟨j, rfl, C, h6, h7, h8⟩ | ⟨rfl, rfl, h6⟩
    · have e : R.findIdx? (fun C => (sp_why R F (T.map (fun p => p.1)) f C).isSome) = some j := by
        rw [List.findIdx?_eq_some_iff_getElem]
        obtain ⟨hl, e⟩ := List.getElem?_eq_some_iff.mp h6
        refine ⟨hl, by rw [e, ← hw, h7]; rfl, fun i hi hp => ?_⟩
        have := h8 i _ hi (List.getElem?_eq_getElem (by omega))
        rw [hw] at this
        rw [this] at hp
        cases hp
      rw [e]
      show _ = (some j, ((R[j]?).bind (sp_why R F (T.map (fun p => p.1)) f)).getD [])
      rw [h6]
      show _ = (some j, (sp_why R F (T.map (fun p => p.1)) f C).getD [])
      rw [← hw, h7]
      rfl
    · have e : R.findIdx? (fun C => (sp_why R F (T.map (fun p => p.1)) f C).isSome) = none := by
        rw [List.findIdx?_eq_none_iff]
        intro C hC
        rw [← hw, h6 C hC]
        rfl
      rw [e]
