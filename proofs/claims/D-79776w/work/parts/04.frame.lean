/-! THE FRAME OF THIS PROOF: one judgement rv_V over a heap that is a function, with the run's constants in one tuple -/
set_option maxRecDepth 100000
/-- the run's constants: the launch, the state at the law's start, classes' numbers and slots, array classes -/
abbrev rv_G : Type := Launch × State × va_G × (Nat → ClassId)
/-- a cell: an array (its type's number, length and contents) or an object (its class's number, its fields) -/
abbrev rv_C : Type := (Nat × vp_A) ⊕ (Nat × List Value)
/-- a heap: cells, how many in all, how many slots were made since the start -/
abbrev rv_H : Type := (Nat → Option rv_C) × Nat × Nat
/-- how a call ends: with a value, or with an exception of a class -/
abbrev rv_O : Type := Option Value ⊕ String
abbrev rv_X : Type := rv_G × Program × Env × Room × State × MethodId × Array Value × List Frame × Method × Code × (State → Prop)
def rv_b (G : rv_G) : Nat := G.2.1.heap.size
def rv_at (G : rv_G) (a : Nat) (c : rv_C) (H : Heap) : Prop := match c with
  | .inl x => H[a]? = some (vp_cell (G.2.2.2 x.1) x.2)
  | .inr o => t_OB a (G.2.2.1.1 o.1) o.2.length (G.2.2.1.2 o.1) H (vp_V o.2)
def rv_sz (b : Nat) (H : Heap) : Nat := ((H.toList.drop b).map (·.slots.size)).sum
def rv_cN : Nat := 1200144
def rv_cS : Nat := 5495866
def rv_R (G : rv_G) (h : rv_H) (H : Heap) : Prop :=
  H.size = h.2.1 ∧ rv_b G ≤ H.size ∧ (∀ q : Nat, q < rv_b G → H[q]? = G.2.1.heap[q]?) ∧ (∀ (a : Nat) (c : rv_C), h.1 a = some c → rv_b G ≤ a ∧ rv_at G a c H) ∧ rv_sz (rv_b G) H = h.2.2 ∧ h.2.1 ≤ rv_b G + rv_cN ∧ h.2.2 ≤ rv_cS ∧ ∀ (a : Nat) (o : Nat × List Value), h.1 a = some (.inr o) → ∀ x : Cell, H[a]? = some x → x.monitor = {}
/-- the locals by a list -/
def rv_L (n : Nat) (ls : Array Slot) (L : List (Option Value)) : Prop := (ls.size = n ∧ L.length = n) ∧ lv_wf ls ∧ ∀ (i : Nat) (v : Value), L[i]? = some (some v) → ls[i]? = some (.val v)
def rv_V (X : rv_X) (h : rv_H) (pc : Nat) (L : List (Option Value)) (st : List Value) : Prop :=
  match X with
  | (G, p, e, R, s, m, args, below, meth, c, Q) => ∀ (H : Heap) (ls : Array Slot) (locs : List Loc), rv_R G h H → rv_L c.maxLocals ls L → (∀ z ∈ locs, rv_b G ≤ z.base) → W p G.1 e R s m args below meth c H locs R.cells R.slots Q (F0 m pc ls st)
/-- an exception of class E is thrown over the frame at pc -/
def rv_T (X : rv_X) (h : rv_H) (pc : Nat) (L : List (Option Value)) (E : String) : Prop :=
  match X with
  | (G, p, e, R, s, m, args, below, meth, c, Q) => ∀ (H : Heap) (ls : Array Slot) (locs : List Loc) (rest : List Value) (q : Nat) (ce : Cell), rv_R G h H → rv_L c.maxLocals ls L → (∀ z ∈ locs, rv_b G ≤ z.base) → H[q]? = some ce → ce.vm = .none → s.vm.findClass E = some ce.cls → vx_W p G.1 e R s m args below meth c H locs R.cells R.slots Q (F0 m pc ls rest) q
/-- the types of arrays, by number -/
def rv_aty (k : Nat) : FieldType := match k with
  | 0 => .int
  | 1 => .long
  | 2 => .boolean
  | 3 => .byte
  | 4 => .object "java/lang/Object"
  | 5 => .array .long
  | _ => .object "java/lang/Integer"
def rv_U (G : rv_G) (cl : List vw_C) : Prop := ∀ (k : Nat) (q : vw_C), cl[k]? = some q → u_Kn G.2.1 q.1 q.2.1 q.2.2 (G.2.2.1.1 k) (G.2.2.1.2 k)
/-- what is known of the start -/
def rv_GK (G : rv_G) : Prop := (∃ a0 : Array Value, (∀ w ∈ lw_tbl, w.before a0 G.2.1 = true) ∧ (Jvm.Cond.and given_1 narrow_1).before a0 G.2.1 = true) ∧ (∀ k, k < 6 → ArrOfT G.2.1 (G.2.2.2 k) (rv_aty k) ∧ va_RA G.2.1 (G.2.2.2 k) (rv_aty k)) ∧ G.1.stackTraces = false ∧ rv_U G rv_cl
def rv_rm (G : rv_G) (d : Nat) (h : rv_H) : Room := { frames := d, cells := rv_b G + rv_cN - h.2.1, slots := rv_cS - h.2.2, locals := 64 * d }
/-- the context of a walk: method y with code cc, depth d, table of handlers hh -/
def rv_K (X : rv_X) (y : MethodName) (cc : ByteArray) (d : Nat) : Prop :=
  match X with
  | (G, p, _, R, s, m, _, _, meth, c, _) => p.tables.exec = Jvm.exec ∧ c.code = cc ∧ s.vm.findClass y.cls = some m.cls ∧ meth.locks = false ∧ rv_GK G ∧ G.2.1.WarmedH s.vm ∧ (∃ hs, rv_R G hs s.heap ∧ R.cells + s.heap.size = rv_b G + rv_cN ∧ R.slots + rv_sz (rv_b G) s.heap = rv_cS) ∧ d ≤ R.frames ∧ 64 * d ≤ R.locals ∧ meth.name = y.name
/-- how a method's walk ends -/
def rv_E (X : rv_X) (ret : Option FieldType) (hh : List ExceptionTableEntry) (Q : rv_O → rv_H → Prop) : Prop :=
  match X with
  | (G, _, _, R, s, _, args, below, meth, c, Qw) => meth.sig.returnType = ret ∧ c.exceptionTable.toList = hh ∧ Qw = vx_MQ below (fun _ _ o t => ∃ (v : Option Value) (h' : rv_H), o = .returned v ∧ rv_R G h' t.heap ∧ Q (.inl v) h') (fun E _ t => ∃ h' : rv_H, rv_R G h' t.heap ∧ Q (.inr E) h') args s R.cells R.slots (fun q => rv_b G ≤ q)
/-- THE CONTRACT OF A CALL -/
def rv_Call (G : rv_G) (d : Nat) (y : MethodName) (cw : Cond) (as : List Value) (h : rv_H) (Q : rv_O → rv_H → Prop) : Prop :=
  vx_Met G.1 y [cw] (rv_rm G d h) (va_Pc as (fun U => G.2.1.WarmedH U.vm ∧ rv_R G h U.heap)) (fun _ _ o t => ∃ (v : Option Value) (h' : rv_H), o = .returned v ∧ rv_R G h' t.heap ∧ Q (.inl v) h') (fun E _ t => ∃ h' : rv_H, rv_R G h' t.heap ∧ Q (.inr E) h') (rv_rm G d h).cells (rv_rm G d h).slots (fun q => rv_b G ≤ q)
/-! words -/
theorem rv_words {X : rv_X} {y : MethodName} {cc : ByteArray} {d : Nat} (hX : rv_K X y cc d) {w : Cond} (hw : w ∈ lw_all) : w.before X.2.2.2.2.2.2.1 X.2.2.2.2.1 = true := by
  obtain ⟨G, p, e, R, s, m, args, below, meth, c, Qw⟩ := X
  obtain ⟨-, -, -, -, ⟨⟨a0, h0, -⟩, -⟩, hW, -⟩ := hX
  exact word_at hW (good_of_word (List.mem_filter.mp hw).2) (h0 w (List.mem_filter.mp hw).1)
theorem rv_wordU {G : rv_G} (hG : rv_GK G) {U : State} {a : Array Value} (hW : G.2.1.WarmedH U.vm) {w : Cond} (hw : w ∈ lw_all) : w.before a U = true := by
  obtain ⟨⟨a0, h0, -⟩, -⟩ := hG
  exact word_at hW (good_of_word (List.mem_filter.mp hw).2) (h0 w (List.mem_filter.mp hw).1)
/-! locals -/
def rv_n2 (x : Option Value) : Bool := match x with
  | some v => v.category == 1
  | none => true
def rv_st (L : List (Option Value)) (i : Nat) (v : Value) (L' : List (Option Value)) : Prop := L'.length = L.length ∧ i < L.length ∧ ∀ (j : Nat) (w : Value), L'[j]? = some (some w) → (j = i ∧ w = v) ∨ (L[j]? = some (some w) ∧ j ≠ i ∧ ¬ (j + 1 = i ∧ w.category = 2))
def rv_al (L : List (Option Value)) : List (Nat × Value) := (List.range L.length).filterMap (fun i => (L[i]?.getD none).map (fun v => (i, v)))
theorem rv_al_mem {L : List (Option Value)} {i : Nat} {v : Value} : (i, v) ∈ rv_al L ↔ L[i]? = some (some v) := by
  unfold rv_al
  rw [List.mem_filterMap]
  constructor
  · rintro ⟨j, -, h⟩
    cases hj : L[j]? with
    | none => rw [hj] at h; simp at h
    | some x =>
      rw [hj] at h
      cases x with
      | none => simp at h
      | some w =>
        simp only [Option.getD_some, Option.map_some, Option.some.injEq, Prod.mk.injEq] at h
        obtain ⟨rfl, rfl⟩ := h
        exact hj
  · intro h
    refine ⟨i, List.mem_range.mpr (List.getElem?_eq_some_iff.mp h).1, ?_⟩
    rw [h]
    rfl
theorem rv_L_has {n : Nat} {ls : Array Slot} {L : List (Option Value)} (h : rv_L n ls L) : lv_has ls L.length (rv_al L) := ⟨h.1.1.trans h.1.2.symm, h.2.1, fun q hq => h.2.2 q.1 q.2 (rv_al_mem.mp hq)⟩
theorem rv_L_st1 {n : Nat} {ls : Array Slot} {L L' : List (Option Value)} {i : Nat} {v : Value} (hm : L.length = n) (hS : rv_st L i v L') (h2 : lv_has ls L.length ((i, v) :: (rv_al L).filter (fun q => !(q.1 == i) && !(q.1 + 1 == i && q.2.category == 2)))) : rv_L n ls L' := by
  refine ⟨⟨h2.1.trans hm, hS.1.trans hm⟩, h2.2.1, fun j w hj => ?_⟩
  rcases hS.2.2 j w hj with ⟨rfl, rfl⟩ | ⟨h3, h4, h5⟩
  · exact h2.2.2 (j, w) List.mem_cons_self
  · refine h2.2.2 (j, w) (List.mem_cons_of_mem _ (List.mem_filter.mpr ⟨rv_al_mem.mpr h3, ?_⟩))
    simp only [Bool.and_eq_true, Bool.not_eq_true', beq_eq_false_iff_ne, ne_eq, Bool.and_eq_false_iff]
    refine ⟨h4, ?_⟩
    by_cases h6 : j + 1 = i
    · exact Or.inr (fun h7 => h5 ⟨h6, h7⟩)
    · exact Or.inl h6
theorem rv_L_st2 {n : Nat} {ls : Array Slot} {L L' : List (Option Value)} {i : Nat} {v : Value} (hm : L.length = n) (hS : rv_st L i v L') (hn : ∀ w, L'[i + 1]? ≠ some (some w)) (h2 : lv_has ls L.length ((i, v) :: (rv_al L).filter (fun q => !(q.1 == i) && (!(q.1 == i + 1) && !(q.1 + 1 == i && q.2.category == 2))))) : rv_L n ls L' := by
  refine ⟨⟨h2.1.trans hm, hS.1.trans hm⟩, h2.2.1, fun j w hj => ?_⟩
  rcases hS.2.2 j w hj with ⟨rfl, rfl⟩ | ⟨h3, h4, h5⟩
  · exact h2.2.2 (j, w) List.mem_cons_self
  · refine h2.2.2 (j, w) (List.mem_cons_of_mem _ (List.mem_filter.mpr ⟨rv_al_mem.mpr h3, ?_⟩))
    simp only [Bool.and_eq_true, Bool.not_eq_true', beq_eq_false_iff_ne, ne_eq, Bool.and_eq_false_iff]
    refine ⟨h4, ?_, ?_⟩
    · intro e
      subst e
      exact hn w hj
    · by_cases h6 : j + 1 = i
      · exact Or.inr (fun h7 => h5 ⟨h6, h7⟩)
      · exact Or.inl h6
theorem rv_st_gen {A T : List (Option Value)} {x : Option Value} {v : Value} (hA : ∀ B y, A = B ++ [y] → rv_n2 y = true) : rv_st (A ++ x :: T) A.length v (A ++ some v :: T) := by
  refine ⟨by simp, by simp, fun j w hj => ?_⟩
  by_cases h1 : j < A.length
  · rw [List.getElem?_append_left h1] at hj
    refine Or.inr ⟨by rw [List.getElem?_append_left h1]; exact hj, Nat.ne_of_lt h1, ?_⟩
    rintro ⟨h2, h3⟩
    have h4 : A = A.take j ++ [some w] := by
      have h5 : A.drop j = [some w] := by
        obtain ⟨h6, h7⟩ := List.getElem?_eq_some_iff.mp hj
        have h8 := List.drop_eq_getElem_cons h6
        rw [h8, h7, show j + 1 = A.length by omega, List.drop_length]
      rw [← h5, List.take_append_drop]
    have h9 := hA _ _ h4
    simp only [rv_n2, beq_iff_eq] at h9
    omega
  · by_cases h2 : j = A.length
    · subst h2
      rw [List.getElem?_append_right (Nat.le_refl _), Nat.sub_self] at hj
      simp only [List.getElem?_cons_zero, Option.some.injEq] at hj
      exact Or.inl ⟨rfl, hj.symm⟩
    · refine Or.inr ⟨?_, h2, fun h => by omega⟩
      rw [List.getElem?_append_right (by omega)] at hj ⊢
      obtain ⟨k, hk⟩ : ∃ k, j - A.length = k + 1 := ⟨j - A.length - 1, by omega⟩
      rw [hk] at hj ⊢
      exact hj
theorem rv_st_0 {x : Option Value} {T : List (Option Value)} {v : Value} : rv_st (x :: T) 0 v (some v :: T) := rv_st_gen (A := []) (fun B y h => absurd h (by simp))
theorem rv_st_1 {x0 x : Option Value} {T : List (Option Value)} {v : Value} (h2 : rv_n2 x0 = true) : rv_st (x0 :: x :: T) 1 v (x0 :: some v :: T) := rv_st_gen (A := [x0]) (fun B y h => by have h3 := congrArg List.getLast? h; simp at h3; rw [← h3]; exact h2)
theorem rv_st_2 {x0 x1 x : Option Value} {T : List (Option Value)} {v : Value} (h2 : rv_n2 x1 = true) : rv_st (x0 :: x1 :: x :: T) 2 v (x0 :: x1 :: some v :: T) := rv_st_gen (A := [x0, x1]) (fun B y h => by have h3 := congrArg List.getLast? h; simp at h3; rw [← h3]; exact h2)
theorem rv_st_3 {x0 x1 x2 x : Option Value} {T : List (Option Value)} {v : Value} (h2 : rv_n2 x2 = true) : rv_st (x0 :: x1 :: x2 :: x :: T) 3 v (x0 :: x1 :: x2 :: some v :: T) := rv_st_gen (A := [x0, x1, x2]) (fun B y h => by have h3 := congrArg List.getLast? h; simp at h3; rw [← h3]; exact h2)
theorem rv_st_4 {x0 x1 x2 x3 x : Option Value} {T : List (Option Value)} {v : Value} (h2 : rv_n2 x3 = true) : rv_st (x0 :: x1 :: x2 :: x3 :: x :: T) 4 v (x0 :: x1 :: x2 :: x3 :: some v :: T) := rv_st_gen (A := [x0, x1, x2, x3]) (fun B y h => by have h3 := congrArg List.getLast? h; simp at h3; rw [← h3]; exact h2)
theorem rv_st_5 {x0 x1 x2 x3 x4 x : Option Value} {T : List (Option Value)} {v : Value} (h2 : rv_n2 x4 = true) : rv_st (x0 :: x1 :: x2 :: x3 :: x4 :: x :: T) 5 v (x0 :: x1 :: x2 :: x3 :: x4 :: some v :: T) := rv_st_gen (A := [x0, x1, x2, x3, x4]) (fun B y h => by have h3 := congrArg List.getLast? h; simp at h3; rw [← h3]; exact h2)
theorem rv_st_6 {x0 x1 x2 x3 x4 x5 x : Option Value} {T : List (Option Value)} {v : Value} (h2 : rv_n2 x5 = true) : rv_st (x0 :: x1 :: x2 :: x3 :: x4 :: x5 :: x :: T) 6 v (x0 :: x1 :: x2 :: x3 :: x4 :: x5 :: some v :: T) := rv_st_gen (A := [x0, x1, x2, x3, x4, x5]) (fun B y h => by have h3 := congrArg List.getLast? h; simp at h3; rw [← h3]; exact h2)
theorem rv_st_7 {x0 x1 x2 x3 x4 x5 x6 x : Option Value} {T : List (Option Value)} {v : Value} (h2 : rv_n2 x6 = true) : rv_st (x0 :: x1 :: x2 :: x3 :: x4 :: x5 :: x6 :: x :: T) 7 v (x0 :: x1 :: x2 :: x3 :: x4 :: x5 :: x6 :: some v :: T) := rv_st_gen (A := [x0, x1, x2, x3, x4, x5, x6]) (fun B y h => by have h3 := congrArg List.getLast? h; simp at h3; rw [← h3]; exact h2)
theorem rv_st_8 {x0 x1 x2 x3 x4 x5 x6 x7 x : Option Value} {T : List (Option Value)} {v : Value} (h2 : rv_n2 x7 = true) : rv_st (x0 :: x1 :: x2 :: x3 :: x4 :: x5 :: x6 :: x7 :: x :: T) 8 v (x0 :: x1 :: x2 :: x3 :: x4 :: x5 :: x6 :: x7 :: some v :: T) := rv_st_gen (A := [x0, x1, x2, x3, x4, x5, x6, x7]) (fun B y h => by have h3 := congrArg List.getLast? h; simp at h3; rw [← h3]; exact h2)
theorem rv_st_9 {x0 x1 x2 x3 x4 x5 x6 x7 x8 x : Option Value} {T : List (Option Value)} {v : Value} (h2 : rv_n2 x8 = true) : rv_st (x0 :: x1 :: x2 :: x3 :: x4 :: x5 :: x6 :: x7 :: x8 :: x :: T) 9 v (x0 :: x1 :: x2 :: x3 :: x4 :: x5 :: x6 :: x7 :: x8 :: some v :: T) := rv_st_gen (A := [x0, x1, x2, x3, x4, x5, x6, x7, x8]) (fun B y h => by have h3 := congrArg List.getLast? h; simp at h3; rw [← h3]; exact h2)
theorem rv_st_10 {x0 x1 x2 x3 x4 x5 x6 x7 x8 x9 x : Option Value} {T : List (Option Value)} {v : Value} (h2 : rv_n2 x9 = true) : rv_st (x0 :: x1 :: x2 :: x3 :: x4 :: x5 :: x6 :: x7 :: x8 :: x9 :: x :: T) 10 v (x0 :: x1 :: x2 :: x3 :: x4 :: x5 :: x6 :: x7 :: x8 :: x9 :: some v :: T) := rv_st_gen (A := [x0, x1, x2, x3, x4, x5, x6, x7, x8, x9]) (fun B y h => by have h3 := congrArg List.getLast? h; simp at h3; rw [← h3]; exact h2)
theorem rv_st_11 {x0 x1 x2 x3 x4 x5 x6 x7 x8 x9 x10 x : Option Value} {T : List (Option Value)} {v : Value} (h2 : rv_n2 x10 = true) : rv_st (x0 :: x1 :: x2 :: x3 :: x4 :: x5 :: x6 :: x7 :: x8 :: x9 :: x10 :: x :: T) 11 v (x0 :: x1 :: x2 :: x3 :: x4 :: x5 :: x6 :: x7 :: x8 :: x9 :: x10 :: some v :: T) := rv_st_gen (A := [x0, x1, x2, x3, x4, x5, x6, x7, x8, x9, x10]) (fun B y h => by have h3 := congrArg List.getLast? h; simp at h3; rw [← h3]; exact h2)
theorem rv_st_12 {x0 x1 x2 x3 x4 x5 x6 x7 x8 x9 x10 x11 x : Option Value} {T : List (Option Value)} {v : Value} (h2 : rv_n2 x11 = true) : rv_st (x0 :: x1 :: x2 :: x3 :: x4 :: x5 :: x6 :: x7 :: x8 :: x9 :: x10 :: x11 :: x :: T) 12 v (x0 :: x1 :: x2 :: x3 :: x4 :: x5 :: x6 :: x7 :: x8 :: x9 :: x10 :: x11 :: some v :: T) := rv_st_gen (A := [x0, x1, x2, x3, x4, x5, x6, x7, x8, x9, x10, x11]) (fun B y h => by have h3 := congrArg List.getLast? h; simp at h3; rw [← h3]; exact h2)
theorem rv_st_13 {x0 x1 x2 x3 x4 x5 x6 x7 x8 x9 x10 x11 x12 x : Option Value} {T : List (Option Value)} {v : Value} (h2 : rv_n2 x12 = true) : rv_st (x0 :: x1 :: x2 :: x3 :: x4 :: x5 :: x6 :: x7 :: x8 :: x9 :: x10 :: x11 :: x12 :: x :: T) 13 v (x0 :: x1 :: x2 :: x3 :: x4 :: x5 :: x6 :: x7 :: x8 :: x9 :: x10 :: x11 :: x12 :: some v :: T) := rv_st_gen (A := [x0, x1, x2, x3, x4, x5, x6, x7, x8, x9, x10, x11, x12]) (fun B y h => by have h3 := congrArg List.getLast? h; simp at h3; rw [← h3]; exact h2)
theorem rv_st_14 {x0 x1 x2 x3 x4 x5 x6 x7 x8 x9 x10 x11 x12 x13 x : Option Value} {T : List (Option Value)} {v : Value} (h2 : rv_n2 x13 = true) : rv_st (x0 :: x1 :: x2 :: x3 :: x4 :: x5 :: x6 :: x7 :: x8 :: x9 :: x10 :: x11 :: x12 :: x13 :: x :: T) 14 v (x0 :: x1 :: x2 :: x3 :: x4 :: x5 :: x6 :: x7 :: x8 :: x9 :: x10 :: x11 :: x12 :: x13 :: some v :: T) := rv_st_gen (A := [x0, x1, x2, x3, x4, x5, x6, x7, x8, x9, x10, x11, x12, x13]) (fun B y h => by have h3 := congrArg List.getLast? h; simp at h3; rw [← h3]; exact h2)
theorem rv_st_15 {x0 x1 x2 x3 x4 x5 x6 x7 x8 x9 x10 x11 x12 x13 x14 x : Option Value} {T : List (Option Value)} {v : Value} (h2 : rv_n2 x14 = true) : rv_st (x0 :: x1 :: x2 :: x3 :: x4 :: x5 :: x6 :: x7 :: x8 :: x9 :: x10 :: x11 :: x12 :: x13 :: x14 :: x :: T) 15 v (x0 :: x1 :: x2 :: x3 :: x4 :: x5 :: x6 :: x7 :: x8 :: x9 :: x10 :: x11 :: x12 :: x13 :: x14 :: some v :: T) := rv_st_gen (A := [x0, x1, x2, x3, x4, x5, x6, x7, x8, x9, x10, x11, x12, x13, x14]) (fun B y h => by have h3 := congrArg List.getLast? h; simp at h3; rw [← h3]; exact h2)
theorem rv_st_16 {x0 x1 x2 x3 x4 x5 x6 x7 x8 x9 x10 x11 x12 x13 x14 x15 x : Option Value} {T : List (Option Value)} {v : Value} (h2 : rv_n2 x15 = true) : rv_st (x0 :: x1 :: x2 :: x3 :: x4 :: x5 :: x6 :: x7 :: x8 :: x9 :: x10 :: x11 :: x12 :: x13 :: x14 :: x15 :: x :: T) 16 v (x0 :: x1 :: x2 :: x3 :: x4 :: x5 :: x6 :: x7 :: x8 :: x9 :: x10 :: x11 :: x12 :: x13 :: x14 :: x15 :: some v :: T) := rv_st_gen (A := [x0, x1, x2, x3, x4, x5, x6, x7, x8, x9, x10, x11, x12, x13, x14, x15]) (fun B y h => by have h3 := congrArg List.getLast? h; simp at h3; rw [← h3]; exact h2)
theorem rv_st_17 {x0 x1 x2 x3 x4 x5 x6 x7 x8 x9 x10 x11 x12 x13 x14 x15 x16 x : Option Value} {T : List (Option Value)} {v : Value} (h2 : rv_n2 x16 = true) : rv_st (x0 :: x1 :: x2 :: x3 :: x4 :: x5 :: x6 :: x7 :: x8 :: x9 :: x10 :: x11 :: x12 :: x13 :: x14 :: x15 :: x16 :: x :: T) 17 v (x0 :: x1 :: x2 :: x3 :: x4 :: x5 :: x6 :: x7 :: x8 :: x9 :: x10 :: x11 :: x12 :: x13 :: x14 :: x15 :: x16 :: some v :: T) := rv_st_gen (A := [x0, x1, x2, x3, x4, x5, x6, x7, x8, x9, x10, x11, x12, x13, x14, x15, x16]) (fun B y h => by have h3 := congrArg List.getLast? h; simp at h3; rw [← h3]; exact h2)
theorem rv_st_18 {x0 x1 x2 x3 x4 x5 x6 x7 x8 x9 x10 x11 x12 x13 x14 x15 x16 x17 x : Option Value} {T : List (Option Value)} {v : Value} (h2 : rv_n2 x17 = true) : rv_st (x0 :: x1 :: x2 :: x3 :: x4 :: x5 :: x6 :: x7 :: x8 :: x9 :: x10 :: x11 :: x12 :: x13 :: x14 :: x15 :: x16 :: x17 :: x :: T) 18 v (x0 :: x1 :: x2 :: x3 :: x4 :: x5 :: x6 :: x7 :: x8 :: x9 :: x10 :: x11 :: x12 :: x13 :: x14 :: x15 :: x16 :: x17 :: some v :: T) := rv_st_gen (A := [x0, x1, x2, x3, x4, x5, x6, x7, x8, x9, x10, x11, x12, x13, x14, x15, x16, x17]) (fun B y h => by have h3 := congrArg List.getLast? h; simp at h3; rw [← h3]; exact h2)
theorem rv_st_19 {x0 x1 x2 x3 x4 x5 x6 x7 x8 x9 x10 x11 x12 x13 x14 x15 x16 x17 x18 x : Option Value} {T : List (Option Value)} {v : Value} (h2 : rv_n2 x18 = true) : rv_st (x0 :: x1 :: x2 :: x3 :: x4 :: x5 :: x6 :: x7 :: x8 :: x9 :: x10 :: x11 :: x12 :: x13 :: x14 :: x15 :: x16 :: x17 :: x18 :: x :: T) 19 v (x0 :: x1 :: x2 :: x3 :: x4 :: x5 :: x6 :: x7 :: x8 :: x9 :: x10 :: x11 :: x12 :: x13 :: x14 :: x15 :: x16 :: x17 :: x18 :: some v :: T) := rv_st_gen (A := [x0, x1, x2, x3, x4, x5, x6, x7, x8, x9, x10, x11, x12, x13, x14, x15, x16, x17, x18]) (fun B y h => by have h3 := congrArg List.getLast? h; simp at h3; rw [← h3]; exact h2)
theorem rv_st_20 {x0 x1 x2 x3 x4 x5 x6 x7 x8 x9 x10 x11 x12 x13 x14 x15 x16 x17 x18 x19 x : Option Value} {T : List (Option Value)} {v : Value} (h2 : rv_n2 x19 = true) : rv_st (x0 :: x1 :: x2 :: x3 :: x4 :: x5 :: x6 :: x7 :: x8 :: x9 :: x10 :: x11 :: x12 :: x13 :: x14 :: x15 :: x16 :: x17 :: x18 :: x19 :: x :: T) 20 v (x0 :: x1 :: x2 :: x3 :: x4 :: x5 :: x6 :: x7 :: x8 :: x9 :: x10 :: x11 :: x12 :: x13 :: x14 :: x15 :: x16 :: x17 :: x18 :: x19 :: some v :: T) := rv_st_gen (A := [x0, x1, x2, x3, x4, x5, x6, x7, x8, x9, x10, x11, x12, x13, x14, x15, x16, x17, x18, x19]) (fun B y h => by have h3 := congrArg List.getLast? h; simp at h3; rw [← h3]; exact h2)
theorem rv_st_21 {x0 x1 x2 x3 x4 x5 x6 x7 x8 x9 x10 x11 x12 x13 x14 x15 x16 x17 x18 x19 x20 x : Option Value} {T : List (Option Value)} {v : Value} (h2 : rv_n2 x20 = true) : rv_st (x0 :: x1 :: x2 :: x3 :: x4 :: x5 :: x6 :: x7 :: x8 :: x9 :: x10 :: x11 :: x12 :: x13 :: x14 :: x15 :: x16 :: x17 :: x18 :: x19 :: x20 :: x :: T) 21 v (x0 :: x1 :: x2 :: x3 :: x4 :: x5 :: x6 :: x7 :: x8 :: x9 :: x10 :: x11 :: x12 :: x13 :: x14 :: x15 :: x16 :: x17 :: x18 :: x19 :: x20 :: some v :: T) := rv_st_gen (A := [x0, x1, x2, x3, x4, x5, x6, x7, x8, x9, x10, x11, x12, x13, x14, x15, x16, x17, x18, x19, x20]) (fun B y h => by have h3 := congrArg List.getLast? h; simp at h3; rw [← h3]; exact h2)
theorem rv_st_22 {x0 x1 x2 x3 x4 x5 x6 x7 x8 x9 x10 x11 x12 x13 x14 x15 x16 x17 x18 x19 x20 x21 x : Option Value} {T : List (Option Value)} {v : Value} (h2 : rv_n2 x21 = true) : rv_st (x0 :: x1 :: x2 :: x3 :: x4 :: x5 :: x6 :: x7 :: x8 :: x9 :: x10 :: x11 :: x12 :: x13 :: x14 :: x15 :: x16 :: x17 :: x18 :: x19 :: x20 :: x21 :: x :: T) 22 v (x0 :: x1 :: x2 :: x3 :: x4 :: x5 :: x6 :: x7 :: x8 :: x9 :: x10 :: x11 :: x12 :: x13 :: x14 :: x15 :: x16 :: x17 :: x18 :: x19 :: x20 :: x21 :: some v :: T) := rv_st_gen (A := [x0, x1, x2, x3, x4, x5, x6, x7, x8, x9, x10, x11, x12, x13, x14, x15, x16, x17, x18, x19, x20, x21]) (fun B y h => by have h3 := congrArg List.getLast? h; simp at h3; rw [← h3]; exact h2)
theorem rv_st_23 {x0 x1 x2 x3 x4 x5 x6 x7 x8 x9 x10 x11 x12 x13 x14 x15 x16 x17 x18 x19 x20 x21 x22 x : Option Value} {T : List (Option Value)} {v : Value} (h2 : rv_n2 x22 = true) : rv_st (x0 :: x1 :: x2 :: x3 :: x4 :: x5 :: x6 :: x7 :: x8 :: x9 :: x10 :: x11 :: x12 :: x13 :: x14 :: x15 :: x16 :: x17 :: x18 :: x19 :: x20 :: x21 :: x22 :: x :: T) 23 v (x0 :: x1 :: x2 :: x3 :: x4 :: x5 :: x6 :: x7 :: x8 :: x9 :: x10 :: x11 :: x12 :: x13 :: x14 :: x15 :: x16 :: x17 :: x18 :: x19 :: x20 :: x21 :: x22 :: some v :: T) := rv_st_gen (A := [x0, x1, x2, x3, x4, x5, x6, x7, x8, x9, x10, x11, x12, x13, x14, x15, x16, x17, x18, x19, x20, x21, x22]) (fun B y h => by have h3 := congrArg List.getLast? h; simp at h3; rw [← h3]; exact h2)
theorem rv_st_24 {x0 x1 x2 x3 x4 x5 x6 x7 x8 x9 x10 x11 x12 x13 x14 x15 x16 x17 x18 x19 x20 x21 x22 x23 x : Option Value} {T : List (Option Value)} {v : Value} (h2 : rv_n2 x23 = true) : rv_st (x0 :: x1 :: x2 :: x3 :: x4 :: x5 :: x6 :: x7 :: x8 :: x9 :: x10 :: x11 :: x12 :: x13 :: x14 :: x15 :: x16 :: x17 :: x18 :: x19 :: x20 :: x21 :: x22 :: x23 :: x :: T) 24 v (x0 :: x1 :: x2 :: x3 :: x4 :: x5 :: x6 :: x7 :: x8 :: x9 :: x10 :: x11 :: x12 :: x13 :: x14 :: x15 :: x16 :: x17 :: x18 :: x19 :: x20 :: x21 :: x22 :: x23 :: some v :: T) := rv_st_gen (A := [x0, x1, x2, x3, x4, x5, x6, x7, x8, x9, x10, x11, x12, x13, x14, x15, x16, x17, x18, x19, x20, x21, x22, x23]) (fun B y h => by have h3 := congrArg List.getLast? h; simp at h3; rw [← h3]; exact h2)
theorem rv_st_25 {x0 x1 x2 x3 x4 x5 x6 x7 x8 x9 x10 x11 x12 x13 x14 x15 x16 x17 x18 x19 x20 x21 x22 x23 x24 x : Option Value} {T : List (Option Value)} {v : Value} (h2 : rv_n2 x24 = true) : rv_st (x0 :: x1 :: x2 :: x3 :: x4 :: x5 :: x6 :: x7 :: x8 :: x9 :: x10 :: x11 :: x12 :: x13 :: x14 :: x15 :: x16 :: x17 :: x18 :: x19 :: x20 :: x21 :: x22 :: x23 :: x24 :: x :: T) 25 v (x0 :: x1 :: x2 :: x3 :: x4 :: x5 :: x6 :: x7 :: x8 :: x9 :: x10 :: x11 :: x12 :: x13 :: x14 :: x15 :: x16 :: x17 :: x18 :: x19 :: x20 :: x21 :: x22 :: x23 :: x24 :: some v :: T) := rv_st_gen (A := [x0, x1, x2, x3, x4, x5, x6, x7, x8, x9, x10, x11, x12, x13, x14, x15, x16, x17, x18, x19, x20, x21, x22, x23, x24]) (fun B y h => by have h3 := congrArg List.getLast? h; simp at h3; rw [← h3]; exact h2)
