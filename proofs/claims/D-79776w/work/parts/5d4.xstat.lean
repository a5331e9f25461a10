/-! STATIC FIELDS, AND WHAT THE START SAYS -/
set_option maxRecDepth 100000
theorem rv_gets {X : rv_X} {y : MethodName} {cc : ByteArray} {d ix : Nat} (hX : rv_K X y cc d) {h : rv_H} {pc : Nat} {L : List (Option Value)} {st : List Value} {C n ds : String} {v : Value} (hl : (Cond.fieldLink y.cls ix C n ds) ∈ lw_all) (hz : va_Z C n ds v (fun q => rv_b X.1 ≤ q) X.1.2.1 X.1.2.1.heap) (dg : decode cc pc = .ok (.getstatic ix, 3)) (kk : rv_V X h (pc + 3) L (v :: st)) : rv_V X h pc L st := by
  have hw := rv_words hX hl
  obtain ⟨G, p, e, R, s, m, args, below, meth, c, Qw⟩ := X
  obtain ⟨hexec, hbc, hown, hlk, hGK, hW, -⟩ := hX
  intro H ls locs hR hL hz9
  obtain ⟨cf, kf, fi, f, a, cell, h1, h2, h3, h4, h5, h6, h7, h8⟩ := va_Z.moved hW.alike hz
  exact W.gets hexec hbc hown hw h1 h2 h3 h4 (by rw [hR.2.2.1 a (Nat.not_le.mp h8)]; exact h5) (fun e => by rw [e] at h6; cases h6) h7 rfl dg (kk H ls locs hR hL hz9)
/-- a word inside a conjunction, by its path -/
def nw_get : Cond → List Bool → Cond
  | .and a b, x :: p => if x then nw_get b p else nw_get a p
  | c, _ => c
theorem nw_get_ok {A : Array Value} {s : State} : ∀ {p : List Bool} {c : Cond}, c.before A s = true → (nw_get c p).before A s = true := by
  intro p
  induction p with
  | nil => intro c h; cases c <;> exact h
  | cons x p ih =>
    intro c h
    cases c with
    | and a b =>
      rw [Cond.before_and, Bool.and_eq_true] at h
      show (if x then nw_get b p else nw_get a p).before A s = true
      cases x with
      | true => exact ih h.2
      | false => exact ih h.1
    | _ => exact h
theorem rv_nar {G : rv_G} (hG : rv_GK G) : ∃ a0 : Array Value, (∀ w ∈ lw_tbl, w.before a0 G.2.1 = true) ∧ ∀ p, (nw_get narrow_1 p).before a0 G.2.1 = true := by
  obtain ⟨⟨a0, h0, h1⟩, -⟩ := hG
  rw [Cond.before_and, Bool.and_eq_true] at h1
  exact ⟨a0, h0, fun p => nw_get_ok h1.2⟩
def nw_p (s : List Nat) : List Bool := s.map (fun x => x == 1)
theorem rv_st_i {G : rv_G} (hG : rv_GK G) {C n ds : String} {z : Int32} (p : List Bool) (hp : nw_get narrow_1 p = Cond.eq (.static C n ds) (.int z)) (hl : (Cond.laysStatic C n ds) ∈ lw_tbl) (hi : (Cond.initialized C) ∈ lw_tbl) : va_Z C n ds (.int z) (fun q => rv_b G ≤ q) G.2.1 G.2.1.heap := by
  obtain ⟨a0, h0, h1⟩ := rv_nar hG
  have h2 := h1 p
  rw [hp] at h2
  exact va_Zof (h0 _ hl) (h0 _ hi) (va_eqi h2) (fun a ha => Nat.not_le.mpr ha)
theorem rv_st_high {G : rv_G} (hG : rv_GK G) : va_Z "java/lang/Integer$IntegerCache" "high" "I" (.int 127) (fun q => rv_b G ≤ q) G.2.1 G.2.1.heap := rv_st_i hG (nw_p [0, 0, 0, 1, 0, 0, 0, 1, 1, 1, 1, 1]) rfl q613 (lw_all_tbl q146)
