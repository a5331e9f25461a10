/-! THE CLASS OBJECT OF AN ARRAY OF OBJECTS -/
set_option maxRecDepth 100000
def rv_oan : String := "[Ljava/lang/Object;"
theorem rv_mir {G : rv_G} (hG : rv_GK G) : ∃ mir : Nat, ∀ (s : State) (args : Array Value), G.2.1.WarmedH s.vm → (Term.mirror rv_oan).eval args s none [] s = some (.ref mir) := by
  obtain ⟨a0, h0, h1⟩ := rv_nar hG
  have h2 := h1 (nw_p [0, 0, 1, 0, 0, 0, 1, 0, 1, 0])
  have e : nw_get narrow_1 (nw_p [0, 0, 1, 0, 0, 0, 1, 0, 1, 0]) = Cond.isRef (.mirror rv_oan) := rfl
  rw [e] at h2
  have h3 : ∃ v, (Term.mirror rv_oan).eval a0 G.2.1 none [] G.2.1 = some v := by
    cases hv : (Term.mirror rv_oan).eval a0 G.2.1 none [] G.2.1 with
    | none => simp [Cond.before, Cond.holds, Cond.value, hv] at h2
    | some v => exact ⟨v, rfl⟩
  obtain ⟨v, hv⟩ := h3
  obtain ⟨c, k, a, hc, hk, hm, rfl⟩ := Term.mirror_spec hv
  refine ⟨a, fun s args hW => ?_⟩
  obtain ⟨k', hk', hm', -⟩ := hW.mirror hk
  simp only [Term.eval, Option.bind_eq_bind, Option.pure_def, hW.alike.findClass, hc, Option.bind_some, hk', hm', hm]
/-- an array of objects, of just that class -/
def rv_isOA (G : rv_G) (h : rv_H) (a : Nat) : Prop := (∃ n f, h.1 a = some (cR n f)) ∨ (a < rv_b G ∧ ∃ cell : Cell, G.2.1.heap[a]? = some cell ∧ cell.vm.isStatics = false ∧ G.2.1.vm.findClass rv_oan = some cell.cls)
section MI
variable {X : rv_X} {y : MethodName} {cc : ByteArray} {d ix : Nat} {h : rv_H} {pc : Nat} {L : List (Option Value)} {st : List Value}
theorem rv_ldcMir (hX : rv_K X y cc d) {mir : Nat} (hm : ∀ (s : State) (args : Array Value), X.1.2.1.WarmedH s.vm → (Term.mirror rv_oan).eval args s none [] s = some (.ref mir)) (hl : (Cond.classLink y.cls ix rv_oan) ∈ lw_all) (dg : decode cc pc = .ok (.ldc ix, 2)) (kk : rv_V X h (pc + 2) L (.ref mir :: st)) : rv_V X h pc L st := by
  have hw := rv_words hX hl
  obtain ⟨G, p, e, R, s, m, args, below, meth, c, Qw⟩ := X
  obtain ⟨hx, hb, hown, hlk, hGK, hW, -⟩ := hX
  intro H ls locs hR hL hz T hT XS
  subst hT
  obtain ⟨vm', X', st1⟩ := XS.ldcMirror hx hown hw (hm s args hW) (g := F0 m pc ls st) rfl (by rw [hb]; exact dg)
  obtain ⟨t, a1, b1⟩ := kk _ ls locs hR hL hz (T.setVm vm') rfl X'
  exact ⟨t, st1 _ a1, b1⟩
theorem rv_getClassA (hX : rv_K X y cc d) {a mir : Nat} (hm : ∀ (s : State) (args : Array Value), X.1.2.1.WarmedH s.vm → (Term.mirror rv_oan).eval args s none [] s = some (.ref mir)) (ha : rv_isOA X.1 h a) (hl : (Cond.methodLink y.cls ix ⟨"java/lang/Object", "getClass", "()Ljava/lang/Class;"⟩) ∈ lw_all) (hd : 1 ≤ d) (hroom : (st.map fun v => v.category).sum ≤ 8) (dg : decode cc pc = .ok (.invokevirtual ix, 3)) (kk : rv_V X h (pc + 3) L (.ref mir :: st)) : rv_V X h pc L (.ref a :: st) := by
  have hw := rv_words hX hl
  have w1 := rv_words hX q651
  have w2 := rv_words hX q677
  have w3 := rv_words hX q650
  have w4 := rv_words hX q2822
  have hA := rv_aname (rv_A_at hX (k := 4) (by decide)).2
  obtain ⟨G, p, e, R, s, m, args, below, meth, c, Qw⟩ := X
  obtain ⟨hx, hb, hown, hlk, hGK, hW, hrs, hfr, hlo, -⟩ := hX
  intro H ls locs hR hL hz T hT XS
  subst hT
  obtain ⟨cell, hc1, hc2, hc3⟩ : ∃ cell : Cell, T.heap[a]? = some cell ∧ (∀ k, cell.vm ≠ .statics k) ∧ s.vm.findClass rv_oan = some cell.cls := by
    rcases ha with ⟨n, f, hg⟩ | ⟨h1, cell, h2, h3, h4⟩
    · have h2 := (hR.2.2.2.1 a _ hg).2
      exact ⟨_, h2, (fun k e => by cases e), hA⟩
    · exact ⟨cell, (hR.2.2.1 a h1).trans h2, (fun k e => by rw [e] at h3; cases h3), by rw [hW.alike.findClass]; exact h4⟩
  obtain ⟨vm', X', st1⟩ := XS.getClass hx hown hw w1 w2 w3 w4 hc1 hc2 hc3 (hm s args hW) (g := F0 m pc ls (.ref a :: st)) rfl hL.1.1 rfl (by rw [hb]; exact dg) (by omega) (by show 2 * 0 + (st.map fun v => v.category).sum + 14 ≤ R.locals; omega)
  obtain ⟨t, a1, b1⟩ := kk _ ls locs hR hL hz (T.setVm vm') rfl X'
  exact ⟨t, st1 _ a1, b1⟩
end MI
/-- if it is an array of references at all, then an Object[] -/
def xoa (G : rv_G) (a : Nat) : Prop := rv_b G ≤ a ∨ (a < rv_b G ∧ ∃ cell : Cell, G.2.1.heap[a]? = some cell ∧ cell.vm.isStatics = false ∧ G.2.1.vm.findClass rv_oan = some cell.cls)
theorem xoa.is {G : rv_G} {h : rv_H} {a n : Nat} {f : Nat → Option Nat} (ha : xoa G a) (hr : rv_rd G h a (cR n f)) : rv_isOA G h a := by
  rcases hr with ⟨-, hg⟩ | ho
  · exact Or.inl ⟨n, f, hg⟩
  · rcases ha with hb | hb
    · exact absurd ho.1 (Nat.not_lt.mpr hb)
    · exact Or.inr hb
theorem rv_emptyOA {G : rv_G} (hG : rv_GK G) {f : Nat} (hz : va_Z "java/util/ArrayList" "DEFAULTCAPACITY_EMPTY_ELEMENTDATA" "[Ljava/lang/Object;" (.ref f) (fun q => rv_b G ≤ q) G.2.1 G.2.1.heap) : xoa G f := by
  obtain ⟨a0, h0, h1⟩ := rv_nar hG
  have h2 : (Cond.exactly rv_tf rv_oan).before a0 G.2.1 = true := h1 (nw_p [0, 0, 0, 1, 0, 0, 0, 1, 1, 1, 0, 0])
  obtain ⟨a, c, cell, k, e1, e2, e3, -, e5, e6, -⟩ := Cond.exactly_spec (show (Cond.exactly rv_tf rv_oan).holds a0 G.2.1 none G.2.1 [] = true from h2)
  obtain ⟨cf, kf, fi, fd, a9, cell9, k1, k2, k3, k4, k5, k6, k7, -⟩ := hz
  have e9 : rv_tf.eval a0 G.2.1 none [] G.2.1 = some (.ref f) := by
    simp [rv_tf, Term.eval, State.fieldNamed?, k1, k2, k4, k5, k6, k7]
  have e10 : a = f := by
    rw [e9] at e1
    cases e1
    rfl
  subst e10
  exact Or.inr ⟨(Array.getElem?_eq_some_iff.mp e3).1, cell, e3, e5, by rw [e6]; exact e2⟩
