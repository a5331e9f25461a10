/-! FRAMES ON THE SYSTEM'S SIDE -/
set_option maxRecDepth 100000
/-- a walk may take it that every cell lies between the base and the end -/
theorem rv_lt {X : rv_X} {h : rv_H} {pc : Nat} {L : List (Option Value)} {st : List Value} (k : (∀ (a : Nat) (c : rv_C), h.1 a = some c → rv_b X.1 ≤ a ∧ a < h.2.1) → rv_V X h pc L st) : rv_V X h pc L st := by
  obtain ⟨G, p, e, R, s, m, args, below, meth, c, Qw⟩ := X
  intro H ls locs hR hL hz
  refine k (fun a c e => ⟨(hR.2.2.2.1 a c e).1, ?_⟩) H ls locs hR hL hz
  have := rv_at_lt (hR.2.2.2.1 a c e).2
  rw [hR.1] at this
  exact this
/-- what a call leaves: old cells outside M, so many cells and slots more at the most -/
def rv_fr (h h' : rv_H) (M : Nat → Prop) (c s : Nat) : Prop := (h.2.1 ≤ h'.2.1 ∧ h'.2.1 ≤ h.2.1 + c) ∧ h'.2.2 ≤ h.2.2 + s ∧ ∀ b, b < h.2.1 → ¬ M b → h'.1 b = h.1 b
theorem rv_fr.rf {h : rv_H} {M : Nat → Prop} {c s : Nat} : rv_fr h h M c s := ⟨⟨Nat.le_refl _, Nat.le_add_right _ _⟩, Nat.le_add_right _ _, fun _ _ _ => rfl⟩
theorem rv_fr.tr {h h1 h2 : rv_H} {M M1 M2 : Nat → Prop} {c c1 c2 s s1 s2 : Nat} (f1 : rv_fr h h1 M1 c1 s1) (f2 : rv_fr h1 h2 M2 c2 s2) (hc : c1 + c2 ≤ c) (hs : s1 + s2 ≤ s) (hM1 : ∀ b, b < h.2.1 → M1 b → M b) (hM2 : ∀ b, b < h.2.1 → M2 b → M b) : rv_fr h h2 M c s := by
  obtain ⟨⟨a1, a2⟩, a3, a4⟩ := f1
  obtain ⟨⟨b1, b2⟩, b3, b4⟩ := f2
  refine ⟨⟨by omega, by omega⟩, by omega, fun b hb hn => ?_⟩
  rw [b4 b (by omega) (fun q => hn (hM2 b hb q)), a4 b hb (fun q => hn (hM1 b hb q))]
theorem rv_fr.mn {h h1 : rv_H} {M M1 : Nat → Prop} {c c1 s s1 : Nat} (f : rv_fr h h1 M1 c1 s1) (hc : c1 ≤ c) (hs : s1 ≤ s) (hM : ∀ b, b < h.2.1 → M1 b → M b) : rv_fr h h1 M c s := ⟨⟨f.1.1, by have := f.1.2; omega⟩, by have := f.2.1; omega, fun b hb hn => f.2.2 b hb (fun q => hn (hM b hb q))⟩
theorem rv_fr.put {h : rv_H} {a : Nat} {x : rv_C} {M : Nat → Prop} (ha : M a) : rv_fr h (rv_put h a x) M 0 0 := ⟨⟨Nat.le_refl _, Nat.le_refl _⟩, Nat.le_refl _, fun b _ hn => rv_put_ne (fun e => hn (e ▸ ha))⟩
theorem rv_fr.add {h : rv_H} {x : rv_C} {n : Nat} {M : Nat → Prop} : rv_fr h (rv_add h x n) M 1 n := ⟨⟨Nat.le_succ _, Nat.le_refl _⟩, Nat.le_refl _, fun b hb _ => if_neg (Nat.ne_of_lt hb)⟩
/-- reads of frozen cells survive -/
theorem rv_rd.fr {G : rv_G} {h h' : rv_H} {M : Nat → Prop} {c s b : Nat} {x : rv_C} (f : rv_fr h h' M c s) (hr : rv_rd G h b x) (hb : ¬ M b) (hl : rv_k6 x ∧ h.1 b = some x → b < h.2.1) : rv_rd G h' b x := by
  rcases hr with hk | ho
  · exact Or.inl ⟨hk.1, (f.2.2 b (hl hk) hb).trans hk.2⟩
  · exact Or.inr ho
