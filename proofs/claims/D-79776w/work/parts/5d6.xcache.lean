/-! WHAT THE START SAYS: the cached Integers -/
set_option maxRecDepth 100000
theorem rv_va_T {G : rv_G} {k n t : Nat} {f : Nat → Value} {x : vp_A} (h : va_T (rv_aty k) t n f (fun q => rv_b G ≤ q) G.2.1 G.2.1.heap) (hx : x.1 = n) (hv : ∀ j, j < n → (vp_cell 0 x).slots[j]? = some (f j)) : rv_old G t (.inl (k, x)) := by
  obtain ⟨cell, h1, h2, h3, h4, h5, h6, h7⟩ := h
  refine ⟨Nat.not_le.mp h7, cell, h1, ?_, h3, h2, by rw [hx]; exact h4, by rw [hx]; exact h5, fun j hj => ?_⟩
  · have h9 := h2.1
    cases e : cell.vm <;> first | rfl | exact absurd e (h9 _)
  · have hj' : j < n := by rw [← hx]; exact hj
    rw [h6 j hj', hv j hj']
def rv_ic : Term := .static "java/lang/Integer$IntegerCache" "cache" "[Ljava/lang/Integer;"
/-- the cache: its array, its Integers -/
theorem rv_cache {G : rv_G} (hG : rv_GK G) : ∃ (ca : Nat) (ad : Nat → Nat), va_Z "java/lang/Integer$IntegerCache" "cache" "[Ljava/lang/Integer;" (.ref ca) (fun q => rv_b G ≤ q) G.2.1 G.2.1.heap ∧ rv_old G ca (.inl (6, 256, .inr (.inr (.inr (.inr (fun j => some (ad j))))))) ∧ ∀ j, j < 256 → rv_old G (ad j) (.inr (20, [.int (Int32.ofNat j - 128)])) := by
  have hU := hG.2.2.2 20 _ rv_c20
  obtain ⟨a0, h0, h1⟩ := rv_nar hG
  have hA : ∀ a : Nat, a < G.2.1.heap.size → ¬ rv_b G ≤ a := fun a ha => Nat.not_le.mpr ha
  have hlen : (Term.length rv_ic).eval a0 G.2.1 none [] G.2.1 = some (.int (Int32.ofNat 256)) := va_eqt (show (Cond.eq (.length rv_ic) (.int 256)).before a0 G.2.1 = true from h1 (nw_p [0, 0, 0, 1, 0, 0, 1, 0, 0, 0, 1, 1]))
  have harr : (Cond.arrayOf rv_ic (rv_aty 6)).before a0 G.2.1 = true := h1 (nw_p [0, 0, 0, 1, 0, 0, 1, 0, 0, 0, 1, 0])
  have hall := h1 (nw_p [0, 0, 0, 1, 0, 0, 1, 0, 0, 1, 0])
  obtain ⟨ad, hC, hel⟩ := vb_Cof (st := rv_ic) rfl hlen hall hA
  obtain ⟨t, ht, hT⟩ := va_Tof (f := fun j => .ref (ad j)) (by decide) harr hlen hel hA
  refine ⟨t, ad, va_Zof (h0 _ q615) (h0 _ (lw_all_tbl q146)) ht hA, rv_va_T hT rfl (fun j hj => ?_), fun j hj => ?_⟩
  · show (arrV 0 256 (fun j => va_rf (some (ad j)))).slots[j]? = _
    rw [arrV_read _ _ hj]
    rfl
  · obtain ⟨cell, g1, g2, g3, g4⟩ := hC.1 j hj
    obtain ⟨cf, kf, fi, f, cell2, e1, e2, e3, e4, e5, e6⟩ := hC.2 j hj
    cases g1.symm.trans e3
    obtain ⟨hS, hfc, -⟩ := hU
    obtain ⟨cf2, kf2, fi2, f2, k1, k2⟩ := hS 0 (by decide)
    cases e1.symm.trans k1
    refine ⟨Nat.not_le.mp g4, cell, g1, Option.some.inj (g3.symm.trans hfc), g2, e4, fun k hk => ?_⟩
    have hk0 : k = 0 := by
      have : k < 1 := hk
      omega
    subst hk0
    show cell.slots[G.2.2.1.2 20 0]? = some (.int (vb_c j))
    rw [← k2]
    exact e5
