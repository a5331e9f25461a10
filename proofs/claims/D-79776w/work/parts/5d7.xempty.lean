/-! WHAT THE START SAYS: ArrayList's two empty arrays -/
set_option maxRecDepth 100000
def rv_te : Term := .static "java/util/ArrayList" "EMPTY_ELEMENTDATA" "[Ljava/lang/Object;"
def rv_tf : Term := .static "java/util/ArrayList" "DEFAULTCAPACITY_EMPTY_ELEMENTDATA" "[Ljava/lang/Object;"
theorem rv_empties {G : rv_G} (hG : rv_GK G) : ∃ e f : Nat, va_Z "java/util/ArrayList" "EMPTY_ELEMENTDATA" "[Ljava/lang/Object;" (.ref e) (fun q => rv_b G ≤ q) G.2.1 G.2.1.heap ∧ va_Z "java/util/ArrayList" "DEFAULTCAPACITY_EMPTY_ELEMENTDATA" "[Ljava/lang/Object;" (.ref f) (fun q => rv_b G ≤ q) G.2.1 G.2.1.heap ∧ rv_old G e (.inl (4, 0, .inr (.inr (.inr (.inr (fun _ => none)))))) ∧ rv_old G f (.inl (4, 0, .inr (.inr (.inr (.inr (fun _ => none)))))) ∧ e ≠ f := by
  obtain ⟨a0, h0, h1⟩ := rv_nar hG
  have hA : ∀ a : Nat, a < G.2.1.heap.size → ¬ rv_b G ≤ a := fun a ha => Nat.not_le.mpr ha
  have l1 : (Term.length rv_te).eval a0 G.2.1 none [] G.2.1 = some (.int (Int32.ofNat 0)) := va_eqt (show (Cond.eq (.length rv_te) (.int 0)).before a0 G.2.1 = true from h1 (nw_p [0, 0, 0, 0, 0, 0, 0, 0, 0, 1, 1, 1]))
  have r1 : (Cond.arrayOf rv_te (rv_aty 4)).before a0 G.2.1 = true := h1 (nw_p [0, 0, 0, 0, 0, 0, 0, 0, 0, 1, 0])
  have l2 : (Term.length rv_tf).eval a0 G.2.1 none [] G.2.1 = some (.int (Int32.ofNat 0)) := va_eqt (show (Cond.eq (.length rv_tf) (.int 0)).before a0 G.2.1 = true from h1 (nw_p [0, 0, 0, 1, 0, 0, 0, 1, 1, 1, 0, 1]))
  have r2 : (Cond.arrayOf rv_tf (rv_aty 4)).before a0 G.2.1 = true := h1 (nw_p [0, 0, 0, 1, 0, 0, 0, 1, 1, 0, 1, 1])
  have hne : (Cond.not (.eq rv_te rv_tf)).before a0 G.2.1 = true := h1 (nw_p [0, 0, 0, 1, 0, 0, 0, 1, 1, 1, 1, 0])
  obtain ⟨e, he, hTe⟩ := va_Tof (f := fun _ => .null) (by decide) r1 l1 (fun j hj => absurd hj (Nat.not_lt_zero _)) hA
  obtain ⟨f, hf, hTf⟩ := va_Tof (f := fun _ => .null) (by decide) r2 l2 (fun j hj => absurd hj (Nat.not_lt_zero _)) hA
  refine ⟨e, f, va_Zof (h0 _ q194) (h0 _ (lw_all_tbl q128)) he hA, va_Zof (h0 _ q553) (h0 _ (lw_all_tbl q128)) hf hA, rv_va_T hTe rfl (fun j hj => absurd hj (Nat.not_lt_zero _)), rv_va_T hTf rfl (fun j hj => absurd hj (Nat.not_lt_zero _)), fun hef => ?_⟩
  subst hef
  simp [Cond.before, Cond.holds, Cond.value, he, hf] at hne
