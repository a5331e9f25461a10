/-! ROWS: System.arraycopy -/
set_option maxRecDepth 100000
section XC
variable {X : rv_X} {y : MethodName} {cc : ByteArray} {d ix : Nat} {h : rv_H} {pc : Nat} {L : List (Option Value)} {st : List Value}
/-- what can lie in an array of objects -/
def rv_el (G : rv_G) (h : rv_H) (v : Nat) : Prop := ∃ C : String, (Cond.castable C "java/lang/Object") ∈ lw_tbl ∧ ((∃ (ci N : Nat) (vs : List Value) (T : u_T), rv_rd G h v (.inr (ci, vs)) ∧ rv_cl[ci]? = some (C, T, N)) ∨ ∃ c0, h.1 v = some c0 ∧ rv_cn c0 C)
theorem rv_el_at (hX : rv_K X y cc d) {H : Heap} {v : Nat} (hR : rv_R X.1 h H) (hv : rv_el X.1 h v) : ∃ (C : String) (cv : Cell), (Cond.castable C "java/lang/Object").before X.2.2.2.2.2.2.1 X.2.2.2.2.1 = true ∧ H[v]? = some cv ∧ cv.vm.isStatics = false ∧ X.2.2.2.2.1.vm.findClass C = some cv.cls := by
  obtain ⟨C, hq, hv⟩ := hv
  have hw := rv_castW hX hq
  rcases hv with ⟨ci, N, vs, T, h1, hc⟩ | ⟨c0, h1, h2⟩
  · have hU := rv_U_at hX hc
    obtain ⟨G, p, e, R, s, m, args, below, meth, c, Qw⟩ := X
    obtain ⟨cell, q1, q2, q3, -⟩ := rv_rd.at hX.2.2.2.2.1 hR h1
    exact ⟨C, cell, hw, q1, q3, by rw [q2]; exact hU.2.1⟩
  · obtain ⟨cv, g1, g2, g3⟩ := rv_cn_at hX (H := H) h2 (hR.2.2.2.1 v _ h1).2
    exact ⟨C, cv, hw, g1, by rw [g2]; rfl, g3⟩
theorem rv_aastO (hX : rv_K X y cc d) {a n v : Nat} {f : Nat → Option Nat} {i : Int32} (hg : h.1 a = some (.inl (4, n, .inr (.inr (.inr (.inr f)))))) (hv : rv_el X.1 h v) (hin : vp_in i n) (dg : decode cc pc = .ok (.aastore, 1)) (kk : rv_V X (rv_put h a (.inl (4, n, .inr (.inr (.inr (.inr (va_up f i.toNatClampNeg (some v)))))))) (pc + 1) L st) : rv_V X h pc L (.ref v :: .int i :: .ref a :: st) := by
  have hA := rv_A_at hX (k := 4) (by decide)
  have hN := fun H (q : rv_R X.1 h H) => rv_el_at hX q hv
  obtain ⟨G, p, e, R, s, m, args, below, meth, c, Qw⟩ := X
  intro H ls locs hR hL hz
  have hlt : i.toNatClampNeg < n := Nat.not_le.mp fun q => hin (Or.inr q)
  have h0 : ¬ i < 0 := fun q => hin (Or.inl q)
  obtain ⟨hbb, hca⟩ := hR.2.2.2.1 a _ hg
  obtain ⟨C, cell, hw, g1, g3, g2⟩ := hN H hR
  obtain ⟨kA, comp, k1, k2, k3, -⟩ := hA.2
  obtain ⟨c1, t0, f1, f2, f3⟩ := Cond.castable_spec hw
  have hcomp : comp = t0 := Option.some.inj (k3.symm.trans f2)
  subst hcomp
  have hc0 : c1 = cell.cls := Option.some.inj (f1.symm.trans g2)
  subst hc0
  obtain ⟨kC, hkC, -⟩ := Vm.findClass_spec f1
  obtain ⟨kc, hkc, -⟩ := Vm.findClass_spec f2
  refine W.aast hX.1 hX.2.1 hca (fun q h => by cases h) (fun h => by cases h) k1 k2 rfl hkc ⟨h0, by show _ < (arrV _ _ _).slots.size; rw [arrV_size]; exact hlt⟩ g1 (fun q h => by rw [h] at g3; cases g3) hkC f3 rfl rfl dg fun H1 e z oq => ?_
  refine kk H1 ls _ (rv_R_put hR hg z oq ?_ ?_) hL (rv_locs hz hbb)
  · show H1[a]? = some (vp_cell _ _)
    rw [e, vp_cell_q, vp_cell_q, arrV_store]
    congr 2
    funext q
    by_cases hq : q = i.toNatClampNeg
    · subst hq
      simp [updV, va_up, va_rf]
    · simp [updV, va_up, hq]
  · intro x9 x1 hx hx1
    rw [hca] at hx
    rw [e] at hx1
    cases hx
    cases hx1
    exact rv_setSlot_size _ _ _
theorem rv_prim {k : Nat} (hk : k < 4) : refKind (rv_aty k) = false := by
  match k, hk with
  | 0, _ => rfl
  | 1, _ => rfl
  | 2, _ => rfl
  | 3, _ => rfl
theorem rv_nn {n : Nat} (h : n < 2147483648) : ¬ nI n < 0 := Int32.not_lt.mpr (nI_pos' h)
theorem rv_acpI (hX : rv_K X y cc d) {a0 a k n0 n1 sp dp n : Nat} {f g : Nat → Int32} (hk : k < 4) (hl : (Cond.methodLink y.cls ix arraycopyName) ∈ lw_all) (hg0 : rv_rd X.1 h a0 (.inl (k, n0, .inl f))) (hg : h.1 a = some (.inl (k, n1, .inl g))) (h4 : sp + n ≤ n0) (h5 : dp + n ≤ n1) (hb : n0 < 2147483648 ∧ n1 < 2147483648) (hfit : ∀ i, i < n → fits (rv_aty k) (.int (f (sp + i))) = true) (hd : 1 ≤ d) (hroom : (st.map fun v => v.category).sum ≤ 8) (dg : decode cc pc = .ok (.invokestatic ix, 3)) (kk : rv_V X (rv_put h a (.inl (k, n1, .inl (va_cpy f g sp dp n)))) (pc + 3) L st) : rv_V X h pc L (.int (nI n) :: .int (nI dp) :: .ref a :: .int (nI sp) :: .ref a0 :: st) := by
  have hlink := rv_words hX hl
  have hnat := rv_words hX q317
  have hstat := rv_words hX q316
  have hini := rv_words hX q140
  have hA := (rv_A_at hX (k := k) (by omega)).1
  obtain ⟨G, p, e, R, s, m, args, below, meth, c, Qw⟩ := X
  obtain ⟨hexec, hbc, hown, hlk, hGK, hW, hsz, hfr, hlo, hnm⟩ := hX
  intro H ls locs hR hL hz T hT XS
  obtain ⟨cs0, hc0, hst0, hkn0, har0, hsz0, -, hsl0⟩ := rv_rd.at hGK hR hg0
  obtain ⟨-, k0s, hk0s, cm0s, hkk0s⟩ := State.isArrayOf_alike hW.alike har0
  obtain ⟨hbb, hc1⟩ := hR.2.2.2.1 a _ hg
  have hc1 : H[a]? = some (vp_cell (G.2.2.2 k) (n1, .inl g)) := hc1
  obtain ⟨-, k0, hk0, cm0, hkk0⟩ := hA n0 (fun j => .int (f j))
  have cl : ∀ x, x < 2147483648 → (nI x).toNatClampNeg = x := fun x hx => nI_clamp hx
  have ti : ∀ x, x < 2147483648 → (nI x).toInt = (x : Int) := fun x hx => nI_toInt hx
  have hprim := rv_prim hk
  obtain ⟨vm', X', step⟩ := XS.arraycopy hexec hown hlink hnat hstat hini (src := a0) (dst := a) (cs := cs0) (cd := vp_cell (G.2.2.2 k) (n1, .inl g)) (srcPos := nI sp) (destPos := nI dp) (n := nI n) (by rw [hT]; exact hc0) (by rw [hT]; exact hc1)
    (fun _ h => by rw [h] at hst0; cases hst0) (fun _ h => by cases h) hkn0 (fun h => by cases h) hk0s hk0 hkk0s hkk0 (by simp [hprim]) (rv_nn (by omega)) (rv_nn (by omega)) (rv_nn (by omega))
    (by rw [ti sp (by omega), ti n (by omega)]; have hsz0' : n0 ≤ cs0.slots.size := hsz0; omega)
    (by rw [ti dp (by omega), ti n (by omega)]; show ¬ _ > ((arrV (G.2.2.2 k) n1 (fun j => .int (g j))).slots.size : Int); rw [arrV_size]; omega)
    (fun vm₁ _ i hi => by
      rw [cl n (by omega)] at hi
      have e : cs0.slots.getD ((nI sp).toNatClampNeg + i) .null = .int (f (sp + i)) := by
        rw [cl sp (by omega), Array.getD_eq_getD_getElem?, hsl0 _ (show sp + i < n0 by omega)]
        show ((arrV 0 n0 (fun j => .int (f j))).slots[_]?).getD _ = _
        rw [arrV_read _ _ (by omega)]
        rfl
      refine ⟨?_, ?_⟩
      · rw [e]
        exact hfit i hi
      · rw [e]
        exact trivial)
    (g := F0 m pc ls (.int (nI n) :: .int (nI dp) :: .ref a :: .int (nI sp) :: .ref a0 :: st)) rfl hL.1.1 (rest := st) rfl (by rw [hbc]; exact dg) (by omega) (by
      have hw : nativeFrameWords "java/lang/System" "arraycopy" 5 + 11 ≤ 56 := by decide +kernel
      show 2 * 0 + _ + _ ≤ _
      omega)
  have e1 : copied cs0 (vp_cell (G.2.2.2 k) (n1, .inl g)) (nI sp) (nI dp) (nI n) = vp_cell (G.2.2.2 k) (n1, .inl (va_cpy f g sp dp n)) := by
    have := va_copiedX (fun z => Value.int z) cs0 (G.2.2.2 k) (dp := (nI dp).toNatClampNeg) f g (n0 := n0) (fun j hj => by rw [hsl0 j hj]; exact arrV_read _ _ hj) (show (nI sp).toNatClampNeg + (nI n).toNatClampNeg ≤ n0 by rw [cl sp (by omega), cl n (by omega)]; exact h4) (n1 := n1)
    rw [cl sp (by omega), cl n (by omega), cl dp (by omega)] at this
    unfold copied
    rw [cl sp (by omega), cl n (by omega), cl dp (by omega)]
    exact this
  rw [e1] at X' step
  have hla : a < H.size := (Array.getElem?_eq_some_iff.mp hc1).1
  have hheap : ((T.setVm vm').setCell a (vp_cell (G.2.2.2 k) (n1, .inl (va_cpy f g sp dp n)))).heap = H.setIfInBounds a (vp_cell (G.2.2.2 k) (n1, .inl (va_cpy f g sp dp n))) := by rw [← hT]; rfl
  have oq : ∀ q : Nat, q ≠ a → (H.setIfInBounds a (vp_cell (G.2.2.2 k) (n1, .inl (va_cpy f g sp dp n))))[q]? = H[q]? := fun q hq => by simp [Array.getElem?_setIfInBounds, Ne.symm hq]
  have hself : (H.setIfInBounds a (vp_cell (G.2.2.2 k) (n1, .inl (va_cpy f g sp dp n))))[a]? = some (vp_cell (G.2.2.2 k) (n1, .inl (va_cpy f g sp dp n))) := by simp [Array.getElem?_setIfInBounds, hla]
  have hRn : rv_R G (rv_put h a (.inl (k, n1, .inl (va_cpy f g sp dp n)))) (H.setIfInBounds a (vp_cell (G.2.2.2 k) (n1, .inl (va_cpy f g sp dp n)))) := rv_R_put hR hg (by simp) oq hself (fun x x1 hx hx1 => by
    rw [hc1] at hx
    rw [hself] at hx1
    cases hx
    cases hx1
    show (arrV _ _ _).slots.size = (arrV _ _ _).slots.size
    rw [arrV_size, arrV_size])
  obtain ⟨t, a1, b1⟩ := kk _ ls _ hRn hL (fun z hz9 => by
    rcases List.mem_append.mp hz9 with h | h
    · exact hz z h
    · obtain ⟨z1, -, hz1⟩ := List.mem_map.mp h
      rw [← hz1]
      exact hbb) _ hheap X'
  exact ⟨t, step t a1, b1⟩
theorem rv_acpQ (hX : rv_K X y cc d) {a0 a n0 n1 sp dp n : Nat} {f g : Nat → Option Nat} (hl : (Cond.methodLink y.cls ix arraycopyName) ∈ lw_all) (hg0 : rv_rd X.1 h a0 (.inl (4, n0, .inr (.inr (.inr (.inr f)))))) (hg : h.1 a = some (.inl (4, n1, .inr (.inr (.inr (.inr g)))))) (h4 : sp + n ≤ n0) (h5 : dp + n ≤ n1) (hb : n0 < 2147483648 ∧ n1 < 2147483648) (hel : ∀ i, i < n → ∀ v, f (sp + i) = some v → rv_el X.1 h v) (hd : 1 ≤ d) (hroom : (st.map fun v => v.category).sum ≤ 8) (dg : decode cc pc = .ok (.invokestatic ix, 3)) (kk : rv_V X (rv_put h a (.inl (4, n1, .inr (.inr (.inr (.inr (va_cpy f g sp dp n))))))) (pc + 3) L st) : rv_V X h pc L (.int (nI n) :: .int (nI dp) :: .ref a :: .int (nI sp) :: .ref a0 :: st) := by
  have hlink := rv_words hX hl
  have hnat := rv_words hX q317
  have hstat := rv_words hX q316
  have hini := rv_words hX q140
  have hA := rv_A_at hX (k := 4) (by decide)
  have hcn := fun H v (q : rv_R X.1 h H) (q2 : rv_el X.1 h v) => rv_el_at hX q q2
  obtain ⟨G, p, e, R, s, m, args, below, meth, c, Qw⟩ := X
  obtain ⟨hexec, hbc, hown, hlk, hGK, hW, hsz, hfr, hlo, hnm⟩ := hX
  intro H ls locs hR hL hz T hT XS
  obtain ⟨cs0, hc0, hst0, hkn0, har0, hsz0, -, hsl0⟩ := rv_rd.at hGK hR hg0
  obtain ⟨-, k0s, hk0s, cm0s, hkk0s⟩ := State.isArrayOf_alike hW.alike har0
  obtain ⟨hbb, hc1⟩ := hR.2.2.2.1 a _ hg
  have hc1 : H[a]? = some (vp_cell (G.2.2.2 4) (n1, .inr (.inr (.inr (.inr g))))) := hc1
  obtain ⟨kA, comp, r1, r2, r3, -⟩ := hA.2
  obtain ⟨kE, hkE, -⟩ := Vm.findClass_spec r3
  have cl : ∀ x, x < 2147483648 → (nI x).toNatClampNeg = x := fun x hx => nI_clamp hx
  have ti : ∀ x, x < 2147483648 → (nI x).toInt = (x : Int) := fun x hx => nI_toInt hx
  obtain ⟨vm', X', step⟩ := XS.arraycopy hexec hown hlink hnat hstat hini (src := a0) (dst := a) (cs := cs0) (cd := vp_cell (G.2.2.2 4) (n1, .inr (.inr (.inr (.inr g))))) (srcPos := nI sp) (destPos := nI dp) (n := nI n) (by rw [hT]; exact hc0) (by rw [hT]; exact hc1)
    (fun _ h => by rw [h] at hst0; cases hst0) (fun _ h => by cases h) hkn0 (fun h => by cases h) hk0s r1 hkk0s r2 rfl (rv_nn (by omega)) (rv_nn (by omega)) (rv_nn (by omega))
    (by rw [ti sp (by omega), ti n (by omega)]; have hsz0' : n0 ≤ cs0.slots.size := hsz0; omega)
    (by rw [ti dp (by omega), ti n (by omega)]; show ¬ _ > ((arrV (G.2.2.2 4) n1 (fun j => va_rf (g j))).slots.size : Int); rw [arrV_size]; omega)
    (fun vm₁ hal i hi => by
      rw [cl n (by omega)] at hi
      have e : cs0.slots.getD ((nI sp).toNatClampNeg + i) .null = va_rf (f (sp + i)) := by
        rw [cl sp (by omega), Array.getD_eq_getD_getElem?, hsl0 _ (show sp + i < n0 by omega)]
        show ((arrV 0 n0 (fun j => va_rf (f j))).slots[_]?).getD _ = _
        rw [arrV_read _ _ (by omega)]
        rfl
      rw [e]
      cases hy : f (sp + i) with
      | none => exact ⟨rfl, trivial⟩
      | some v =>
        obtain ⟨C, cellV, y3, g1, g2, g3⟩ := hcn H v hR (hel i hi v hy)
        obtain ⟨c1, t0, f1, f2, f3⟩ := Cond.castable_spec y3
        have hcomp : comp = t0 := Option.some.inj (r3.symm.trans f2)
        subst hcomp
        have hc0 : c1 = cellV.cls := Option.some.inj (f1.symm.trans g3)
        subst hc0
        obtain ⟨kC, hkC, -⟩ := Vm.findClass_spec f1
        obtain ⟨kC', hkC', -⟩ := hal.2.2 _ _ hkC
        obtain ⟨kE', hkE', -⟩ := hal.2.2 _ _ hkE
        refine ⟨rfl, cellV, (show T.heap[v]? = some cellV by rw [hT]; exact g1), (fun q h => by rw [h] at g2; cases g2), ⟨kC', hkC'⟩, ?_, ?_⟩
        · exact ⟨kE', hkE'⟩
        · show vm₁.assignable _ _ = true
          rw [hal.assignable]
          exact f3)
    (g := F0 m pc ls (.int (nI n) :: .int (nI dp) :: .ref a :: .int (nI sp) :: .ref a0 :: st)) rfl hL.1.1 (rest := st) rfl (by rw [hbc]; exact dg) (by omega) (by
      have hw : nativeFrameWords "java/lang/System" "arraycopy" 5 + 11 ≤ 56 := by decide +kernel
      show 2 * 0 + _ + _ ≤ _
      omega)
  have e1 : copied cs0 (vp_cell (G.2.2.2 4) (n1, .inr (.inr (.inr (.inr g))))) (nI sp) (nI dp) (nI n) = vp_cell (G.2.2.2 4) (n1, .inr (.inr (.inr (.inr (va_cpy f g sp dp n))))) := by
    have := va_copiedX (fun z => va_rf z) cs0 (G.2.2.2 4) (dp := (nI dp).toNatClampNeg) f g (n0 := n0) (fun j hj => by rw [hsl0 j hj]; exact arrV_read _ _ hj) (show (nI sp).toNatClampNeg + (nI n).toNatClampNeg ≤ n0 by rw [cl sp (by omega), cl n (by omega)]; exact h4) (n1 := n1)
    rw [cl sp (by omega), cl n (by omega), cl dp (by omega)] at this
    unfold copied
    rw [cl sp (by omega), cl n (by omega), cl dp (by omega)]
    exact this
  rw [e1] at X' step
  have hla : a < H.size := (Array.getElem?_eq_some_iff.mp hc1).1
  have hheap : ((T.setVm vm').setCell a (vp_cell (G.2.2.2 4) (n1, .inr (.inr (.inr (.inr (va_cpy f g sp dp n))))))).heap = H.setIfInBounds a (vp_cell (G.2.2.2 4) (n1, .inr (.inr (.inr (.inr (va_cpy f g sp dp n)))))) := by rw [← hT]; rfl
  have oq : ∀ q : Nat, q ≠ a → (H.setIfInBounds a (vp_cell (G.2.2.2 4) (n1, .inr (.inr (.inr (.inr (va_cpy f g sp dp n)))))))[q]? = H[q]? := fun q hq => by simp [Array.getElem?_setIfInBounds, Ne.symm hq]
  have hself : (H.setIfInBounds a (vp_cell (G.2.2.2 4) (n1, .inr (.inr (.inr (.inr (va_cpy f g sp dp n)))))))[a]? = some (vp_cell (G.2.2.2 4) (n1, .inr (.inr (.inr (.inr (va_cpy f g sp dp n)))))) := by simp [Array.getElem?_setIfInBounds, hla]
  have hRn : rv_R G (rv_put h a (.inl (4, n1, .inr (.inr (.inr (.inr (va_cpy f g sp dp n))))))) (H.setIfInBounds a (vp_cell (G.2.2.2 4) (n1, .inr (.inr (.inr (.inr (va_cpy f g sp dp n))))))) := rv_R_put hR hg (by simp) oq hself (fun x x1 hx hx1 => by
    rw [hc1] at hx
    rw [hself] at hx1
    cases hx
    cases hx1
    show (arrV _ _ _).slots.size = (arrV _ _ _).slots.size
    rw [arrV_size, arrV_size])
  obtain ⟨t, a1, b1⟩ := kk _ ls _ hRn hL (fun z hz9 => by
    rcases List.mem_append.mp hz9 with h | h
    · exact hz z h
    · obtain ⟨z1, -, hz1⟩ := List.mem_map.mp h
      rw [← hz1]
      exact hbb) _ hheap X'
  exact ⟨t, step t a1, b1⟩
end XC
