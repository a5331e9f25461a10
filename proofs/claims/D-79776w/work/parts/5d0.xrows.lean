/-! ROWS FOR THE SYSTEM'S SIDE: casts, arrays of references -/
set_option maxRecDepth 100000
section RX
variable {X : rv_X} {y : MethodName} {cc : ByteArray} {d : Nat} {h : rv_H} {pc : Nat} {L : List (Option Value)} {st : List Value}
theorem rv_castO (hX : rv_K X y cc d) {a ci ix N : Nat} {fs : List Value} {C : String} {T : u_T} (hg : h.1 a = some (.inr (ci, fs))) (hc : rv_cl[ci]? = some (C, T, N)) (hl : (Cond.classLink y.cls ix C) ∈ lw_all) (dg : decode cc pc = .ok (.checkcast ix, 3)) (kk : rv_V X h (pc + 3) L (.ref a :: st)) : rv_V X h pc L (.ref a :: st) := by
  have hw := rv_words hX hl
  have hU := rv_U_at hX hc
  obtain ⟨G, p, e, R, s, m, args, below, meth, c, Qw⟩ := X
  intro H ls locs hR hL hz
  obtain ⟨-, cell, q1, q2, q3, -⟩ := hR.2.2.2.1 a _ hg
  exact va_castS hX.1 hX.2.1 hX.2.2.1 hw hU.2 ⟨cell, q1, by rw [q3]; rfl, by rw [q2]; exact hU.2.1⟩ dg (kk H ls locs hR hL hz)
theorem rv_aald (hX : rv_K X y cc d) {a n k : Nat} {f : Nat → Option Nat} {i : Int32} (hk : k < 6) (hr : (rv_aty k).isReference = true) (hg : h.1 a = some (.inl (k, n, .inr (.inr (.inr (.inr f)))))) (hin : vp_in i n) (dg : decode cc pc = .ok (.aaload, 1)) (kk : rv_V X h (pc + 1) L (va_rf (f i.toNatClampNeg) :: st)) : rv_V X h pc L (.int i :: .ref a :: st) := by
  have hA := (rv_A_at hX (k := k) hk).1
  obtain ⟨G, p, e, R, s, m, args, below, meth, c, Qw⟩ := X
  intro H ls locs hR hL hz
  have hlt : i.toNatClampNeg < n := Nat.not_le.mp fun q => hin (Or.inr q)
  exact W.aald (v := va_rf (f i.toNatClampNeg)) hX.1 hX.2.1 (hR.2.2.2.1 a _ hg).2 (hA n (fun j => va_rf (f j))) hr (fun q => by cases q) (by show ¬ (i < 0 ∨ (arrV _ _ _).slots.size ≤ _); rw [arrV_size]; exact hin) (by show (arrV _ _ _).slots[_]? = _; rw [arrV_read _ _ hlt]) rfl rfl dg (kk H ls locs hR hL hz)
theorem rv_castN (hX : rv_K X y cc d) {ix : Nat} (dg : decode cc pc = .ok (.checkcast ix, 3)) (kk : rv_V X h (pc + 3) L (.null :: st)) : rv_V X h pc L (.null :: st) := by
  obtain ⟨G, p, e, R, s, m, args, below, meth, c, Qw⟩ := X
  intro H ls locs hR hL hz
  exact lv_castN hX.1 hX.2.1 dg (kk H ls locs hR hL hz)
theorem rv_aname {U : State} {cA : ClassId} {ty : FieldType} (h : va_RA U cA ty) : U.vm.findClass ("[" ++ ty.toString) = some cA := by
  cases ty with
  | object C =>
    obtain ⟨kA, comp, -, -, -, h4⟩ := h
    exact h4
  | _ => exact h
theorem rv_castA (hX : rv_K X y cc d) {a ix k : Nat} {x : vp_A} {nm : String} (hk : k < 6) (hnm : nm = "[" ++ (rv_aty k).toString) (hg : h.1 a = some (.inl (k, x))) (hl : (Cond.classLink y.cls ix nm) ∈ lw_all) (dg : decode cc pc = .ok (.checkcast ix, 3)) (kk : rv_V X h (pc + 3) L (.ref a :: st)) : rv_V X h pc L (.ref a :: st) := by
  have hw := rv_words hX hl
  have hA := rv_aname (rv_A_at hX (k := k) hk).2
  obtain ⟨G, p, e, R, s, m, args, below, meth, c, Qw⟩ := X
  intro H ls locs hR hL hz
  have hca := (hR.2.2.2.1 a _ hg).2
  refine va_castA (D := (fun _ => 0, fun _ _ => 0)) (cl := []) (ws := [(a, .inl (G.2.2.2 k, x))]) hX.1 hX.2.1 hX.2.2.1 hw (fun j q e => ?_) 0 rfl (by rw [hnm]; exact hA) dg (kk H ls locs hR hL hz)
  cases j with
  | zero => cases e; exact hca
  | succ j => cases e
theorem rv_castW (hX : rv_K X y cc d) {C D : String} (hq : (Cond.castable C D) ∈ lw_tbl) : (Cond.castable C D).before X.2.2.2.2.2.2.1 X.2.2.2.2.1 = true := by
  obtain ⟨G, p, e, R, s, m, args, below, meth, c, Qw⟩ := X
  obtain ⟨-, -, -, -, ⟨⟨a0, h0, -⟩, -⟩, hW, -⟩ := hX
  exact va_Nw.use rfl (va_Nw.warmC hW (va_Nw.of rfl (h0 _ hq)))
/-- what can lie in an array of objects: a cell's class by its name -/
def rv_cn (c : rv_C) (C : String) : Prop := match c with
  | .inl (k, _) => k < 6 ∧ C = "[" ++ (rv_aty k).toString
  | .inr (ci, _) => ∃ T N, rv_cl[ci]? = some (C, T, N)
theorem rv_cn_at (hX : rv_K X y cc d) {H : Heap} {v : Nat} {c0 : rv_C} {C : String} (hn : rv_cn c0 C) (hat : rv_at X.1 v c0 H) : ∃ (cv : Cell), H[v]? = some cv ∧ cv.vm = .none ∧ X.2.2.2.2.1.vm.findClass C = some cv.cls := by
  cases c0 with
  | inl x =>
    obtain ⟨k, x⟩ := x
    obtain ⟨hk, rfl⟩ := hn
    have hA := rv_aname (rv_A_at hX (k := k) hk).2
    refine ⟨_, hat, ?_, ?_⟩
    · obtain ⟨n, f | f | f | f | f⟩ := x <;> rfl
    · rw [hA]
      obtain ⟨n, f | f | f | f | f⟩ := x <;> rfl
  | inr x =>
    obtain ⟨ci, vs⟩ := x
    obtain ⟨T, N, hc⟩ := hn
    have hU := rv_U_at hX hc
    obtain ⟨cell, q1, q2, q3, -⟩ := hat
    exact ⟨cell, q1, q3, by rw [q2]; exact hU.2.1⟩
/-- a new array of objects -/
theorem rv_anewO (hX : rv_K X y cc d) {ix n : Nat} (hl : (Cond.classLink y.cls ix "java/lang/Object") ∈ lw_all) (ho : (Cond.arrayOver (.object "java/lang/Object")) ∈ lw_tbl) (hn : n < 60000000) (hC : h.2.1 + 1 ≤ rv_b X.1 + rv_cN) (hS : h.2.2 + n ≤ rv_cS) (dg : decode cc pc = .ok (.anewarray ix, 3)) (kk : rv_V X (rv_add h (.inl (4, rv_bl 4 n)) n) (pc + 3) L (.ref h.2.1 :: st)) : rv_V X h pc L (.int (nI n) :: st) := by
  have hw := rv_words hX hl
  have hA := rv_A_at hX (k := 4) (by decide)
  obtain ⟨G, p, e, R, s, m, args, below, meth, c, Qw⟩ := X
  intro H ls locs hR hL hz
  obtain ⟨hx, hb, hown, hlk, hGK, hW, ⟨hs, hRs, hRc, hRsl⟩, -⟩ := hX
  obtain ⟨⟨a0, h0w, -⟩, -⟩ := hGK
  have hov : (Cond.arrayOver (.object "java/lang/Object")).before args s = true := va_AO.use (va_AO.moved hW.alike (va_AO.of (h0w _ ho)))
  have hcl : (nI n).toNatClampNeg = n := nI_clamp (by omega)
  have h0 : h.2.1 = H.size := hR.1.symm
  have hs0 : s.heap.size = hs.2.1 := hRs.1
  have hs1 : rv_sz (rv_b G) s.heap = hs.2.2 := hRs.2.2.2.2.1
  intro T hT XS
  have hle : s.heap.size ≤ H.size := by rw [← hT]; exact XS.same.2.1
  have hle2 : hs.2.2 ≤ h.2.2 := by
    have e1 := rv_old_sz XS.same (b := rv_b G) hRs.2.1
    rw [hT, hR.2.2.2.2.1, hs1] at e1
    omega
  refine rv_tight (k := R.cells) (n := R.slots) hR hRs ?_ T hT XS
  have hC' : h.2.1 + 1 ≤ rv_b G + rv_cN := hC
  refine W.anew hx hb hown hw hov rfl dg rfl (nI_pos (by omega)) (by rw [hcl]; omega) (by omega) (by rw [hcl]; omega) fun cA kA comp h1 h2 h3 h4 => ?_
  have hcA : cA = G.2.2.2 4 := Option.some.inj (h1.symm.trans (rv_aname hA.2))
  subst hcA
  rw [hcl]
  refine W.widen (k := R.cells) (n := R.slots) (by omega) (by omega) ?_
  rw [← h0]
  refine kk _ ls locs (rv_R_add hR ?_ ?_ hC' hS) hL hz
  · show (H.push _)[H.size]? = some (vp_cell _ _)
    rw [Array.getElem?_push, if_pos rfl]
    congr 1
    rw [arrV_new]
    rfl
  · simp
end RX
