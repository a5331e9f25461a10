/-! ROWS: arrays, new cells, returns -/
set_option maxRecDepth 100000
section RA
variable {X : rv_X} {y : MethodName} {cc : ByteArray} {d : Nat} {h : rv_H} {pc : Nat} {L : List (Option Value)} {st : List Value}
theorem rv_iald (hX : rv_K X y cc d) {a n : Nat} {f : Nat → Int32} {i : Int32} (hg : h.1 a = some (.inl (0, n, .inl f))) (hin : vp_in i n) (dg : decode cc pc = .ok (.iaload, 1)) (kk : rv_V X h (pc + 1) L (.int (f i.toNatClampNeg) :: st)) : rv_V X h pc L (.int i :: .ref a :: st) := by
  have hA := (rv_A_at hX (k := 0) (by decide)).1
  obtain ⟨G, p, e, R, s, m, args, below, meth, c, Qw⟩ := X
  intro H ls locs hR hL hz
  have hlt : i.toNatClampNeg < n := Nat.not_le.mp fun q => hin (Or.inr q)
  exact W.iald (v := .int (f i.toNatClampNeg)) hX.1 hX.2.1 (hR.2.2.2.1 a _ hg).2 (hA n (fun j => .int (f j))) (fun q => by cases q) (by show ¬ (i < 0 ∨ (arrV _ _ _).slots.size ≤ _); rw [arrV_size]; exact hin) (by show (arrV _ _ _).slots[_]? = _; rw [arrV_read _ _ hlt]) rfl rfl dg (kk H ls locs hR hL hz)
theorem rv_lald (hX : rv_K X y cc d) {a n : Nat} {f : Nat → Int64} {i : Int32} (hg : h.1 a = some (.inl (1, n, .inr (.inl f)))) (hin : vp_in i n) (dg : decode cc pc = .ok (.laload, 1)) (kk : rv_V X h (pc + 1) L (.long (f i.toNatClampNeg) :: st)) : rv_V X h pc L (.int i :: .ref a :: st) := by
  have hA := (rv_A_at hX (k := 1) (by decide)).1
  obtain ⟨G, p, e, R, s, m, args, below, meth, c, Qw⟩ := X
  intro H ls locs hR hL hz
  have hlt : i.toNatClampNeg < n := Nat.not_le.mp fun q => hin (Or.inr q)
  exact W.lald (v := .long (f i.toNatClampNeg)) hX.1 hX.2.1 (hR.2.2.2.1 a _ hg).2 (hA n (fun j => .long (f j))) (fun q => by cases q) (by show ¬ (i < 0 ∨ (arrV _ _ _).slots.size ≤ _); rw [arrV_size]; exact hin) (by show (arrV _ _ _).slots[_]? = _; rw [arrV_read _ _ hlt]) rfl rfl dg (kk H ls locs hR hL hz)
theorem rv_zald (hX : rv_K X y cc d) {a n : Nat} {f : Nat → Int32} {i : Int32} (hg : h.1 a = some (.inl (2, n, .inl f))) (hin : vp_in i n) (dg : decode cc pc = .ok (.baload, 1)) (kk : rv_V X h (pc + 1) L (.int (f i.toNatClampNeg) :: st)) : rv_V X h pc L (.int i :: .ref a :: st) := by
  have hA := (rv_A_at hX (k := 2) (by decide)).1
  obtain ⟨G, p, e, R, s, m, args, below, meth, c, Qw⟩ := X
  intro H ls locs hR hL hz
  have hlt : i.toNatClampNeg < n := Nat.not_le.mp fun q => hin (Or.inr q)
  exact W.zald (v := .int (f i.toNatClampNeg)) hX.1 hX.2.1 (hR.2.2.2.1 a _ hg).2 (hA n (fun j => .int (f j))) (fun q => by cases q) (by show ¬ (i < 0 ∨ (arrV _ _ _).slots.size ≤ _); rw [arrV_size]; exact hin) (by show (arrV _ _ _).slots[_]? = _; rw [arrV_read _ _ hlt]) rfl rfl dg (kk H ls locs hR hL hz)
theorem rv_bald (hX : rv_K X y cc d) {a n : Nat} {f : Nat → Int32} {i : Int32} (hg : h.1 a = some (.inl (3, n, .inl f))) (hin : vp_in i n) (dg : decode cc pc = .ok (.baload, 1)) (kk : rv_V X h (pc + 1) L (.int (f i.toNatClampNeg) :: st)) : rv_V X h pc L (.int i :: .ref a :: st) := by
  have hA := (rv_A_at hX (k := 3) (by decide)).1
  obtain ⟨G, p, e, R, s, m, args, below, meth, c, Qw⟩ := X
  intro H ls locs hR hL hz
  have hlt : i.toNatClampNeg < n := Nat.not_le.mp fun q => hin (Or.inr q)
  exact W.bald (v := .int (f i.toNatClampNeg)) hX.1 hX.2.1 (hR.2.2.2.1 a _ hg).2 (hA n (fun j => .int (f j))) (fun q => by cases q) (by show ¬ (i < 0 ∨ (arrV _ _ _).slots.size ≤ _); rw [arrV_size]; exact hin) (by show (arrV _ _ _).slots[_]? = _; rw [arrV_read _ _ hlt]) rfl rfl dg (kk H ls locs hR hL hz)
theorem rv_iast (hX : rv_K X y cc d) {a n : Nat} {f : Nat → Int32} {i x : Int32} (hg : h.1 a = some (.inl (0, n, .inl f))) (hin : vp_in i n) (dg : decode cc pc = .ok (.iastore, 1)) (kk : rv_V X (rv_put h a (.inl (0, n, .inl (upd f i.toNatClampNeg x)))) (pc + 1) L st) : rv_V X h pc L (.int x :: .int i :: .ref a :: st) := by
  have hA := (rv_A_at hX (k := 0) (by decide)).1
  obtain ⟨G, p, e, R, s, m, args, below, meth, c, Qw⟩ := X
  intro H ls locs hR hL hz
  obtain ⟨hbb, hca⟩ := hR.2.2.2.1 a _ hg
  refine W.iast hX.1 hX.2.1 hca (hA n (fun j => .int (f j))) (fun q => by cases q) (by show ¬ (i < 0 ∨ (arrV _ _ _).slots.size ≤ _); rw [arrV_size]; exact hin) rfl rfl dg fun H1 e z oq => ?_
  refine kk H1 ls _ (rv_R_put hR hg z oq ?_ ?_) hL (rv_locs hz hbb)
  · show H1[a]? = some (vp_cell _ _)
    rw [e, vp_cell_i, vp_cell_i, arrV_store]
    congr 2
    funext q
    by_cases hq : q = i.toNatClampNeg
    · subst hq
      simp [updV, upd]
    · simp [updV, upd, hq]
  · intro x9 x1 hx hx1
    rw [hca] at hx
    rw [e] at hx1
    cases hx
    cases hx1
    exact rv_setSlot_size _ _ _
theorem rv_zast (hX : rv_K X y cc d) {a n : Nat} {f : Nat → Int32} {i x : Int32} (hg : h.1 a = some (.inl (2, n, .inl f))) (hin : vp_in i n) (dg : decode cc pc = .ok (.bastore, 1)) (kk : rv_V X (rv_put h a (.inl (2, n, .inl (upd f i.toNatClampNeg (vp_nar .boolean x))))) (pc + 1) L st) : rv_V X h pc L (.int x :: .int i :: .ref a :: st) := by
  have hA := (rv_A_at hX (k := 2) (by decide)).1
  obtain ⟨G, p, e, R, s, m, args, below, meth, c, Qw⟩ := X
  intro H ls locs hR hL hz
  obtain ⟨hbb, hca⟩ := hR.2.2.2.1 a _ hg
  refine W.zast hX.1 hX.2.1 hca (hA n (fun j => .int (f j))) (fun q => by cases q) (by show ¬ (i < 0 ∨ (arrV _ _ _).slots.size ≤ _); rw [arrV_size]; exact hin) rfl rfl dg fun H1 e z oq => ?_
  refine kk H1 ls _ (rv_R_put hR hg z oq ?_ ?_) hL (rv_locs hz hbb)
  · show H1[a]? = some (vp_cell _ _)
    rw [e, vp_cell_i, vp_cell_i, arrV_store]
    congr 2
    funext q
    by_cases hq : q = i.toNatClampNeg
    · subst hq
      simp [updV, upd, vp_nar]
      try rfl
    · simp [updV, upd, hq]
  · intro x9 x1 hx hx1
    rw [hca] at hx
    rw [e] at hx1
    cases hx
    cases hx1
    exact rv_setSlot_size _ _ _
theorem rv_bast (hX : rv_K X y cc d) {a n : Nat} {f : Nat → Int32} {i x : Int32} (hg : h.1 a = some (.inl (3, n, .inl f))) (hin : vp_in i n) (dg : decode cc pc = .ok (.bastore, 1)) (kk : rv_V X (rv_put h a (.inl (3, n, .inl (upd f i.toNatClampNeg (vp_nar .byte x))))) (pc + 1) L st) : rv_V X h pc L (.int x :: .int i :: .ref a :: st) := by
  have hA := (rv_A_at hX (k := 3) (by decide)).1
  obtain ⟨G, p, e, R, s, m, args, below, meth, c, Qw⟩ := X
  intro H ls locs hR hL hz
  obtain ⟨hbb, hca⟩ := hR.2.2.2.1 a _ hg
  refine W.bast hX.1 hX.2.1 hca (hA n (fun j => .int (f j))) (fun q => by cases q) (by show ¬ (i < 0 ∨ (arrV _ _ _).slots.size ≤ _); rw [arrV_size]; exact hin) rfl rfl dg fun H1 e z oq => ?_
  refine kk H1 ls _ (rv_R_put hR hg z oq ?_ ?_) hL (rv_locs hz hbb)
  · show H1[a]? = some (vp_cell _ _)
    rw [e, vp_cell_i, vp_cell_i, arrV_store]
    congr 2
    funext q
    by_cases hq : q = i.toNatClampNeg
    · subst hq
      simp [updV, upd, vp_nar]
      try rfl
    · simp [updV, upd, hq]
  · intro x9 x1 hx hx1
    rw [hca] at hx
    rw [e] at hx1
    cases hx
    cases hx1
    exact rv_setSlot_size _ _ _
theorem rv_last (hX : rv_K X y cc d) {a n : Nat} {f : Nat → Int64} {i : Int32} {x : Int64} (hg : h.1 a = some (.inl (1, n, .inr (.inl f)))) (hin : vp_in i n) (dg : decode cc pc = .ok (.lastore, 1)) (kk : rv_V X (rv_put h a (.inl (1, n, .inr (.inl (vp_updL f i.toNatClampNeg x))))) (pc + 1) L st) : rv_V X h pc L (.long x :: .int i :: .ref a :: st) := by
  have hA := (rv_A_at hX (k := 1) (by decide)).1
  obtain ⟨G, p, e, R, s, m, args, below, meth, c, Qw⟩ := X
  intro H ls locs hR hL hz
  obtain ⟨hbb, hca⟩ := hR.2.2.2.1 a _ hg
  refine W.last hX.1 hX.2.1 hca (hA n (fun j => .long (f j))) (fun q => by cases q) (by show ¬ (i < 0 ∨ (arrV _ _ _).slots.size ≤ _); rw [arrV_size]; exact hin) rfl rfl dg fun H1 e z oq => ?_
  refine kk H1 ls _ (rv_R_put hR hg z oq ?_ ?_) hL (rv_locs hz hbb)
  · show H1[a]? = some (vp_cell _ _)
    rw [e, vp_cell_l, vp_cell_l, arrV_store]
    congr 2
    funext q
    by_cases hq : q = i.toNatClampNeg
    · subst hq
      simp [updV, vp_updL]
    · simp [updV, vp_updL, hq]
  · intro x9 x1 hx hx1
    rw [hca] at hx
    rw [e] at hx1
    cases hx
    cases hx1
    exact rv_setSlot_size _ _ _
theorem rv_alen (hX : rv_K X y cc d) {a k : Nat} {x : vp_A} (hk : k < 6) (hg : h.1 a = some (.inl (k, x))) (dg : decode cc pc = .ok (.arraylength, 1)) (kk : rv_V X h (pc + 1) L (.int (nI x.1) :: st)) : rv_V X h pc L (.ref a :: st) := by
  have hA := (rv_A_at hX (k := k) hk).1
  obtain ⟨G, p, e, R, s, m, args, below, meth, c, Qw⟩ := X
  intro H ls locs hR hL hz
  have hca := (hR.2.2.2.1 a _ hg).2
  obtain ⟨n, f | f | f | f | f⟩ := x
  · exact W.alen (n := Int32.ofNat n) hX.1 hX.2.1 hca (hA n (fun j => .int (f j))) (by rw [vp_cell_i, arrV_size] <;> rfl) rfl rfl dg (kk H ls locs hR hL hz)
  · exact W.alen (n := Int32.ofNat n) hX.1 hX.2.1 hca (hA n (fun j => .long (f j))) (by rw [vp_cell_l, arrV_size] <;> rfl) rfl rfl dg (kk H ls locs hR hL hz)
  · exact W.alen (n := Int32.ofNat n) hX.1 hX.2.1 hca (hA n (fun j => .float (f j))) (by rw [vp_cell_f, arrV_size] <;> rfl) rfl rfl dg (kk H ls locs hR hL hz)
  · exact W.alen (n := Int32.ofNat n) hX.1 hX.2.1 hca (hA n (fun j => .double (f j))) (by rw [vp_cell_d, arrV_size] <;> rfl) rfl rfl dg (kk H ls locs hR hL hz)
  · exact W.alen (n := Int32.ofNat n) hX.1 hX.2.1 hca (hA n (fun j => va_rf (f j))) (by rw [vp_cell_q, arrV_size] <;> rfl) rfl rfl dg (kk H ls locs hR hL hz)
/-! new arrays of numbers: the type's number k, its blank contents -/
def rv_bl (k n : Nat) : vp_A := match k with
  | 1 => (n, .inr (.inl (fun _ => 0)))
  | 4 => (n, .inr (.inr (.inr (.inr (fun _ => none)))))
  | 5 => (n, .inr (.inr (.inr (.inr (fun _ => none)))))
  | _ => (n, .inl (fun _ => 0))
theorem rv_newaG (hX : rv_K X y cc d) {atype : ArrayType} {k n : Nat} (hk : k < 4) (hty : newarray.typeOf atype = rv_aty k) (hq : (Cond.arrayClass (rv_aty k)) ∈ lw_all) (hn : n < 60000000) (hC : h.2.1 + 1 ≤ rv_b X.1 + rv_cN) (hS : h.2.2 + n ≤ rv_cS) (dg : decode cc pc = .ok (.newarray atype, 2)) (kk : rv_V X (rv_add h (.inl (k, rv_bl k n)) n) (pc + 2) L (.ref h.2.1 :: st)) : rv_V X h pc L (.int (nI n) :: st) := by
  have hw := rv_words hX hq
  have hA := (rv_A_at hX (k := k) (by omega)).2
  obtain ⟨G, p, e, R, s, m, args, below, meth, c, Qw⟩ := X
  intro H ls locs hR hL hz
  obtain ⟨hx, hb, hown, hlk, hGK, hW, ⟨hs, hRs, hRc, hRsl⟩, -⟩ := hX
  have hcl : (nI n).toNatClampNeg = n := nI_clamp (by omega)
  have h0 : h.2.1 = H.size := hR.1.symm
  have hs0 : s.heap.size = hs.2.1 := hRs.1
  have hs1 : rv_sz (rv_b G) s.heap = hs.2.2 := hRs.2.2.2.2.1
  have hmono : hs.2.1 ≤ h.2.1 ∨ True := Or.inr trivial
  intro T hT XS
  have hle : s.heap.size ≤ H.size := by rw [← hT]; exact XS.same.2.1
  have hle2 : hs.2.2 ≤ h.2.2 := by
    have e1 := rv_old_sz XS.same (b := rv_b G) hRs.2.1
    rw [hT, hR.2.2.2.2.1, hs1] at e1
    omega
  refine rv_tight (k := R.cells) (n := R.slots) hR hRs ?_ T hT XS
  have hC' : h.2.1 + 1 ≤ rv_b G + rv_cN := hC
  refine W.newa hx hb (by rw [hty]; exact hw) rfl dg rfl (nI_pos (by omega)) ?_ (by omega) (by rw [hcl]; omega) fun cA kA comp h1 h2 h3 => ?_
  · rw [hcl, hty]
    have : ∀ k, k < 4 → componentBytes (rv_aty k) ≤ 8 := by decide
    have := this k hk
    calc n * componentBytes (rv_aty k) ≤ n * 8 := Nat.mul_le_mul_left _ this
      _ ≤ 536870912 := by omega
  · have hcA : cA = G.2.2.2 k := by
      have e1 : s.vm.findClass ("[" ++ (rv_aty k).toString) = some (G.2.2.2 k) := by
        match k, hk, hA with
        | 0, _, hA => exact hA
        | 1, _, hA => exact hA
        | 2, _, hA => exact hA
        | 3, _, hA => exact hA
      rw [hty, e1] at h1
      exact (Option.some.inj h1).symm
    subst hcA
    rw [hcl]
    refine W.widen (k := R.cells) (n := R.slots) (by omega) (by omega) ?_
    rw [← h0]
    refine kk _ ls locs (rv_R_add hR ?_ ?_ hC' hS) hL hz
    · show (H.push _)[H.size]? = some (vp_cell _ _)
      rw [Array.getElem?_push, if_pos rfl]
      congr 1
      rw [arrV_new, hty]
      match k, hk with
      | 0, _ => rfl
      | 1, _ => rfl
      | 2, _ => rfl
      | 3, _ => rfl
    · simp
/-! new objects -/
def rv_nw (own : String) (ix ci : Nat) (fs : List Value) : Prop := ∃ (C : String) (T : u_T) (N : Nat) (ty0 : Nat → FieldType), rv_cl[ci]? = some (C, T, N) ∧ (∀ w ∈ u_ws C T N, w ∈ lw_all) ∧ (Cond.classLink own ix C) ∈ lw_all ∧ (Cond.instantiable C N) ∈ lw_all ∧ (Cond.initialized C) ∈ lw_all ∧ (∀ k, k < N → parseFieldDescriptor (T k).2.2.1 = some (ty0 k)) ∧ fs = (List.range N).map (fun k => defaultValue (ty0 k))
theorem rv_new (hX : rv_K X y cc d) {ix ci : Nat} {fs : List Value} (hf : rv_nw y.cls ix ci fs) (hC : h.2.1 + 1 ≤ rv_b X.1 + rv_cN) (hS : h.2.2 + fs.length ≤ rv_cS) (dg : decode cc pc = .ok (.new ix, 3)) (kk : rv_V X (rv_add h (.inr (ci, fs)) fs.length) (pc + 3) L (.ref h.2.1 :: st)) : rv_V X h pc L st := by
  obtain ⟨C, T, N, ty0, hc, hin, hcl, hins, hini, hty, hfs⟩ := hf
  have hw := fun w (q : w ∈ lw_all) => rv_words hX q
  have hU := rv_U_at hX hc
  obtain ⟨G, p, e, R, s, m, args, below, meth, c, Qw⟩ := X
  intro H ls locs hR hL hz
  obtain ⟨hx, hb, hown, hlk, hGK, hW, ⟨hs, hRs, hRc, hRsl⟩, -⟩ := hX
  have hfl : fs.length = N := by rw [hfs]; simp
  rw [hfl] at hS kk
  have h0 : h.2.1 = H.size := hR.1.symm
  have hs0 : s.heap.size = hs.2.1 := hRs.1
  have hs1 : rv_sz (rv_b G) s.heap = hs.2.2 := hRs.2.2.2.2.1
  intro T9 hT XS
  have hle : s.heap.size ≤ H.size := by rw [← hT]; exact XS.same.2.1
  have hle2 : hs.2.2 ≤ h.2.2 := by
    have e1 := rv_old_sz XS.same (b := rv_b G) hRs.2.1
    rw [hT, hR.2.2.2.2.1, hs1] at e1
    omega
  refine rv_tight (k := R.cells) (n := R.slots) hR hRs ?_ T9 hT XS
  have hC' : h.2.1 + 1 ≤ rv_b G + rv_cN := hC
  refine W.newc hx hb hown (hw _ hcl) (hw _ hins) (hw _ hini) rfl dg (by omega) (by omega) fun cC kC h1 h2 h3 h4 => ?_
  have hcC : cC = G.2.2.1.1 ci := Option.some.inj (h1.symm.trans hU.2.1)
  subst hcC
  refine W.widen (k := R.cells) (n := R.slots) (by omega) (by omega) ?_
  rw [← h0]
  refine kk _ ls locs (rv_R_add hR ?_ ?_ hC' hS) hL hz
  · show t_OB H.size (G.2.2.1.1 ci) fs.length (G.2.2.1.2 ci) _ (vp_V fs)
    rw [hfl]
    have hcell : (H.push { cls := G.2.2.1.1 ci, slots := kC.instanceTypes.map defaultValue, vm := .none })[H.size]? = some (blank (G.2.2.1.1 ci) kC) := by
      rw [Array.getElem?_push, if_pos rfl]; rfl
    refine (u_born ty0 hw hin hU h2 hcell hty).to (fun k hk => ?_)
    rw [hfs]
    simp [vp_V, hk]
  · simp [h4]
/-! returns -/
theorem rv_ireturn (hX : rv_K X y cc d) {ty : FieldType} {hh : List ExceptionTableEntry} {Q : rv_O → rv_H → Prop} (hE : rv_E X (some ty) hh Q) {v : Int32} (hn : narrow ty (.int v) = .int v) (hq : Q (.inl (some (.int v))) h) (dg : decode cc pc = .ok (.ireturn, 1)) : rv_V X h pc L [.int v] := by
  obtain ⟨G, p, e, R, s, m, args, below, meth, c, Qw⟩ := X
  intro H ls locs hR hL hz
  obtain ⟨hr, -, hQ⟩ := hE
  subst hQ
  exact vx_ret (W.zret hX.1 hX.2.1 hr hn (fun t ht hW => ⟨_, h, rfl, by rw [ht]; exact hR, hq⟩) hz dg hX.2.2.2.1)
theorem rv_lreturn (hX : rv_K X y cc d) {hh : List ExceptionTableEntry} {Q : rv_O → rv_H → Prop} (hE : rv_E X (some .long) hh Q) {v : Int64} (hq : Q (.inl (some (.long v))) h) (dg : decode cc pc = .ok (.lreturn, 1)) : rv_V X h pc L [.long v] := by
  obtain ⟨G, p, e, R, s, m, args, below, meth, c, Qw⟩ := X
  intro H ls locs hR hL hz
  obtain ⟨hr, -, hQ⟩ := hE
  subst hQ
  exact vx_ret (W.lret hX.1 hX.2.1 hr (fun t ht hW => ⟨_, h, rfl, by rw [ht]; exact hR, hq⟩) hz dg hX.2.2.2.1)
theorem rv_return (hX : rv_K X y cc d) {hh : List ExceptionTableEntry} {Q : rv_O → rv_H → Prop} (hE : rv_E X none hh Q) (hq : Q (.inl none) h) (dg : decode cc pc = .ok (.return_, 1)) : rv_V X h pc L [] := by
  obtain ⟨G, p, e, R, s, m, args, below, meth, c, Qw⟩ := X
  intro H ls locs hR hL hz
  obtain ⟨hr, -, hQ⟩ := hE
  subst hQ
  exact vx_ret (W.vret hX.1 hX.2.1 hr (fun t ht hW => ⟨_, h, rfl, by rw [ht]; exact hR, hq⟩) hz dg hX.2.2.2.1)
theorem rv_areturn (hX : rv_K X y cc d) {rt : FieldType} {hh : List ExceptionTableEntry} {Q : rv_O → rv_H → Prop} (hE : rv_E X (some rt) hh Q) (hrt : (∃ n, rt = .object n) ∨ ∃ t, rt = .array t) {v : Value} (hv : v = .null ∨ ∃ a, v = .ref a) (hq : Q (.inl (some v)) h) (dg : decode cc pc = .ok (.areturn, 1)) : rv_V X h pc L [v] := by
  obtain ⟨G, p, e, R, s, m, args, below, meth, c, Qw⟩ := X
  intro H ls locs hR hL hz
  obtain ⟨hr, -, hQ⟩ := hE
  subst hQ
  exact vx_ret (W.aret hX.1 hX.2.1 hr hrt hv (fun t ht hW => ⟨_, h, rfl, by rw [ht]; exact hR, hq⟩) hz dg hX.2.2.2.1)
theorem rv_lcmp (hX : rv_K X y cc d) {a b : Int64} (dg : decode cc pc = .ok (.lcmp, 1)) (kk : rv_V X h (pc + 1) L (.int (lg_cmp a b) :: st)) : rv_V X h pc L (.long b :: .long a :: st) := by
  obtain ⟨G, p, e, R, s, m, args, below, meth, c, Qw⟩ := X
  intro H ls locs hR hL hz
  exact W.lcmp hX.1 hX.2.1 dg (kk H ls locs hR hL hz)
end RA
