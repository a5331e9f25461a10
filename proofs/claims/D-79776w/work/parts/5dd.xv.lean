/-! ROWS of the system's side over frozen and own cells -/
set_option maxRecDepth 100000
abbrev cI (n : Nat) (f : Nat → Int32) : rv_C := .inl (0, n, .inl f)
abbrev cL (n : Nat) (f : Nat → Int64) : rv_C := .inl (1, n, .inr (.inl f))
abbrev cZ (n : Nat) (f : Nat → Int32) : rv_C := .inl (2, n, .inl f)
abbrev cB (n : Nat) (f : Nat → Int32) : rv_C := .inl (3, n, .inl f)
abbrev cR (n : Nat) (f : Nat → Option Nat) : rv_C := .inl (4, n, .inr (.inr (.inr (.inr f))))
abbrev cQ (n : Nat) (f : Nat → Option Nat) : rv_C := .inl (5, n, .inr (.inr (.inr (.inr f))))
abbrev cO (ci : Nat) (fs : List Value) : rv_C := .inr (ci, fs)
theorem nv_in {i n : Nat} (hi : i < n) (hn : n < 2147483648) : vp_in (nI i) n := by
  intro q
  rcases q with q | q
  · exact absurd q (Int32.not_lt.mpr (nI_pos' (by omega)))
  · rw [nI_clamp (by omega)] at q
    omega
section XW
variable {X : rv_X} {y y2 : MethodName} {cc : ByteArray} {d d2 ix : Nat} {cw : Cond} {h h0 : rv_H} {pc : Nat} {L : List (Option Value)} {st stk as : List Value} {Q : rv_O → rv_H → Prop} {F : xF} {A : List Nat} {M : xM} {n m : Nat}
theorem rv_laldR (hX : rv_K X y cc d) {a n : Nat} {f : Nat → Int64} {i : Int32} (hg : rv_rd X.1 h a (cL n f)) (hin : vp_in i n) (dg : decode cc pc = .ok (.laload, 1)) (kk : rv_V X h (pc + 1) L (.long (f i.toNatClampNeg) :: st)) : rv_V X h pc L (.int i :: .ref a :: st) := by
  obtain ⟨G, p, e, R, s, m, args, below, meth, c, Qw⟩ := X
  intro H ls locs hR hL hz
  have hlt : i.toNatClampNeg < n := Nat.not_le.mp fun q => hin (Or.inr q)
  obtain ⟨cell, q1, q2, q3, q4, q6, q7, q5⟩ := rv_rd.at hX.2.2.2.2.1 hR hg
  exact W.lald (v := .long (f i.toNatClampNeg)) hX.1 hX.2.1 q1 (State.isArrayOf_alike hX.2.2.2.2.2.1.alike q4) q3 (fun q => hin (q.elim Or.inl (fun q => Or.inr (Nat.le_trans q6 q)))) (by rw [q5 _ hlt]; show (arrV _ _ _).slots[_]? = _; rw [arrV_read _ _ hlt]) rfl rfl dg (kk H ls locs hR hL hz)
theorem rv_zaldR (hX : rv_K X y cc d) {a n : Nat} {f : Nat → Int32} {i : Int32} (hg : rv_rd X.1 h a (cZ n f)) (hin : vp_in i n) (dg : decode cc pc = .ok (.baload, 1)) (kk : rv_V X h (pc + 1) L (.int (f i.toNatClampNeg) :: st)) : rv_V X h pc L (.int i :: .ref a :: st) := by
  rcases hg with ⟨-, hg⟩ | ⟨h1, h2⟩
  · exact rv_zald hX hg hin dg kk
  · obtain ⟨G, p, e, R, s, m, args, below, meth, c, Qw⟩ := X
    intro H ls locs hR hL hz
    have hlt : i.toNatClampNeg < n := Nat.not_le.mp fun q => hin (Or.inr q)
    obtain ⟨cell, q1, q2, q3, q4, q6, q7, q5⟩ := rv_rd.at hX.2.2.2.2.1 hR (.inr ⟨h1, h2⟩)
    exact W.zald (v := .int (f i.toNatClampNeg)) hX.1 hX.2.1 q1 (State.isArrayOf_alike hX.2.2.2.2.2.1.alike q4) q3 (fun q => hin (q.elim Or.inl (fun q => Or.inr (Nat.le_trans q6 q)))) (by rw [q5 _ hlt]; show (arrV _ _ _).slots[_]? = _; rw [arrV_read _ _ hlt]) rfl rfl dg (kk H ls locs hR hL hz)
/-! reads at a number -/
theorem xv_iald (hX : rv_K X y cc d) {a i n : Nat} {f : Nat → Int32} (hg : rv_rd X.1 h a (cI n f)) (hi : i < n) (hn : n < 2147483648) (dg : decode cc pc = .ok (.iaload, 1)) (kk : rv_V X h (pc + 1) L (.int (f i) :: st)) : rv_V X h pc L (.int (nI i) :: .ref a :: st) := by
  refine rv_ialdR hX hg (nv_in hi hn) dg ?_
  rw [nI_clamp (by omega)]
  exact kk
theorem xv_zald (hX : rv_K X y cc d) {a i n : Nat} {f : Nat → Int32} (hg : rv_rd X.1 h a (cZ n f)) (hi : i < n) (hn : n < 2147483648) (dg : decode cc pc = .ok (.baload, 1)) (kk : rv_V X h (pc + 1) L (.int (f i) :: st)) : rv_V X h pc L (.int (nI i) :: .ref a :: st) := by
  refine rv_zaldR hX hg (nv_in hi hn) dg ?_
  rw [nI_clamp (by omega)]
  exact kk
theorem xv_lald (hX : rv_K X y cc d) {a i n : Nat} {f : Nat → Int64} (hg : rv_rd X.1 h a (cL n f)) (hi : i < n) (hn : n < 2147483648) (dg : decode cc pc = .ok (.laload, 1)) (kk : rv_V X h (pc + 1) L (.long (f i) :: st)) : rv_V X h pc L (.int (nI i) :: .ref a :: st) := by
  refine rv_laldR hX hg (nv_in hi hn) dg ?_
  rw [nI_clamp (by omega)]
  exact kk
theorem xv_aald (hX : rv_K X y cc d) {a i n k : Nat} {f : Nat → Option Nat} (hr : (rv_aty k).isReference = true) (hg : rv_rd X.1 h a (.inl (k, n, .inr (.inr (.inr (.inr f)))))) (hi : i < n) (hn : n < 2147483648) (dg : decode cc pc = .ok (.aaload, 1)) (kk : rv_V X h (pc + 1) L (va_rf (f i) :: st)) : rv_V X h pc L (.int (nI i) :: .ref a :: st) := by
  refine rv_aaldR hX hr hg (nv_in hi hn) dg ?_
  rw [nI_clamp (by omega)]
  exact kk
theorem xv_alen (hX : rv_K X y cc d) {a k n : Nat} {z : (Nat → Int32) ⊕ (Nat → Int64) ⊕ (Nat → UInt32) ⊕ (Nat → UInt64) ⊕ (Nat → Option Nat)} (hg : rv_rd X.1 h a (.inl (k, n, z))) (dg : decode cc pc = .ok (.arraylength, 1)) (kk : rv_V X h (pc + 1) L (.int (nI n) :: st)) : rv_V X h pc L (.ref a :: st) := rv_alenR hX hg dg kk
/-! stores -/
theorem xv_putf (hX : rv_K X y cc d) (hS : xS X.1 F h0 A M n m h) {k a ix ci j : Nat} {fs : List Value} {v : Value} {ty : FieldType} {fin : Bool} (hk : M[k]? = some (a, cO ci fs)) (hf : rv_pf y.cls ix ci j ty fin) (hfin : fin = true → y.name = "<init>") (hl : fs.length = (match rv_cl[ci]? with | some q => q.2.2 | none => 0)) (hn : narrow ty v = v) (hfit : fits ty v = true) (dg : decode cc pc = .ok (.putfield ix, 3)) (kk : ∀ h', xS X.1 F h0 A (M.set k (a, cO ci (fs.set j v))) n m h' → rv_V X h' (pc + 3) L st) : rv_V X h pc L (v :: .ref a :: st) :=
  rv_putf hX hf hfin (hS.mg hk) hl hn hfit dg (kk _ (hS.put hk trivial))
theorem xv_iast (hX : rv_K X y cc d) (hS : xS X.1 F h0 A M n m h) {k a i z : Nat} {f : Nat → Int32} {x : Int32} (hk : M[k]? = some (a, cI z f)) (hi : i < z) (hz : z < 2147483648) (dg : decode cc pc = .ok (.iastore, 1)) (kk : ∀ h', xS X.1 F h0 A (M.set k (a, cI z (va_up f i x))) n m h' → rv_V X h' (pc + 1) L st) : rv_V X h pc L (.int x :: .int (nI i) :: .ref a :: st) := by
  refine rv_iast hX (hS.mg hk) (nv_in hi hz) dg (kk _ ?_)
  rw [nI_clamp (by omega)]
  exact hS.put hk (show 0 < 6 by decide)
theorem xv_zast (hX : rv_K X y cc d) (hS : xS X.1 F h0 A M n m h) {k a i z : Nat} {f : Nat → Int32} {x : Int32} (hk : M[k]? = some (a, cZ z f)) (hx : vp_nar .boolean x = x) (hi : i < z) (hz : z < 2147483648) (dg : decode cc pc = .ok (.bastore, 1)) (kk : ∀ h', xS X.1 F h0 A (M.set k (a, cZ z (va_up f i x))) n m h' → rv_V X h' (pc + 1) L st) : rv_V X h pc L (.int x :: .int (nI i) :: .ref a :: st) := by
  refine rv_zast hX (hS.mg hk) (nv_in hi hz) dg (kk _ ?_)
  rw [nI_clamp (by omega), hx]
  exact hS.put hk (show 2 < 6 by decide)
theorem xv_last (hX : rv_K X y cc d) (hS : xS X.1 F h0 A M n m h) {k a i z : Nat} {f : Nat → Int64} {x : Int64} (hk : M[k]? = some (a, cL z f)) (hi : i < z) (hz : z < 2147483648) (dg : decode cc pc = .ok (.lastore, 1)) (kk : ∀ h', xS X.1 F h0 A (M.set k (a, cL z (va_up f i x))) n m h' → rv_V X h' (pc + 1) L st) : rv_V X h pc L (.long x :: .int (nI i) :: .ref a :: st) := by
  refine rv_last hX (hS.mg hk) (nv_in hi hz) dg (kk _ ?_)
  rw [nI_clamp (by omega)]
  exact hS.put hk (show 1 < 6 by decide)
theorem xv_aast (hX : rv_K X y cc d) (hS : xS X.1 F h0 A M n m h) {k a i z v : Nat} {f : Nat → Option Nat} (hk : M[k]? = some (a, cR z f)) (hv : rv_el X.1 h v) (hi : i < z) (hz : z < 2147483648) (dg : decode cc pc = .ok (.aastore, 1)) (kk : ∀ h', xS X.1 F h0 A (M.set k (a, cR z (va_up f i (some v)))) n m h' → rv_V X h' (pc + 1) L st) : rv_V X h pc L (.ref v :: .int (nI i) :: .ref a :: st) := by
  refine rv_aastO hX (hS.mg hk) hv (nv_in hi hz) dg (kk _ ?_)
  rw [nI_clamp (by omega)]
  exact hS.put hk (show 4 < 6 by decide)
theorem rv_aastN (hX : rv_K X y cc d) {a n : Nat} {f : Nat → Option Nat} {i : Int32} (hg : h.1 a = some (cR n f)) (hin : vp_in i n) (dg : decode cc pc = .ok (.aastore, 1)) (kk : rv_V X (rv_put h a (cR n (va_up f i.toNatClampNeg none))) (pc + 1) L st) : rv_V X h pc L (.null :: .int i :: .ref a :: st) := by
  have hA := rv_A_at hX (k := 4) (by decide)
  obtain ⟨G, p, e, R, s, m, args, below, meth, c, Qw⟩ := X
  intro H ls locs hR hL hz
  obtain ⟨hbb, hca⟩ := hR.2.2.2.1 a _ hg
  refine va_WaastN (C := "java/lang/Object") hX.1 hX.2.1 hca (hA.1 n (fun j => va_rf (f j))) (fun h => by cases h) (by show ¬ (i < 0 ∨ (arrV _ _ _).slots.size ≤ _); rw [arrV_size]; exact hin) rfl rfl dg fun H1 e z oq => ?_
  refine kk H1 ls _ (rv_R_put hR hg z oq ?_ ?_) hL (rv_locs hz hbb)
  · show H1[a]? = some (vp_cell _ _)
    rw [e, vp_cell_q, vp_cell_q, arrV_store]
    congr 2
    funext q
    by_cases hq : q = i.toNatClampNeg
    · subst hq
      simp [updV, va_up, va_rf]
    · simp [updV, va_up, hq]
  · intro x9 x1 hx hx1
    rw [hca] at hx
    rw [e] at hx1
    cases hx
    cases hx1
    exact rv_setSlot_size _ _ _
theorem xv_aastN (hX : rv_K X y cc d) (hS : xS X.1 F h0 A M n m h) {k a i z : Nat} {f : Nat → Option Nat} (hk : M[k]? = some (a, cR z f)) (hi : i < z) (hz : z < 2147483648) (dg : decode cc pc = .ok (.aastore, 1)) (kk : ∀ h', xS X.1 F h0 A (M.set k (a, cR z (va_up f i none))) n m h' → rv_V X h' (pc + 1) L st) : rv_V X h pc L (.null :: .int (nI i) :: .ref a :: st) := by
  refine rv_aastN hX (hS.mg hk) (nv_in hi hz) dg (kk _ ?_)
  rw [nI_clamp (by omega)]
  exact hS.put hk (show 4 < 6 by decide)
/-! new cells -/
theorem xv_new (hX : rv_K X y cc d) (hS : xS X.1 F h0 A M n m h) {ix ci : Nat} {fs : List Value} (hf : rv_nw y.cls ix ci fs) (hn : 1 ≤ n) (hm : fs.length ≤ m) (dg : decode cc pc = .ok (.new ix, 3)) (kk : ∀ a h', xS X.1 F h0 A (M ++ [(a, cO ci fs)]) (n - 1) (m - fs.length) h' → rv_V X h' (pc + 3) L (.ref a :: st)) : rv_V X h pc L st :=
  rv_new hX hf (hS.1.cN hn) (hS.1.cS hm) dg (kk _ _ (hS.add hn hm trivial))
theorem xv_newI (hX : rv_K X y cc d) (hS : xS X.1 F h0 A M n m h) {z : Nat} (hq : (Cond.arrayClass .int) ∈ lw_all) (hz : z < 60000000) (hn : 1 ≤ n) (hm : z ≤ m) (dg : decode cc pc = .ok (.newarray .int, 2)) (kk : ∀ a h', xS X.1 F h0 A (M ++ [(a, cI z (fun _ => 0))]) (n - 1) (m - z) h' → rv_V X h' (pc + 2) L (.ref a :: st)) : rv_V X h pc L (.int (nI z) :: st) :=
  rv_newaG hX (k := 0) (by decide) rfl hq hz (hS.1.cN hn) (hS.1.cS hm) dg (kk _ _ (hS.add hn hm (show 0 < 6 by decide)))
theorem xv_newL (hX : rv_K X y cc d) (hS : xS X.1 F h0 A M n m h) {z : Nat} (hq : (Cond.arrayClass .long) ∈ lw_all) (hz : z < 60000000) (hn : 1 ≤ n) (hm : z ≤ m) (dg : decode cc pc = .ok (.newarray .long, 2)) (kk : ∀ a h', xS X.1 F h0 A (M ++ [(a, cL z (fun _ => 0))]) (n - 1) (m - z) h' → rv_V X h' (pc + 2) L (.ref a :: st)) : rv_V X h pc L (.int (nI z) :: st) :=
  rv_newaG hX (k := 1) (by decide) rfl hq hz (hS.1.cN hn) (hS.1.cS hm) dg (kk _ _ (hS.add hn hm (show 1 < 6 by decide)))
theorem xv_newZ (hX : rv_K X y cc d) (hS : xS X.1 F h0 A M n m h) {z : Nat} (hq : (Cond.arrayClass .boolean) ∈ lw_all) (hz : z < 60000000) (hn : 1 ≤ n) (hm : z ≤ m) (dg : decode cc pc = .ok (.newarray .boolean, 2)) (kk : ∀ a h', xS X.1 F h0 A (M ++ [(a, cZ z (fun _ => 0))]) (n - 1) (m - z) h' → rv_V X h' (pc + 2) L (.ref a :: st)) : rv_V X h pc L (.int (nI z) :: st) :=
  rv_newaG hX (k := 2) (by decide) rfl hq hz (hS.1.cN hn) (hS.1.cS hm) dg (kk _ _ (hS.add hn hm (show 2 < 6 by decide)))
theorem xv_newB (hX : rv_K X y cc d) (hS : xS X.1 F h0 A M n m h) {z : Nat} (hq : (Cond.arrayClass .byte) ∈ lw_all) (hz : z < 60000000) (hn : 1 ≤ n) (hm : z ≤ m) (dg : decode cc pc = .ok (.newarray .byte, 2)) (kk : ∀ a h', xS X.1 F h0 A (M ++ [(a, cB z (fun _ => 0))]) (n - 1) (m - z) h' → rv_V X h' (pc + 2) L (.ref a :: st)) : rv_V X h pc L (.int (nI z) :: st) :=
  rv_newaG hX (k := 3) (by decide) rfl hq hz (hS.1.cN hn) (hS.1.cS hm) dg (kk _ _ (hS.add hn hm (show 3 < 6 by decide)))
theorem xv_newO (hX : rv_K X y cc d) (hS : xS X.1 F h0 A M n m h) {ix z : Nat} (hl : (Cond.classLink y.cls ix "java/lang/Object") ∈ lw_all) (ho : (Cond.arrayOver (.object "java/lang/Object")) ∈ lw_tbl) (hz : z < 60000000) (hn : 1 ≤ n) (hm : z ≤ m) (dg : decode cc pc = .ok (.anewarray ix, 3)) (kk : ∀ a h', xS X.1 F h0 A (M ++ [(a, cR z (fun _ => none))]) (n - 1) (m - z) h' → rv_V X h' (pc + 3) L (.ref a :: st)) : rv_V X h pc L (.int (nI z) :: st) :=
  rv_anewO hX hl ho hz (hS.1.cN hn) (hS.1.cS hm) dg (kk _ _ (hS.add hn hm (show 4 < 6 by decide)))
/-! what may lie in an array of objects -/
theorem xv_el (hS : xS X.1 F h0 A M n m h) {v ci N : Nat} {vs : List Value} {C : String} {T : u_T} (hg : rv_rd X.1 h v (cO ci vs)) (hc : rv_cl[ci]? = some (C, T, N)) (hq : (Cond.castable C "java/lang/Object") ∈ lw_tbl) : rv_el X.1 h v := ⟨C, hq, Or.inl ⟨ci, N, vs, T, hg, hc⟩⟩
/-! copies -/
theorem xv_acpI (hX : rv_K X y cc d) (hS : xS X.1 F h0 A M n m h) {a0 a k n0 n1 sp dp z : Nat} {f g : Nat → Int32} (hl : (Cond.methodLink y.cls ix arraycopyName) ∈ lw_all) (hg0 : rv_rd X.1 h a0 (cI n0 f)) (hk : M[k]? = some (a, cI n1 g)) (h4 : sp + z ≤ n0) (h5 : dp + z ≤ n1) (hb : n0 < 2147483648 ∧ n1 < 2147483648) (hd : 1 ≤ d) (hroom : (st.map fun v => v.category).sum ≤ 8) (dg : decode cc pc = .ok (.invokestatic ix, 3)) (kk : ∀ h', xS X.1 F h0 A (M.set k (a, cI n1 (va_cpy f g sp dp z))) n m h' → rv_V X h' (pc + 3) L st) : rv_V X h pc L (.int (nI z) :: .int (nI dp) :: .ref a :: .int (nI sp) :: .ref a0 :: st) :=
  rv_acpI hX (k := 0) (by decide) hl hg0 (hS.mg hk) h4 h5 hb (fun _ _ => rfl) hd hroom dg (kk _ (hS.put hk (show 0 < 6 by decide)))
theorem xv_acpB (hX : rv_K X y cc d) (hS : xS X.1 F h0 A M n m h) {a0 a k n0 n1 sp dp z : Nat} {f g : Nat → Int32} (hl : (Cond.methodLink y.cls ix arraycopyName) ∈ lw_all) (hg0 : rv_rd X.1 h a0 (cB n0 f)) (hk : M[k]? = some (a, cB n1 g)) (h4 : sp + z ≤ n0) (h5 : dp + z ≤ n1) (hb : n0 < 2147483648 ∧ n1 < 2147483648) (hfit : ∀ i, i < z → fits .byte (.int (f (sp + i))) = true) (hd : 1 ≤ d) (hroom : (st.map fun v => v.category).sum ≤ 8) (dg : decode cc pc = .ok (.invokestatic ix, 3)) (kk : ∀ h', xS X.1 F h0 A (M.set k (a, cB n1 (va_cpy f g sp dp z))) n m h' → rv_V X h' (pc + 3) L st) : rv_V X h pc L (.int (nI z) :: .int (nI dp) :: .ref a :: .int (nI sp) :: .ref a0 :: st) :=
  rv_acpI hX (k := 3) (by decide) hl hg0 (hS.mg hk) h4 h5 hb hfit hd hroom dg (kk _ (hS.put hk (show 3 < 6 by decide)))
theorem xv_acpQ (hX : rv_K X y cc d) (hS : xS X.1 F h0 A M n m h) {a0 a k n0 n1 sp dp z : Nat} {f g : Nat → Option Nat} (hl : (Cond.methodLink y.cls ix arraycopyName) ∈ lw_all) (hg0 : rv_rd X.1 h a0 (cR n0 f)) (hk : M[k]? = some (a, cR n1 g)) (h4 : sp + z ≤ n0) (h5 : dp + z ≤ n1) (hb : n0 < 2147483648 ∧ n1 < 2147483648) (hel : ∀ i, i < z → ∀ v, f (sp + i) = some v → rv_el X.1 h v) (hd : 1 ≤ d) (hroom : (st.map fun v => v.category).sum ≤ 8) (dg : decode cc pc = .ok (.invokestatic ix, 3)) (kk : ∀ h', xS X.1 F h0 A (M.set k (a, cR n1 (va_cpy f g sp dp z))) n m h' → rv_V X h' (pc + 3) L st) : rv_V X h pc L (.int (nI z) :: .int (nI dp) :: .ref a :: .int (nI sp) :: .ref a0 :: st) :=
  rv_acpQ hX hl hg0 (hS.mg hk) h4 h5 hb hel hd hroom dg (kk _ (hS.put hk (show 4 < 6 by decide)))
end XW
