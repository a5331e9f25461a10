/-! READS OF CELLS, new ones and old ones (printed by tools/gen_reads.py) -/
set_option maxRecDepth 100000
/-- a cell holds this, as far as reads tell -/
def rv_ato (G : rv_G) (a : Nat) (c : rv_C) (H : Heap) : Prop := match c with
  | .inl x => ∃ cell : Cell, H[a]? = some cell ∧ cell.vm.isStatics = false ∧ cell.vm ≠ .unknown ∧ G.2.1.isArrayOf cell (rv_aty x.1) ∧ x.2.1 ≤ cell.slots.size ∧ cell.slots.size.toInt32 = nI x.2.1 ∧ ∀ j, j < x.2.1 → cell.slots[j]? = (vp_cell 0 x.2).slots[j]?
  | .inr o => ∃ cell : Cell, H[a]? = some cell ∧ cell.cls = G.2.2.1.1 o.1 ∧ cell.vm.isStatics = false ∧ cell.vm ≠ .unknown ∧ ∀ k, k < o.2.length → cell.slots[G.2.2.1.2 o.1 k]? = some (vp_V o.2 k)
/-- a cell that stood at the law's start: it never changes -/
def rv_old (G : rv_G) (a : Nat) (c : rv_C) : Prop := a < rv_b G ∧ rv_ato G a c G.2.1.heap
def rv_k6 (c : rv_C) : Prop := match c with
  | .inl x => x.1 < 6
  | .inr _ => True
/-- a cell that can be read: a new one or an old one -/
def rv_rd (G : rv_G) (h : rv_H) (a : Nat) (c : rv_C) : Prop := (rv_k6 c ∧ h.1 a = some c) ∨ rv_old G a c
theorem rv_rd.n {G : rv_G} {h : rv_H} {a : Nat} {c : rv_C} (hk : rv_k6 c) (hg : h.1 a = some c) : rv_rd G h a c := Or.inl ⟨hk, hg⟩
theorem rv_rd.o {G : rv_G} {h : rv_H} {a : Nat} {x : Nat × List Value} (hg : h.1 a = some (.inr x)) : rv_rd G h a (.inr x) := Or.inl ⟨trivial, hg⟩
theorem rv_rd.at {G : rv_G} {h : rv_H} {H : Heap} {a : Nat} {c : rv_C} (hG : rv_GK G) (hR : rv_R G h H) (hg : rv_rd G h a c) : rv_ato G a c H := by
  rcases hg with ⟨hk, hg⟩ | ⟨h1, h2⟩
  · have h2 := (hR.2.2.2.1 a c hg).2
    cases c with
    | inl x =>
      refine ⟨_, h2, ?_, ?_, ?_, ?_, ?_, ?_⟩
      · obtain ⟨k, n, f | f | f | f | f⟩ := x <;> rfl
      · obtain ⟨k, n, f | f | f | f | f⟩ := x <;> exact fun h => by cases h
      · have hA := (hG.2.1 x.1 hk).1
        obtain ⟨k, n, f | f | f | f | f⟩ := x
        · exact hA n (fun j => .int (f j))
        · exact hA n (fun j => .long (f j))
        · exact hA n (fun j => .float (f j))
        · exact hA n (fun j => .double (f j))
        · exact hA n (fun j => va_rf (f j))
      · obtain ⟨k, n, f | f | f | f | f⟩ := x <;> (show n ≤ (arrV _ _ _).slots.size; rw [arrV_size]; exact Nat.le_refl _)
      · obtain ⟨k, n, f | f | f | f | f⟩ := x <;> (show (arrV _ _ _).slots.size.toInt32 = _; rw [arrV_size] <;> rfl)
      · intro j hj
        obtain ⟨k, n, f | f | f | f | f⟩ := x <;> rfl
    | inr o =>
      obtain ⟨cell, q1, q2, q3, q4⟩ := h2
      exact ⟨cell, q1, q2, (by rw [q3]; rfl), (by rw [q3]; exact fun h => (by cases h)), q4⟩
  · have hq := hR.2.2.1 a h1
    cases c with
    | inl x =>
      obtain ⟨cell, q1, q2⟩ := h2
      exact ⟨cell, hq.trans q1, q2⟩
    | inr o =>
      obtain ⟨cell, q1, q2⟩ := h2
      exact ⟨cell, hq.trans q1, q2⟩
section XR
variable {X : rv_X} {y y2 : MethodName} {cc : ByteArray} {d d2 n ix : Nat} {cw : Cond} {h : rv_H} {pc : Nat} {L : List (Option Value)} {st stk as : List Value} {Q : rv_O → rv_H → Prop}
theorem rv_ialdR (hX : rv_K X y cc d) {a n : Nat} {f : Nat → Int32} {i : Int32} (hg : rv_rd X.1 h a (.inl (0, n, .inl f))) (hin : vp_in i n) (dg : decode cc pc = .ok (.iaload, 1)) (kk : rv_V X h (pc + 1) L (.int (f i.toNatClampNeg) :: st)) : rv_V X h pc L (.int i :: .ref a :: st) := by
  obtain ⟨G, p, e, R, s, m, args, below, meth, c, Qw⟩ := X
  intro H ls locs hR hL hz
  have hlt : i.toNatClampNeg < n := Nat.not_le.mp fun q => hin (Or.inr q)
  obtain ⟨cell, q1, q2, q3, q4, q6, q7, q5⟩ := rv_rd.at hX.2.2.2.2.1 hR hg
  exact W.iald (v := .int (f i.toNatClampNeg)) hX.1 hX.2.1 q1 (State.isArrayOf_alike hX.2.2.2.2.2.1.alike q4) q3 (fun q => hin (q.elim Or.inl (fun q => Or.inr (Nat.le_trans q6 q)))) (by rw [q5 _ hlt]; show (arrV _ _ _).slots[_]? = _; rw [arrV_read _ _ hlt]) rfl rfl dg (kk H ls locs hR hL hz)
theorem rv_baldR (hX : rv_K X y cc d) {a n : Nat} {f : Nat → Int32} {i : Int32} (hg : rv_rd X.1 h a (.inl (3, n, .inl f))) (hin : vp_in i n) (dg : decode cc pc = .ok (.baload, 1)) (kk : rv_V X h (pc + 1) L (.int (f i.toNatClampNeg) :: st)) : rv_V X h pc L (.int i :: .ref a :: st) := by
  obtain ⟨G, p, e, R, s, m, args, below, meth, c, Qw⟩ := X
  intro H ls locs hR hL hz
  have hlt : i.toNatClampNeg < n := Nat.not_le.mp fun q => hin (Or.inr q)
  obtain ⟨cell, q1, q2, q3, q4, q6, q7, q5⟩ := rv_rd.at hX.2.2.2.2.1 hR hg
  exact W.bald (v := .int (f i.toNatClampNeg)) hX.1 hX.2.1 q1 (State.isArrayOf_alike hX.2.2.2.2.2.1.alike q4) q3 (fun q => hin (q.elim Or.inl (fun q => Or.inr (Nat.le_trans q6 q)))) (by rw [q5 _ hlt]; show (arrV _ _ _).slots[_]? = _; rw [arrV_read _ _ hlt]) rfl rfl dg (kk H ls locs hR hL hz)
theorem rv_aaldR (hX : rv_K X y cc d) {a n k : Nat} {f : Nat → Option Nat} {i : Int32} (hr : (rv_aty k).isReference = true) (hg : rv_rd X.1 h a (.inl (k, n, .inr (.inr (.inr (.inr f)))))) (hin : vp_in i n) (dg : decode cc pc = .ok (.aaload, 1)) (kk : rv_V X h (pc + 1) L (va_rf (f i.toNatClampNeg) :: st)) : rv_V X h pc L (.int i :: .ref a :: st) := by
  obtain ⟨G, p, e, R, s, m, args, below, meth, c, Qw⟩ := X
  intro H ls locs hR hL hz
  have hlt : i.toNatClampNeg < n := Nat.not_le.mp fun q => hin (Or.inr q)
  obtain ⟨cell, q1, q2, q3, q4, q6, q7, q5⟩ := rv_rd.at hX.2.2.2.2.1 hR hg
  exact W.aald (v := va_rf (f i.toNatClampNeg)) hX.1 hX.2.1 q1 (State.isArrayOf_alike hX.2.2.2.2.2.1.alike q4) hr q3 (fun q => hin (q.elim Or.inl (fun q => Or.inr (Nat.le_trans q6 q)))) (by rw [q5 _ hlt]; show (arrV _ _ _).slots[_]? = _; rw [arrV_read _ _ hlt]) rfl rfl dg (kk H ls locs hR hL hz)
theorem rv_alenR (hX : rv_K X y cc d) {a k : Nat} {x : vp_A} (hg : rv_rd X.1 h a (.inl (k, x))) (dg : decode cc pc = .ok (.arraylength, 1)) (kk : rv_V X h (pc + 1) L (.int (nI x.1) :: st)) : rv_V X h pc L (.ref a :: st) := by
  obtain ⟨G, p, e, R, s, m, args, below, meth, c, Qw⟩ := X
  intro H ls locs hR hL hz
  obtain ⟨cell, q1, q2, q3, q4, q6, q7, q5⟩ := rv_rd.at hX.2.2.2.2.1 hR hg
  exact W.alen (n := Int32.ofNat x.1) hX.1 hX.2.1 q1 (State.isArrayOf_alike hX.2.2.2.2.2.1.alike q4) q7 rfl rfl dg (kk H ls locs hR hL hz)
theorem rv_castOR (hX : rv_K X y cc d) {a ci ix N : Nat} {fs : List Value} {C : String} {T : u_T} (hg : rv_rd X.1 h a (.inr (ci, fs))) (hc : rv_cl[ci]? = some (C, T, N)) (hl : (Cond.classLink y.cls ix C) ∈ lw_all) (dg : decode cc pc = .ok (.checkcast ix, 3)) (kk : rv_V X h (pc + 3) L (.ref a :: st)) : rv_V X h pc L (.ref a :: st) := by
  have hw := rv_words hX hl
  have hU := rv_U_at hX hc
  obtain ⟨G, p, e, R, s, m, args, below, meth, c, Qw⟩ := X
  intro H ls locs hR hL hz
  obtain ⟨cell, q1, q2, q3, -⟩ := rv_rd.at hX.2.2.2.2.1 hR hg
  exact va_castS hX.1 hX.2.1 hX.2.2.1 hw hU.2 ⟨cell, q1, q3, by rw [q2]; exact hU.2.1⟩ dg (kk H ls locs hR hL hz)
theorem rv_getfR {X : rv_X} {y : MethodName} {cc : ByteArray} {d : Nat} (hX : rv_K X y cc d) {h : rv_H} {pc : Nat} {L : List (Option Value)} {st : List Value} {a ix ci k : Nat} {fs : List Value} {v : Value} (hf : rv_gf y.cls ix ci k) (hg : rv_rd X.1 h a (.inr (ci, fs))) (hv : fs[k]? = some v) (dg : decode cc pc = .ok (.getfield ix, 3)) (kk : rv_V X h (pc + 3) L (v :: st)) : rv_V X h pc L (.ref a :: st) := by
  obtain ⟨C, T, N, ref, hc, hin, hk, hl, hsm⟩ := hf
  have hw := fun w (q : w ∈ lw_all) => rv_words hX q
  have hU := rv_U_at hX hc
  have hnest := fun host (q : (Cond.fieldLinkNest y.cls ix ref (T k).2.1 (T k).2.2.1 host) ∈ lw_tbl) => rv_nestF hX q
  obtain ⟨G, p, e, R, s, m, args, below, meth, c, Qw⟩ := X
  intro H ls locs hR hL hz
  obtain ⟨hS, hfc, kC, hkC, hkind⟩ := hU
  obtain ⟨cf, kf, fi, f, hi, hsl⟩ := hS k hk
  obtain ⟨cell, q1, q2, q30, q3, q4⟩ := rv_rd.at hX.2.2.2.2.1 hR hg
  have hst := (u_facts hfc hkC (u_lays hw hin hk) hi).1
  have hi2 : s.fieldFound? ref (T k).2.1 (T k).2.2.1 = some (cf, kf, fi, f) := by
    rcases hsm with e | e
    · rw [e]; exact hi
    · exact u_same (hw _ e) _ hi
  have hkl : k < fs.length := (List.getElem?_eq_some_iff.mp hv).1
  have hs2 : cell.slots[f.slot]? = some v := by
    rw [hsl]
    refine (q4 k hkl).trans ?_
    simp [vp_V, hv]
  rcases hl with hl | ⟨host, hl⟩
  · exact W.getf hX.1 hX.2.1 hX.2.2.1 (hw _ hl) hi2 hst q1 q3 hs2 rfl rfl dg (kk H ls locs hR hL hz)
  · exact va_Wgetf hX.1 hX.2.1 hX.2.2.1 (hnest host hl) hi2 hst q1 q3 hs2 rfl rfl dg (kk H ls locs hR hL hz)
theorem rv_invVR (hX : rv_K X y cc d) (hl : rv_lv y.cls ix y2) (hm : rv_md y2 cw n) {b ci : Nat} {fs : List Value} (hg : rv_rd X.1 h b (.inr (ci, fs))) (hci : rv_rc ci y2.cls) (hC : rv_Call X.1 d2 y2 cw (.ref b :: as) h Q) (hd : d2 + 1 ≤ d) (hn : as.length = n) (hst : stk = as.reverse ++ .ref b :: st) (hroom : (st.map fun v => v.category).sum ≤ 8) (dg : decode cc pc = .ok (.invokevirtual ix, 3)) (kk : ∀ (v : Option Value) (h' : rv_H), Q (.inl v) h' → rv_V X h' (pc + 3) L (v.toList ++ st)) (kx : ∀ (E : String) (h' : rv_H), Q (.inr E) h' → rv_T X h' pc L E) : rv_V X h pc L stk := by
  obtain ⟨hl, hi, hse⟩ := hl
  have hnest := fun host (q : (Cond.methodLinkNest y.cls ix y2 host) ∈ lw_tbl) => rv_nestM hX q
  obtain ⟨T9, N9, hc9⟩ := hci
  have hU := rv_U_at hX hc9
  obtain ⟨G, p, e, R, s, m, args, below, meth, c, Qw⟩ := X
  intro H ls locs hR hL hz T0 hT0 XS0
  obtain ⟨hx, hb, hown, hlk, hGK, hW, ⟨hs, hRs, hRc, hRsl⟩, hfr, hlo, -⟩ := hX
  have hs0 : s.heap.size = hs.2.1 := hRs.1
  have hs1 : rv_sz (rv_b G) s.heap = hs.2.2 := hRs.2.2.2.2.1
  have hle : hs.2.1 ≤ h.2.1 := by
    have h9 : s.heap.size ≤ T0.heap.size := XS0.same.2.1
    rw [hT0, hR.1, hs0] at h9
    exact h9
  have hle2 : hs.2.2 ≤ h.2.2 := by
    have e1 := rv_old_sz XS0.same (b := rv_b G) hRs.2.1
    rw [hT0, hR.2.2.2.2.1, hs1] at e1
    omega
  refine rv_tight (k := R.cells) (n := R.slots) hR hRs ?_ T0 hT0 XS0
  intro T hT XS
  subst hT
  obtain ⟨mk, methM, hnamed, hmethM, hlen, hsig⟩ := rv_md_named hGK hm hW
  have hmd := hm
  obtain ⟨nL, -, -, hini, hy, -, -⟩ := hm
  obtain ⟨kP, hkP, -⟩ := className_of_methodNamed hnamed
  have hinitP : kP.init = .initialized := Cond.initialized_spec (findClass_of_methodNamed hnamed) hkP (rv_wordU hGK (a := args) hW hini)
  have hK := rv_back hGK (R := R) (p := p) (e := e) (below := below) (sargs := args) (len := 3) hmd hW hC (by omega) (by omega)
  have hinst := rv_wordU hGK (a := args) hW hi
  obtain ⟨mk2, methM2, hnamed2, hmethM2, hstM, habM⟩ := Cond.instanceMethod_spec hinst
  cases hnamed.symm.trans hnamed2
  cases hmethM.symm.trans hmethM2
  have hsel := rv_wordU hGK (a := args) hW hse
  obtain ⟨c2, r2, m2, q1, q2, q3, q4, kP2, hkP2, hkPi⟩ := Cond.selects_spec hsel
  obtain ⟨cellB, hcB, hclB, hvB, -⟩ := rv_rd.at hGK hR hg
  have hclsB : s.vm.findClass y2.cls = some cellB.cls := by rw [hclB]; exact hU.2.1
  cases hclsB.symm.trans q1
  cases (State.methodFound?_of_named hnamed hy).symm.trans q2
  cases hnamed.symm.trans q3
  have hselP : selectMethod e.platform s.vm cellB.cls mk = .method mk := by rw [Launch.admits_selectMethod XS.admits]; exact q4
  rcases hl with hl | ⟨host, hl⟩
  · obtain ⟨vm₁, X₁, hstep₁⟩ := XS.invokevirtual hx hown (rv_wordU hGK hW hl) hnamed hmethM hstM hkP2 hkPi hy (a := b) (cell := cellB) hcB (fun z h => by rw [h] at hvB; cases hvB) hselP hmethM habM hkP2 hkPi (g := F0 m pc ls stk) rfl (argsL := as) (rest := st) (hn.trans (hlen _ hsig)) hst (by rw [hb]; exact dg)
    obtain ⟨t, a1, b1⟩ := rv_goOn X₁ hK hL (by rw [hb]; exact dg) hroom (X₁.named hnamed) (State.WarmedH.trans hW X₁.warmed) hR hRs hRc hRsl hle hle2 hz kk kx
    exact ⟨t, hstep₁ _ (fun acts => by rw [doInvoke_state]; exact a1), b1⟩
  · obtain ⟨vm₁, X₁, hstep₁⟩ := XS.invokevirtualNest hx hown (hnest host hl) hnamed hmethM hstM hkP2 hkPi hy (a := b) (cell := cellB) hcB (fun z h => by rw [h] at hvB; cases hvB) hselP hmethM habM hkP2 hkPi (g := F0 m pc ls stk) rfl (argsL := as) (rest := st) (hn.trans (hlen _ hsig)) hst (by rw [hb]; exact dg)
    obtain ⟨t, a1, b1⟩ := rv_goOn X₁ hK hL (by rw [hb]; exact dg) hroom (X₁.named hnamed) (State.WarmedH.trans hW X₁.warmed) hR hRs hRc hRsl hle hle2 hz kk kx
    exact ⟨t, hstep₁ _ (fun acts => by rw [doInvoke_state]; exact a1), b1⟩
end XR
