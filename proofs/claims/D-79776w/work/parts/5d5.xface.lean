/-! ROWS: calls by an interface -/
set_option maxRecDepth 100000
/-- a call by an interface's method x that a class's method y2 answers -/
def rv_lf (own : String) (ix : Nat) (x y2 : MethodName) : Prop := (Cond.methodLink own ix x) ∈ lw_all ∧ (Cond.declares x) ∈ lw_tbl ∧ (Cond.interfaceMethod x.cls x.cls x.name x.desc) ∈ lw_tbl ∧ (Cond.publicMethod y2) ∈ lw_tbl ∧ (Cond.unhidden y2.cls x.name x.desc) ∈ lw_tbl ∧ (Cond.castable y2.cls x.cls) ∈ lw_tbl ∧ (Cond.selects y2.cls x y2) ∈ lw_all ∧ (Cond.instanceMethod y2) ∈ lw_all ∧ x.desc = y2.desc ∧ (x.cls ≠ "java/lang/invoke/MethodHandle" ∧ x.cls ≠ "java/lang/invoke/VarHandle")
theorem rv_lfW {X : rv_X} {y x y2 : MethodName} {cc : ByteArray} {d ix : Nat} (hX : rv_K X y cc d) (hl : rv_lf y.cls ix x y2) : va_Fw y2.cls x y2 X.2.2.2.2.1 := by
  obtain ⟨l1, l2, l3, l4, l5, l6, l7, l8, l9, l10⟩ := hl
  obtain ⟨G, p, e, R, s, m, args, below, meth, c, Qw⟩ := X
  obtain ⟨-, -, -, -, ⟨⟨a0, h0, -⟩, -⟩, hW, -⟩ := hX
  exact va_Fw.moved l10 hW.alike (va_Fw.of (h0 _ l2) (h0 _ l3) (h0 _ l4) (h0 _ l5) (h0 _ l6))
section XF
variable {X : rv_X} {y x y2 : MethodName} {cc : ByteArray} {cw : Cond} {d d2 n ix count : Nat} {h : rv_H} {pc : Nat} {L : List (Option Value)} {st stk as : List Value} {Q : rv_O → rv_H → Prop}
theorem rv_invF (hX : rv_K X y cc d) (hl : rv_lf y.cls ix x y2) (hm : rv_md y2 cw n) {b ci : Nat} {fs : List Value} (hg : rv_rd X.1 h b (.inr (ci, fs))) (hci : rv_rc ci y2.cls) (hC : rv_Call X.1 d2 y2 cw (.ref b :: as) h Q) (hd : d2 + 1 ≤ d) (hn : as.length = n) (hst : stk = as.reverse ++ .ref b :: st) (hroom : (st.map fun v => v.category).sum ≤ 8) (dg : decode cc pc = .ok (.invokeinterface ix count, 5)) (kk : ∀ (v : Option Value) (h' : rv_H), Q (.inl v) h' → rv_V X h' (pc + 5) L (v.toList ++ st)) (kx : ∀ (E : String) (h' : rv_H), Q (.inr E) h' → rv_T X h' pc L E) : rv_V X h pc L stk := by
  have hFw := rv_lfW hX hl
  obtain ⟨l1, l2, l3, l4, l5, l6, l7, l8, l9, l10⟩ := hl
  obtain ⟨T9, N9, hc9⟩ := hci
  have hU := rv_U_at hX hc9
  have hlink := rv_words hX l1
  obtain ⟨G, p, e, R, s, m, args, below, meth, c, Qw⟩ := X
  intro H ls locs hR hL hz T0 hT0 XS0
  obtain ⟨hx, hb, hown, hlk, hGK, hW, ⟨hs, hRs, hRc, hRsl⟩, hfr, hlo, -⟩ := hX
  have hs0 : s.heap.size = hs.2.1 := hRs.1
  have hs1 : rv_sz (rv_b G) s.heap = hs.2.2 := hRs.2.2.2.2.1
  have hle : hs.2.1 ≤ h.2.1 := by
    have h9 : s.heap.size ≤ T0.heap.size := XS0.same.2.1
    rw [hT0, hR.1, hs0] at h9
    exact h9
  have hle2 : hs.2.2 ≤ h.2.2 := by
    have e1 := rv_old_sz XS0.same (b := rv_b G) hRs.2.1
    rw [hT0, hR.2.2.2.2.1, hs1] at e1
    omega
  refine rv_tight (k := R.cells) (n := R.slots) hR hRs ?_ T0 hT0 XS0
  intro T hT XS
  subst hT
  obtain ⟨mk, methM, hnamed, hmethM, hlen, hsig⟩ := rv_md_named hGK hm hW
  have hmd := hm
  obtain ⟨nL, -, -, hini, hy, hpd, -⟩ := hm
  have hK := rv_back hGK (R := R) (p := p) (e := e) (below := below) (sargs := args) (len := 5) hmd hW hC (by omega) (by omega)
  have hinst := rv_wordU hGK (a := args) hW l8
  obtain ⟨mk2, methM2, hnamed2, hmethM2, hstM, habM⟩ := Cond.instanceMethod_spec hinst
  cases hnamed.symm.trans hnamed2
  cases hmethM.symm.trans hmethM2
  have hsel := rv_wordU hGK (a := args) hW l7
  obtain ⟨cellB, hcB, hclB, hvB, -⟩ := rv_rd.at hGK hR hg
  have hclsB : s.vm.findClass y2.cls = some cellB.cls := by rw [hclB]; exact hU.2.1
  obtain ⟨kB, hkB, -⟩ := Vm.findClass_spec hclsB
  obtain ⟨w1, w2, w3, w4, w5⟩ := hFw
  have hdecl : (Cond.declares x).before args s = true := va_any rfl w1
  have hface : (Cond.interfaceMethod x.cls x.cls x.name x.desc).before args s = true := va_any rfl w2
  have hpub : (Cond.publicMethod y2).before args s = true := va_any rfl w3
  have hunh : (Cond.unhidden y2.cls x.name x.desc).before args s = true := va_any rfl w4
  have hcast : (Cond.castable y2.cls x.cls).before args s = true := va_any rfl w5
  obtain ⟨r0, r, hnR, hrm, hstR, hsigR⟩ := Cond.declares_spec hdecl
  obtain ⟨cL, kL, r1, hcL, hkL, hiL, hfoundL, hn1⟩ := Cond.interfaceMethod_spec hface
  cases hnR.symm.trans hn1
  have hr0cls : r0.cls = cL := Option.some.inj ((findClass_of_methodNamed hnR).symm.trans hcL)
  obtain ⟨hnameR, hdescR⟩ := name_of_methodNamed hnR hrm
  obtain ⟨c2, r2, m2, q1, q2, q3, q4, -⟩ := Cond.selects_spec hsel
  cases hclsB.symm.trans q1
  cases hfoundL.symm.trans q2
  cases hnamed.symm.trans q3
  have hselP : selectMethod e.platform s.vm cellB.cls r0 = .method mk := by rw [Launch.admits_selectMethod XS.admits]; exact q4
  have hpubM : hasFlag methM.accessFlags Acc.public_ = true := Cond.publicMethod_spec hnamed hmethM hpub
  have hway : ((cellB.cls :: s.vm.superclasses cellB.cls).any fun k => (declaredIn s.vm r.name r.desc k).any fun (_, z) => z.isPrivate || z.isStatic) = false := by
    rw [hnameR, hdescR]; exact Cond.unhidden_spec hclsB hunh
  obtain ⟨c3, t3, u1, u2, u3⟩ := Cond.castable_spec hcast
  cases hclsB.symm.trans u1
  cases hcL.symm.trans u2
  obtain ⟨vm₁, X₁, hstep₁⟩ := XS.invokeinterface hx hown hlink hnR hrm hstR (by rw [hr0cls]; exact hkL) hiL l10 (a := b) (cell := cellB) (kcell := kB) hcB
    (fun z h => by rw [h] at hvB; cases hvB) hkB (by rw [hr0cls]; exact u3) hselP hmethM hway hpubM habM (g := F0 m pc ls stk) rfl (argsL := as) (rest := st) (by rw [hn]; exact hlen _ (by rw [← l9]; exact hsigR)) hst (by rw [hb]; exact dg)
  obtain ⟨t, a1, b1⟩ := rv_goOn X₁ hK hL (by rw [hb]; exact dg) hroom (X₁.named hnamed) (State.WarmedH.trans hW X₁.warmed) hR hRs hRc hRsl hle hle2 hz kk kx
  exact ⟨t, hstep₁ _ (fun acts => by rw [doInvoke_state]; exact a1), b1⟩
end XF
