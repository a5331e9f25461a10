/-! ROWS: calls of methods that a class above declares -/
set_option maxRecDepth 100000
/-- entry ix of class own names x, that owner declares -/
def rv_lu (own : String) (ix : Nat) (x : MethodName) (owner : String) : Prop := (Cond.methodLink own ix x) ∈ lw_all ∧ (Cond.sameMethod x.cls owner x.name x.desc) ∈ lw_all ∧ (Cond.declares ⟨owner, x.name, x.desc⟩) ∈ lw_tbl ∧ (owner ≠ "java/lang/invoke/MethodHandle" ∧ owner ≠ "java/lang/invoke/VarHandle")
theorem rv_luW {X : rv_X} {y x : MethodName} {cc : ByteArray} {d ix : Nat} {owner : String} (hX : rv_K X y cc d) (hl : rv_lu y.cls ix x owner) : va_Decl X.2.2.2.2.1 ⟨owner, x.name, x.desc⟩ := by
  obtain ⟨l1, l2, l3, l4⟩ := hl
  obtain ⟨G, p, e, R, s, m, args, below, meth, c, Qw⟩ := X
  obtain ⟨-, -, -, -, ⟨⟨a0, h0, -⟩, -⟩, hW, -⟩ := hX
  exact va_Decl.abs (va_Nw.warmD hW (va_Nw.of rfl (h0 _ l3)))
section XU
variable {X : rv_X} {y x y2 : MethodName} {cc : ByteArray} {cw : Cond} {d d2 n ix : Nat} {h : rv_H} {pc : Nat} {L : List (Option Value)} {st stk as : List Value} {Q : rv_O → rv_H → Prop} {owner C : String}
theorem rv_invU (hX : rv_K X y cc d) (hl : rv_lu y.cls ix x owner) (hse : (Cond.selects C x y2) ∈ lw_all) (hin : (Cond.instanceMethod y2) ∈ lw_all) (hds : x.desc = y2.desc) (hm : rv_md y2 cw n) {b ci : Nat} {fs : List Value} (hg : rv_rd X.1 h b (.inr (ci, fs))) (hci : rv_rc ci C) (hC : rv_Call X.1 d2 y2 cw (.ref b :: as) h Q) (hd : d2 + 1 ≤ d) (hn : as.length = n) (hst : stk = as.reverse ++ .ref b :: st) (hroom : (st.map fun v => v.category).sum ≤ 8) (dg : decode cc pc = .ok (.invokevirtual ix, 3)) (kk : ∀ (v : Option Value) (h' : rv_H), Q (.inl v) h' → rv_V X h' (pc + 3) L (v.toList ++ st)) (kx : ∀ (E : String) (h' : rv_H), Q (.inr E) h' → rv_T X h' pc L E) : rv_V X h pc L stk := by
  have hdecl := rv_luW hX hl
  obtain ⟨l1, l2, l3, l4⟩ := hl
  obtain ⟨T9, N9, hc9⟩ := hci
  have hU := rv_U_at hX hc9
  have w1 := rv_words hX l1
  have w2 := rv_words hX l2
  obtain ⟨G, p, e, R, s, m, args, below, meth, c, Qw⟩ := X
  intro H ls locs hR hL hz T0 hT0 XS0
  obtain ⟨hx, hb, hown, hlk, hGK, hW, ⟨hs, hRs, hRc, hRsl⟩, hfr, hlo, -⟩ := hX
  have hs0 : s.heap.size = hs.2.1 := hRs.1
  have hs1 : rv_sz (rv_b G) s.heap = hs.2.2 := hRs.2.2.2.2.1
  have hle : hs.2.1 ≤ h.2.1 := by
    have h9 : s.heap.size ≤ T0.heap.size := XS0.same.2.1
    rw [hT0, hR.1, hs0] at h9
    exact h9
  have hle2 : hs.2.2 ≤ h.2.2 := by
    have e1 := rv_old_sz XS0.same (b := rv_b G) hRs.2.1
    rw [hT0, hR.2.2.2.2.1, hs1] at e1
    omega
  refine rv_tight (k := R.cells) (n := R.slots) hR hRs ?_ T0 hT0 XS0
  intro T hT XS
  subst hT
  obtain ⟨mk, methM, hnamed, hmethM, hlen, hsig⟩ := rv_md_named hGK hm hW
  have hmd := hm
  obtain ⟨nL, -, -, hini, hy, -, -⟩ := hm
  have hK := rv_back hGK (R := R) (p := p) (e := e) (below := below) (sargs := args) (len := 3) hmd hW hC (by omega) (by omega)
  have hinst := rv_wordU hGK (a := args) hW hin
  obtain ⟨mk2, methM2, hnamed2, hmethM2, hstM, habM⟩ := Cond.instanceMethod_spec hinst
  cases hnamed.symm.trans hnamed2
  cases hmethM.symm.trans hmethM2
  have hsel := rv_wordU hGK (a := args) hW hse
  obtain ⟨cellB, hcB, hclB, hvB, -⟩ := rv_rd.at hGK hR hg
  have hclsB : s.vm.findClass C = some cellB.cls := by rw [hclB]; exact hU.2.1
  obtain ⟨r0, r, hnR, hrm, hstR, hsigR⟩ := hdecl
  obtain ⟨cn, ck, r1, hcn, hck, hni, hf, hn1⟩ := Cond.sameMethod_found w2
  cases hnR.symm.trans hn1
  obtain ⟨c2, r2, m2, q1, q2, q3, q4, kP, hkP, hkPi⟩ := Cond.selects_spec hsel
  cases hclsB.symm.trans q1
  cases hf.symm.trans q2
  cases hnamed.symm.trans q3
  have hselP : selectMethod e.platform s.vm cellB.cls r0 = .method mk := by rw [Launch.admits_selectMethod XS.admits]; exact q4
  obtain ⟨vm₁, X₁, hstep₁⟩ := XS.invokevirtualUp hx hown w1 w2 l4 hnR hrm hstR (a := b) (cell := cellB) hcB
    (fun z h => by rw [h] at hvB; cases hvB) hselP hmethM habM hkP hkPi (g := F0 m pc ls stk) rfl (argsL := as) (rest := st) (by rw [hn]; exact hlen _ (by rw [← hds]; exact hsigR)) hst (by rw [hb]; exact dg)
  obtain ⟨t, a1, b1⟩ := rv_goOn X₁ hK hL (by rw [hb]; exact dg) hroom (X₁.named hnamed) (State.WarmedH.trans hW X₁.warmed) hR hRs hRc hRsl hle hle2 hz kk kx
  exact ⟨t, hstep₁ _ (fun acts => by rw [doInvoke_state]; exact a1), b1⟩
end XU
