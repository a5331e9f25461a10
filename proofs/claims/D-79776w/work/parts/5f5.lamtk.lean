/-! ROWS: a lambda as the matcher calls it (printed by tools/gen_lamtk.py) -/
set_option maxRecDepth 100000
set_option maxHeartbeats 2000000
theorem rv_lamTkA {X : rv_X} {d d2 : Nat} (hX : rv_K X yX9_go cX9_go d) {k : Nat} {x : MethodName} {pc0 ix0 : Nat} {σ : Lambda.Shape} (hL9 : rv_LKs X.1 k x pc0 ix0 σ) (hσ : σ.iface = "Rulehearth$Taker" ∧ σ.name = "take" ∧ σ.sam.toString = "([I[I)Z") {tys : Array FieldType} {y2 : MethodName} (hM : lamOf x.cls σ tys y2.cls y2.name y2.desc lm1_code 27 [17, 19]) (hpl : plainName (x.cls ++ "$$Lambda") = true)
    {tk vr fr : Nat} {b ci : Nat} {fs : List Value} {v2 : Value} {h : rv_H} {L : List (Option Value)} {st : List Value} (htk : rv_rd X.1 h tk (.inr (k, [.ref b, v2]))) {cw : Cond} {Q : rv_O → rv_H → Prop} (hm : rv_md y2 cw 3) (hi : (Cond.instanceMethod y2) ∈ lw_all) (hse : (Cond.selects y2.cls y2 y2) ∈ lw_all) (hg : rv_rd X.1 h b (.inr (ci, fs))) (hci : rv_rc ci y2.cls) (hC : rv_Call X.1 d2 y2 cw [.ref b, v2, .ref vr, .ref fr] h Q) (hd : d2 + 3 ≤ d) (hpoly : y2.cls ≠ "java/lang/invoke/MethodHandle" ∧ y2.cls ≠ "java/lang/invoke/VarHandle") (hQv : ∀ v h', Q (.inl v) h' → ∃ z : Bool, v = some (.int (rv_z z))) (hroom : (st.map fun v => v.category).sum ≤ 8)
    (kk : ∀ (v : Option Value) (h' : rv_H), Q (.inl v) h' → rv_V X h' 38 L (v.toList ++ st)) (kx : ∀ (E : String) (h' : rv_H), Q (.inr E) h' → rv_T X h' 33 L E) : rv_V X h 33 L (.ref fr :: .ref vr :: .ref tk :: st) := by
  have hFw := rv_lfW hX jf_X8
  have hlink := rv_words hX q934
  obtain ⟨G, p, e, R, s, m, args, below, meth, c, Qw⟩ := X
  intro H ls locs hR hL hz T0 hT0 XS0
  obtain ⟨hx, hb, hown, hlk, hGK, hW, ⟨hs, hRs, hRc, hRsl⟩, hfr, hlo, -⟩ := hX
  have hs0 : s.heap.size = hs.2.1 := hRs.1
  have hs1 : rv_sz (rv_b G) s.heap = hs.2.2 := hRs.2.2.2.2.1
  have hle : hs.2.1 ≤ h.2.1 := by
    have h9 : s.heap.size ≤ T0.heap.size := XS0.same.2.1
    rw [hT0, hR.1, hs0] at h9
    exact h9
  have hle2 : hs.2.2 ≤ h.2.2 := by
    have e1 := rv_old_sz XS0.same (b := rv_b G) hRs.2.1
    rw [hT0, hR.2.2.2.2.1, hs1] at e1
    omega
  refine rv_tight (k := R.cells) (n := R.slots) hR hRs ?_ T0 hT0 XS0
  intro T hT XS
  subst hT
  have hslot := hL9.2
  obtain ⟨hmade, hcan, m', d9, hisM, -⟩ := hL9.at hGK hW hM
  obtain ⟨kK, tk9, methk, ck, t0, t9, file, ci9, nt9, ⟨hkK, hkind, hty, hkn⟩, ⟨hmk, hck, hbytes, hml, hex, hlkK, hfl, hretk⟩, -, -, -⟩ := id hmade
  obtain ⟨cK, hcK, hclK, hvK, hknK, hsl⟩ := rv_rd.at hGK hR htk
  have hclK : cK.cls = G.2.2.1.1 k := hclK
  obtain ⟨w1, w2, -, -, -⟩ := hFw
  have hdecl : (Cond.declares yTk).before args s = true := va_any rfl w1
  have hface : (Cond.interfaceMethod yTk.cls yTk.cls yTk.name yTk.desc).before args s = true := va_any rfl w2
  obtain ⟨r0, r, hnR, hrm, hstR, hsigR⟩ := Cond.declares_spec hdecl
  obtain ⟨cL, kL, r1, hcL, hkL, hiL, hfoundL, hn1⟩ := Cond.interfaceMethod_spec hface
  cases hnR.symm.trans hn1
  have hr0cls : r0.cls = cL := Option.some.inj ((findClass_of_methodNamed hnR).symm.trans hcL)
  obtain ⟨hnameR, hdescR⟩ := name_of_methodNamed hnR hrm
  obtain ⟨-, -, -, -, -, -, -, iface', -, -, -, -, found, -, -, -, -, -, hi', -, -, -, -, -, -, hfound', -, -, -, -, -, -, -, -, -, -, hsel⟩ := Lambda.isMade_spec hisM
  obtain ⟨hσ1, hσ2, hσ3⟩ := hσ
  rw [hσ1] at hi'
  cases hcL.symm.trans hi'
  rw [hσ2, hσ3] at hfound'
  have hfr9 : found = r0 := by
    have h1 : s.methodFound? "Rulehearth$Taker" "take" "([I[I)Z" = some r0 := hfoundL
    have hcL' : s.vm.findClass "Rulehearth$Taker" = some cL := hcL
    simp only [State.methodFound?, hcL', hkL, hiL, Option.bind_eq_bind, Option.bind_some] at h1
    rw [hfound'] at h1
    exact Option.some.inj h1
  subst hfr9
  obtain ⟨i2, hi2, hasg, hway⟩ := State.lambdaCallable_spec hcan
  rw [hσ1] at hi2
  cases hcL.symm.trans hi2
  rw [hσ2, hσ3] at hway
  have hselP : selectMethod e.platform s.vm cK.cls found = .method ⟨G.2.2.1.1 k, 1⟩ := by rw [Launch.admits_selectMethod XS.admits, hclK]; exact hsel
  have hsp : parseMethodDescriptor yTk.desc = some ⟨[.array .int, .array .int], some .boolean⟩ := by decide +kernel
  have hpar : r.sig.parameters = [.array .int, .array .int] := by
    have h9 := hsigR
    rw [hsp] at h9
    rw [← Option.some.inj h9]
  obtain ⟨vm₁, X₁, hstep₁⟩ := XS.invokeinterface hx hown hlink hnR hrm hstR (by rw [hr0cls]; exact hkL) hiL (by decide) (a := tk) (cell := cK) (kcell := kK) hcK
    (fun z h9 => by rw [h9] at hvK; cases hvK) (by rw [hclK]; exact hkK) (by rw [hr0cls, hclK]; exact hasg) hselP hmk (by rw [hnameR, hdescR, hclK]; exact hway) (by rw [hfl]; decide) (by simp [Method.isAbstract, hfl, hasFlag, Acc.abstract]) (g := F0 m 33 ls (.ref fr :: .ref vr :: .ref tk :: st)) rfl (argsL := [.ref vr, .ref fr]) (rest := st) (by rw [hpar]; rfl) rfl (by rw [hb]; exact dX9_go_33)
  have hW1 : G.2.1.WarmedH (T.setVm vm₁).vm := State.WarmedH.trans hW X₁.warmed
  obtain ⟨hmade1, -, -, -, -, -⟩ := hL9.at hGK hW1 hM
  obtain ⟨kK1, tk1, methk1, ck1, -, -, -, -, -, ⟨hkK1, -, -, hkn1⟩, ⟨hmk1, hck1, hbytes1, hml1, hex1, hlkK1, hfl1, hretk1⟩, -, -, -⟩ := hmade1
  have hpk : (T.setVm vm₁).plainMethod ⟨G.2.2.1.1 k, 1⟩ := State.plainMethod.of_name (fun k' hk' => by cases hkK1.symm.trans hk'; rw [hkn1]; exact hpl)
  obtain ⟨t, a1, b1⟩ := rv_into (as := [.ref tk, .ref vr, .ref fr]) (Q := Q) (Qw := Qw) X₁ hL (show decode c.code 33 = _ from by rw [hb]; exact dX9_go_33) hroom hmk1 hck1 hlkK1 hpk (by rw [hml1]; decide) hR hRs hRc hRsl hle hle2 hz (by omega) (by omega)
    (fun R' s' U₀ e1 e2 e3 e4 e5 e6 e7 e8 Y₀ => by
      have hW' : G.2.1.WarmedH s'.vm := by rw [e6]; exact hW1
      have hh5 : s'.heap = T.heap := e5
      have hh7 : U₀.heap = T.heap := e7
      obtain ⟨hmade2, -, -, -, -, -⟩ := hL9.at hGK hW' hM
      obtain ⟨-, -, -, -, -, -, -, -, -, -, -, -, -, hfld⟩ := id hmade2
      have hLs : rv_L ck1.maxLocals (lmL tk vr fr) (rv_in [.ref tk, .ref vr, .ref fr] 3) := by
        rw [hml1]
        exact rv_in_L (as := [.ref tk, .ref vr, .ref fr]) (n := 3) (Nat.le_of_ble_eq_true rfl)
      obtain ⟨t, a1, b1⟩ := lam_goV hGK (as2 := [v2, .ref vr, .ref fr]) (L := rv_in [.ref tk, .ref vr, .ref fr] 3) (ls := lmL tk vr fr) (h := h) (pcc := 10) (mk := ⟨G.2.2.1.1 k, 1⟩) (Q := Q) Y₀ hx (by rw [hh7, hh5]) (by rw [e8, e6]) hW' hmade2 rfl hLs hm hi hse hg hci hC rfl (by rw [hh5]; exact hR) e3 e4 (by omega) (by omega) dlmA_10 dlmA_13 hpoly hQv
      refine ⟨t, ?_, b1⟩
      rw [hml1]
      obtain ⟨f1, g1, k1, l1⟩ := hfld 0 17 rfl
      obtain ⟨f2, g2, k2, l2⟩ := hfld 1 19 rfl
      have q1 : cK.slots[f1.slot]? = some (.ref b) := by
        rw [l1]
        have h9 := hsl 0 (by show 0 < 2; decide)
        have h9 : cK.slots[G.2.2.1.2 k 0]? = some (vp_V [.ref b, v2] 0) := h9
        rw [hslot 0] at h9
        exact h9
      have q2 : cK.slots[f2.slot]? = some (v2) := by
        rw [l2]
        have h9 := hsl 1 (by show 1 < 2; decide)
        have h9 : cK.slots[G.2.2.1.2 k 1]? = some (vp_V [.ref b, v2] 1) := h9
        rw [hslot 1] at h9
        exact h9
      exact lam_preA Y₀ hx hbytes1 (cK := cK) (by rw [hh7]; exact hcK) hknK ⟨by rw [e8, ← e6]; exact g1, k1, q1⟩ ⟨by rw [e8, ← e6]; exact g2, k2, q2⟩ a1)
    kk kx
  exact ⟨t, hstep₁ _ (fun acts => by rw [doInvoke_state]; exact a1), b1⟩
theorem rv_lamTkB {X : rv_X} {d d2 : Nat} (hX : rv_K X yX9_go cX9_go d) {k : Nat} {x : MethodName} {pc0 ix0 : Nat} {σ : Lambda.Shape} (hL9 : rv_LKs X.1 k x pc0 ix0 σ) (hσ : σ.iface = "Rulehearth$Taker" ∧ σ.name = "take" ∧ σ.sam.toString = "([I[I)Z") {tys : Array FieldType} {y2 : MethodName} (hM : lamOf x.cls σ tys y2.cls y2.name y2.desc lm2_code 31 [19, 21, 23]) (hpl : plainName (x.cls ++ "$$Lambda") = true)
    {tk vr fr : Nat} {b ci : Nat} {fs : List Value} {v2 : Value} {v3 : Value} {h : rv_H} {L : List (Option Value)} {st : List Value} (htk : rv_rd X.1 h tk (.inr (k, [.ref b, v2, v3]))) {cw : Cond} {Q : rv_O → rv_H → Prop} (hm : rv_md y2 cw 4) (hi : (Cond.instanceMethod y2) ∈ lw_all) (hse : (Cond.selects y2.cls y2 y2) ∈ lw_all) (hg : rv_rd X.1 h b (.inr (ci, fs))) (hci : rv_rc ci y2.cls) (hC : rv_Call X.1 d2 y2 cw [.ref b, v2, v3, .ref vr, .ref fr] h Q) (hd : d2 + 3 ≤ d) (hpoly : y2.cls ≠ "java/lang/invoke/MethodHandle" ∧ y2.cls ≠ "java/lang/invoke/VarHandle") (hQv : ∀ v h', Q (.inl v) h' → ∃ z : Bool, v = some (.int (rv_z z))) (hroom : (st.map fun v => v.category).sum ≤ 8)
    (kk : ∀ (v : Option Value) (h' : rv_H), Q (.inl v) h' → rv_V X h' 38 L (v.toList ++ st)) (kx : ∀ (E : String) (h' : rv_H), Q (.inr E) h' → rv_T X h' 33 L E) : rv_V X h 33 L (.ref fr :: .ref vr :: .ref tk :: st) := by
  have hFw := rv_lfW hX jf_X8
  have hlink := rv_words hX q934
  obtain ⟨G, p, e, R, s, m, args, below, meth, c, Qw⟩ := X
  intro H ls locs hR hL hz T0 hT0 XS0
  obtain ⟨hx, hb, hown, hlk, hGK, hW, ⟨hs, hRs, hRc, hRsl⟩, hfr, hlo, -⟩ := hX
  have hs0 : s.heap.size = hs.2.1 := hRs.1
  have hs1 : rv_sz (rv_b G) s.heap = hs.2.2 := hRs.2.2.2.2.1
  have hle : hs.2.1 ≤ h.2.1 := by
    have h9 : s.heap.size ≤ T0.heap.size := XS0.same.2.1
    rw [hT0, hR.1, hs0] at h9
    exact h9
  have hle2 : hs.2.2 ≤ h.2.2 := by
    have e1 := rv_old_sz XS0.same (b := rv_b G) hRs.2.1
    rw [hT0, hR.2.2.2.2.1, hs1] at e1
    omega
  refine rv_tight (k := R.cells) (n := R.slots) hR hRs ?_ T0 hT0 XS0
  intro T hT XS
  subst hT
  have hslot := hL9.2
  obtain ⟨hmade, hcan, m', d9, hisM, -⟩ := hL9.at hGK hW hM
  obtain ⟨kK, tk9, methk, ck, t0, t9, file, ci9, nt9, ⟨hkK, hkind, hty, hkn⟩, ⟨hmk, hck, hbytes, hml, hex, hlkK, hfl, hretk⟩, -, -, -⟩ := id hmade
  obtain ⟨cK, hcK, hclK, hvK, hknK, hsl⟩ := rv_rd.at hGK hR htk
  have hclK : cK.cls = G.2.2.1.1 k := hclK
  obtain ⟨w1, w2, -, -, -⟩ := hFw
  have hdecl : (Cond.declares yTk).before args s = true := va_any rfl w1
  have hface : (Cond.interfaceMethod yTk.cls yTk.cls yTk.name yTk.desc).before args s = true := va_any rfl w2
  obtain ⟨r0, r, hnR, hrm, hstR, hsigR⟩ := Cond.declares_spec hdecl
  obtain ⟨cL, kL, r1, hcL, hkL, hiL, hfoundL, hn1⟩ := Cond.interfaceMethod_spec hface
  cases hnR.symm.trans hn1
  have hr0cls : r0.cls = cL := Option.some.inj ((findClass_of_methodNamed hnR).symm.trans hcL)
  obtain ⟨hnameR, hdescR⟩ := name_of_methodNamed hnR hrm
  obtain ⟨-, -, -, -, -, -, -, iface', -, -, -, -, found, -, -, -, -, -, hi', -, -, -, -, -, -, hfound', -, -, -, -, -, -, -, -, -, -, hsel⟩ := Lambda.isMade_spec hisM
  obtain ⟨hσ1, hσ2, hσ3⟩ := hσ
  rw [hσ1] at hi'
  cases hcL.symm.trans hi'
  rw [hσ2, hσ3] at hfound'
  have hfr9 : found = r0 := by
    have h1 : s.methodFound? "Rulehearth$Taker" "take" "([I[I)Z" = some r0 := hfoundL
    have hcL' : s.vm.findClass "Rulehearth$Taker" = some cL := hcL
    simp only [State.methodFound?, hcL', hkL, hiL, Option.bind_eq_bind, Option.bind_some] at h1
    rw [hfound'] at h1
    exact Option.some.inj h1
  subst hfr9
  obtain ⟨i2, hi2, hasg, hway⟩ := State.lambdaCallable_spec hcan
  rw [hσ1] at hi2
  cases hcL.symm.trans hi2
  rw [hσ2, hσ3] at hway
  have hselP : selectMethod e.platform s.vm cK.cls found = .method ⟨G.2.2.1.1 k, 1⟩ := by rw [Launch.admits_selectMethod XS.admits, hclK]; exact hsel
  have hsp : parseMethodDescriptor yTk.desc = some ⟨[.array .int, .array .int], some .boolean⟩ := by decide +kernel
  have hpar : r.sig.parameters = [.array .int, .array .int] := by
    have h9 := hsigR
    rw [hsp] at h9
    rw [← Option.some.inj h9]
  obtain ⟨vm₁, X₁, hstep₁⟩ := XS.invokeinterface hx hown hlink hnR hrm hstR (by rw [hr0cls]; exact hkL) hiL (by decide) (a := tk) (cell := cK) (kcell := kK) hcK
    (fun z h9 => by rw [h9] at hvK; cases hvK) (by rw [hclK]; exact hkK) (by rw [hr0cls, hclK]; exact hasg) hselP hmk (by rw [hnameR, hdescR, hclK]; exact hway) (by rw [hfl]; decide) (by simp [Method.isAbstract, hfl, hasFlag, Acc.abstract]) (g := F0 m 33 ls (.ref fr :: .ref vr :: .ref tk :: st)) rfl (argsL := [.ref vr, .ref fr]) (rest := st) (by rw [hpar]; rfl) rfl (by rw [hb]; exact dX9_go_33)
  have hW1 : G.2.1.WarmedH (T.setVm vm₁).vm := State.WarmedH.trans hW X₁.warmed
  obtain ⟨hmade1, -, -, -, -, -⟩ := hL9.at hGK hW1 hM
  obtain ⟨kK1, tk1, methk1, ck1, -, -, -, -, -, ⟨hkK1, -, -, hkn1⟩, ⟨hmk1, hck1, hbytes1, hml1, hex1, hlkK1, hfl1, hretk1⟩, -, -, -⟩ := hmade1
  have hpk : (T.setVm vm₁).plainMethod ⟨G.2.2.1.1 k, 1⟩ := State.plainMethod.of_name (fun k' hk' => by cases hkK1.symm.trans hk'; rw [hkn1]; exact hpl)
  obtain ⟨t, a1, b1⟩ := rv_into (as := [.ref tk, .ref vr, .ref fr]) (Q := Q) (Qw := Qw) X₁ hL (show decode c.code 33 = _ from by rw [hb]; exact dX9_go_33) hroom hmk1 hck1 hlkK1 hpk (by rw [hml1]; decide) hR hRs hRc hRsl hle hle2 hz (by omega) (by omega)
    (fun R' s' U₀ e1 e2 e3 e4 e5 e6 e7 e8 Y₀ => by
      have hW' : G.2.1.WarmedH s'.vm := by rw [e6]; exact hW1
      have hh5 : s'.heap = T.heap := e5
      have hh7 : U₀.heap = T.heap := e7
      obtain ⟨hmade2, -, -, -, -, -⟩ := hL9.at hGK hW' hM
      obtain ⟨-, -, -, -, -, -, -, -, -, -, -, -, -, hfld⟩ := id hmade2
      have hLs : rv_L ck1.maxLocals (lmL tk vr fr) (rv_in [.ref tk, .ref vr, .ref fr] 3) := by
        rw [hml1]
        exact rv_in_L (as := [.ref tk, .ref vr, .ref fr]) (n := 3) (Nat.le_of_ble_eq_true rfl)
      obtain ⟨t, a1, b1⟩ := lam_goV hGK (as2 := [v2, v3, .ref vr, .ref fr]) (L := rv_in [.ref tk, .ref vr, .ref fr] 3) (ls := lmL tk vr fr) (h := h) (pcc := 14) (mk := ⟨G.2.2.1.1 k, 1⟩) (Q := Q) Y₀ hx (by rw [hh7, hh5]) (by rw [e8, e6]) hW' hmade2 rfl hLs hm hi hse hg hci hC rfl (by rw [hh5]; exact hR) e3 e4 (by omega) (by omega) dlmB_14 dlmB_17 hpoly hQv
      refine ⟨t, ?_, b1⟩
      rw [hml1]
      obtain ⟨f1, g1, k1, l1⟩ := hfld 0 19 rfl
      obtain ⟨f2, g2, k2, l2⟩ := hfld 1 21 rfl
      obtain ⟨f3, g3, k3, l3⟩ := hfld 2 23 rfl
      have q1 : cK.slots[f1.slot]? = some (.ref b) := by
        rw [l1]
        have h9 := hsl 0 (by show 0 < 3; decide)
        have h9 : cK.slots[G.2.2.1.2 k 0]? = some (vp_V [.ref b, v2, v3] 0) := h9
        rw [hslot 0] at h9
        exact h9
      have q2 : cK.slots[f2.slot]? = some (v2) := by
        rw [l2]
        have h9 := hsl 1 (by show 1 < 3; decide)
        have h9 : cK.slots[G.2.2.1.2 k 1]? = some (vp_V [.ref b, v2, v3] 1) := h9
        rw [hslot 1] at h9
        exact h9
      have q3 : cK.slots[f3.slot]? = some (v3) := by
        rw [l3]
        have h9 := hsl 2 (by show 2 < 3; decide)
        have h9 : cK.slots[G.2.2.1.2 k 2]? = some (vp_V [.ref b, v2, v3] 2) := h9
        rw [hslot 2] at h9
        exact h9
      exact lam_preB Y₀ hx hbytes1 (cK := cK) (by rw [hh7]; exact hcK) hknK ⟨by rw [e8, ← e6]; exact g1, k1, q1⟩ ⟨by rw [e8, ← e6]; exact g2, k2, q2⟩ ⟨by rw [e8, ← e6]; exact g3, k3, q3⟩ a1)
    kk kx
  exact ⟨t, hstep₁ _ (fun acts => by rw [doInvoke_state]; exact a1), b1⟩
theorem rv_lamTkC {X : rv_X} {d d2 : Nat} (hX : rv_K X yX9_go cX9_go d) {k : Nat} {x : MethodName} {pc0 ix0 : Nat} {σ : Lambda.Shape} (hL9 : rv_LKs X.1 k x pc0 ix0 σ) (hσ : σ.iface = "Rulehearth$Taker" ∧ σ.name = "take" ∧ σ.sam.toString = "([I[I)Z") {tys : Array FieldType} {y2 : MethodName} (hM : lamOf x.cls σ tys y2.cls y2.name y2.desc lm4_code 17 []) (hpl : plainName (x.cls ++ "$$Lambda") = true)
    {tk vr fr : Nat} {h : rv_H} {L : List (Option Value)} {st : List Value} (htk : rv_rd X.1 h tk (.inr (k, []))) {cw : Cond} {Q : rv_O → rv_H → Prop} (hm : rv_md y2 cw 2) (hi : (Cond.static y2) ∈ lw_all) (hC : rv_Call X.1 d2 y2 cw [.ref vr, .ref fr] h Q) (hd : d2 + 3 ≤ d) (hpoly : y2.cls ≠ "java/lang/invoke/MethodHandle" ∧ y2.cls ≠ "java/lang/invoke/VarHandle") (hQv : ∀ v h', Q (.inl v) h' → ∃ z : Bool, v = some (.int (rv_z z))) (hroom : (st.map fun v => v.category).sum ≤ 8)
    (kk : ∀ (v : Option Value) (h' : rv_H), Q (.inl v) h' → rv_V X h' 38 L (v.toList ++ st)) (kx : ∀ (E : String) (h' : rv_H), Q (.inr E) h' → rv_T X h' 33 L E) : rv_V X h 33 L (.ref fr :: .ref vr :: .ref tk :: st) := by
  have hFw := rv_lfW hX jf_X8
  have hlink := rv_words hX q934
  obtain ⟨G, p, e, R, s, m, args, below, meth, c, Qw⟩ := X
  intro H ls locs hR hL hz T0 hT0 XS0
  obtain ⟨hx, hb, hown, hlk, hGK, hW, ⟨hs, hRs, hRc, hRsl⟩, hfr, hlo, -⟩ := hX
  have hs0 : s.heap.size = hs.2.1 := hRs.1
  have hs1 : rv_sz (rv_b G) s.heap = hs.2.2 := hRs.2.2.2.2.1
  have hle : hs.2.1 ≤ h.2.1 := by
    have h9 : s.heap.size ≤ T0.heap.size := XS0.same.2.1
    rw [hT0, hR.1, hs0] at h9
    exact h9
  have hle2 : hs.2.2 ≤ h.2.2 := by
    have e1 := rv_old_sz XS0.same (b := rv_b G) hRs.2.1
    rw [hT0, hR.2.2.2.2.1, hs1] at e1
    omega
  refine rv_tight (k := R.cells) (n := R.slots) hR hRs ?_ T0 hT0 XS0
  intro T hT XS
  subst hT
  have hslot := hL9.2
  obtain ⟨hmade, hcan, m', d9, hisM, -⟩ := hL9.at hGK hW hM
  obtain ⟨kK, tk9, methk, ck, t0, t9, file, ci9, nt9, ⟨hkK, hkind, hty, hkn⟩, ⟨hmk, hck, hbytes, hml, hex, hlkK, hfl, hretk⟩, -, -, -⟩ := id hmade
  obtain ⟨cK, hcK, hclK, hvK, hknK, hsl⟩ := rv_rd.at hGK hR htk
  have hclK : cK.cls = G.2.2.1.1 k := hclK
  obtain ⟨w1, w2, -, -, -⟩ := hFw
  have hdecl : (Cond.declares yTk).before args s = true := va_any rfl w1
  have hface : (Cond.interfaceMethod yTk.cls yTk.cls yTk.name yTk.desc).before args s = true := va_any rfl w2
  obtain ⟨r0, r, hnR, hrm, hstR, hsigR⟩ := Cond.declares_spec hdecl
  obtain ⟨cL, kL, r1, hcL, hkL, hiL, hfoundL, hn1⟩ := Cond.interfaceMethod_spec hface
  cases hnR.symm.trans hn1
  have hr0cls : r0.cls = cL := Option.some.inj ((findClass_of_methodNamed hnR).symm.trans hcL)
  obtain ⟨hnameR, hdescR⟩ := name_of_methodNamed hnR hrm
  obtain ⟨-, -, -, -, -, -, -, iface', -, -, -, -, found, -, -, -, -, -, hi', -, -, -, -, -, -, hfound', -, -, -, -, -, -, -, -, -, -, hsel⟩ := Lambda.isMade_spec hisM
  obtain ⟨hσ1, hσ2, hσ3⟩ := hσ
  rw [hσ1] at hi'
  cases hcL.symm.trans hi'
  rw [hσ2, hσ3] at hfound'
  have hfr9 : found = r0 := by
    have h1 : s.methodFound? "Rulehearth$Taker" "take" "([I[I)Z" = some r0 := hfoundL
    have hcL' : s.vm.findClass "Rulehearth$Taker" = some cL := hcL
    simp only [State.methodFound?, hcL', hkL, hiL, Option.bind_eq_bind, Option.bind_some] at h1
    rw [hfound'] at h1
    exact Option.some.inj h1
  subst hfr9
  obtain ⟨i2, hi2, hasg, hway⟩ := State.lambdaCallable_spec hcan
  rw [hσ1] at hi2
  cases hcL.symm.trans hi2
  rw [hσ2, hσ3] at hway
  have hselP : selectMethod e.platform s.vm cK.cls found = .method ⟨G.2.2.1.1 k, 1⟩ := by rw [Launch.admits_selectMethod XS.admits, hclK]; exact hsel
  have hsp : parseMethodDescriptor yTk.desc = some ⟨[.array .int, .array .int], some .boolean⟩ := by decide +kernel
  have hpar : r.sig.parameters = [.array .int, .array .int] := by
    have h9 := hsigR
    rw [hsp] at h9
    rw [← Option.some.inj h9]
  obtain ⟨vm₁, X₁, hstep₁⟩ := XS.invokeinterface hx hown hlink hnR hrm hstR (by rw [hr0cls]; exact hkL) hiL (by decide) (a := tk) (cell := cK) (kcell := kK) hcK
    (fun z h9 => by rw [h9] at hvK; cases hvK) (by rw [hclK]; exact hkK) (by rw [hr0cls, hclK]; exact hasg) hselP hmk (by rw [hnameR, hdescR, hclK]; exact hway) (by rw [hfl]; decide) (by simp [Method.isAbstract, hfl, hasFlag, Acc.abstract]) (g := F0 m 33 ls (.ref fr :: .ref vr :: .ref tk :: st)) rfl (argsL := [.ref vr, .ref fr]) (rest := st) (by rw [hpar]; rfl) rfl (by rw [hb]; exact dX9_go_33)
  have hW1 : G.2.1.WarmedH (T.setVm vm₁).vm := State.WarmedH.trans hW X₁.warmed
  obtain ⟨hmade1, -, -, -, -, -⟩ := hL9.at hGK hW1 hM
  obtain ⟨kK1, tk1, methk1, ck1, -, -, -, -, -, ⟨hkK1, -, -, hkn1⟩, ⟨hmk1, hck1, hbytes1, hml1, hex1, hlkK1, hfl1, hretk1⟩, -, -, -⟩ := hmade1
  have hpk : (T.setVm vm₁).plainMethod ⟨G.2.2.1.1 k, 1⟩ := State.plainMethod.of_name (fun k' hk' => by cases hkK1.symm.trans hk'; rw [hkn1]; exact hpl)
  obtain ⟨t, a1, b1⟩ := rv_into (as := [.ref tk, .ref vr, .ref fr]) (Q := Q) (Qw := Qw) X₁ hL (show decode c.code 33 = _ from by rw [hb]; exact dX9_go_33) hroom hmk1 hck1 hlkK1 hpk (by rw [hml1]; decide) hR hRs hRc hRsl hle hle2 hz (by omega) (by omega)
    (fun R' s' U₀ e1 e2 e3 e4 e5 e6 e7 e8 Y₀ => by
      have hW' : G.2.1.WarmedH s'.vm := by rw [e6]; exact hW1
      have hh5 : s'.heap = T.heap := e5
      have hh7 : U₀.heap = T.heap := e7
      obtain ⟨hmade2, -, -, -, -, -⟩ := hL9.at hGK hW' hM
      obtain ⟨-, -, -, -, -, -, -, -, -, -, -, -, -, hfld⟩ := id hmade2
      have hLs : rv_L ck1.maxLocals (lmL tk vr fr) (rv_in [.ref tk, .ref vr, .ref fr] 3) := by
        rw [hml1]
        exact rv_in_L (as := [.ref tk, .ref vr, .ref fr]) (n := 3) (Nat.le_of_ble_eq_true rfl)
      obtain ⟨t, a1, b1⟩ := lam_goS hGK (as2 := [.ref vr, .ref fr]) (L := rv_in [.ref tk, .ref vr, .ref fr] 3) (ls := lmL tk vr fr) (h := h) (pcc := 2) (mk := ⟨G.2.2.1.1 k, 1⟩) (Q := Q) Y₀ hx (by rw [hh7, hh5]) (by rw [e8, e6]) hW' hmade2 rfl hLs hm hi hC rfl (by rw [hh5]; exact hR) e3 e4 (by omega) (by omega) dlmC_2 dlmC_5 hpoly hQv
      refine ⟨t, ?_, b1⟩
      rw [hml1]
      exact lam_preC Y₀ hx hbytes1  a1)
    kk kx
  exact ⟨t, hstep₁ _ (fun acts => by rw [doInvoke_state]; exact a1), b1⟩
theorem rv_lamTkD {X : rv_X} {d d2 : Nat} (hX : rv_K X yX9_go cX9_go d) {k : Nat} {x : MethodName} {pc0 ix0 : Nat} {σ : Lambda.Shape} (hL9 : rv_LKs X.1 k x pc0 ix0 σ) (hσ : σ.iface = "Rulehearth$Taker" ∧ σ.name = "take" ∧ σ.sam.toString = "([I[I)Z") {tys : Array FieldType} {y2 : MethodName} (hM : lamOf x.cls σ tys y2.cls y2.name y2.desc lm6_code 23 [15]) (hpl : plainName (x.cls ++ "$$Lambda") = true)
    {tk vr fr : Nat} {v1 : Value} {h : rv_H} {L : List (Option Value)} {st : List Value} (htk : rv_rd X.1 h tk (.inr (k, [v1]))) {cw : Cond} {Q : rv_O → rv_H → Prop} (hm : rv_md y2 cw 3) (hi : (Cond.static y2) ∈ lw_all) (hC : rv_Call X.1 d2 y2 cw [v1, .ref vr, .ref fr] h Q) (hd : d2 + 3 ≤ d) (hpoly : y2.cls ≠ "java/lang/invoke/MethodHandle" ∧ y2.cls ≠ "java/lang/invoke/VarHandle") (hQv : ∀ v h', Q (.inl v) h' → ∃ z : Bool, v = some (.int (rv_z z))) (hroom : (st.map fun v => v.category).sum ≤ 8)
    (kk : ∀ (v : Option Value) (h' : rv_H), Q (.inl v) h' → rv_V X h' 38 L (v.toList ++ st)) (kx : ∀ (E : String) (h' : rv_H), Q (.inr E) h' → rv_T X h' 33 L E) : rv_V X h 33 L (.ref fr :: .ref vr :: .ref tk :: st) := by
  have hFw := rv_lfW hX jf_X8
  have hlink := rv_words hX q934
  obtain ⟨G, p, e, R, s, m, args, below, meth, c, Qw⟩ := X
  intro H ls locs hR hL hz T0 hT0 XS0
  obtain ⟨hx, hb, hown, hlk, hGK, hW, ⟨hs, hRs, hRc, hRsl⟩, hfr, hlo, -⟩ := hX
  have hs0 : s.heap.size = hs.2.1 := hRs.1
  have hs1 : rv_sz (rv_b G) s.heap = hs.2.2 := hRs.2.2.2.2.1
  have hle : hs.2.1 ≤ h.2.1 := by
    have h9 : s.heap.size ≤ T0.heap.size := XS0.same.2.1
    rw [hT0, hR.1, hs0] at h9
    exact h9
  have hle2 : hs.2.2 ≤ h.2.2 := by
    have e1 := rv_old_sz XS0.same (b := rv_b G) hRs.2.1
    rw [hT0, hR.2.2.2.2.1, hs1] at e1
    omega
  refine rv_tight (k := R.cells) (n := R.slots) hR hRs ?_ T0 hT0 XS0
  intro T hT XS
  subst hT
  have hslot := hL9.2
  obtain ⟨hmade, hcan, m', d9, hisM, -⟩ := hL9.at hGK hW hM
  obtain ⟨kK, tk9, methk, ck, t0, t9, file, ci9, nt9, ⟨hkK, hkind, hty, hkn⟩, ⟨hmk, hck, hbytes, hml, hex, hlkK, hfl, hretk⟩, -, -, -⟩ := id hmade
  obtain ⟨cK, hcK, hclK, hvK, hknK, hsl⟩ := rv_rd.at hGK hR htk
  have hclK : cK.cls = G.2.2.1.1 k := hclK
  obtain ⟨w1, w2, -, -, -⟩ := hFw
  have hdecl : (Cond.declares yTk).before args s = true := va_any rfl w1
  have hface : (Cond.interfaceMethod yTk.cls yTk.cls yTk.name yTk.desc).before args s = true := va_any rfl w2
  obtain ⟨r0, r, hnR, hrm, hstR, hsigR⟩ := Cond.declares_spec hdecl
  obtain ⟨cL, kL, r1, hcL, hkL, hiL, hfoundL, hn1⟩ := Cond.interfaceMethod_spec hface
  cases hnR.symm.trans hn1
  have hr0cls : r0.cls = cL := Option.some.inj ((findClass_of_methodNamed hnR).symm.trans hcL)
  obtain ⟨hnameR, hdescR⟩ := name_of_methodNamed hnR hrm
  obtain ⟨-, -, -, -, -, -, -, iface', -, -, -, -, found, -, -, -, -, -, hi', -, -, -, -, -, -, hfound', -, -, -, -, -, -, -, -, -, -, hsel⟩ := Lambda.isMade_spec hisM
  obtain ⟨hσ1, hσ2, hσ3⟩ := hσ
  rw [hσ1] at hi'
  cases hcL.symm.trans hi'
  rw [hσ2, hσ3] at hfound'
  have hfr9 : found = r0 := by
    have h1 : s.methodFound? "Rulehearth$Taker" "take" "([I[I)Z" = some r0 := hfoundL
    have hcL' : s.vm.findClass "Rulehearth$Taker" = some cL := hcL
    simp only [State.methodFound?, hcL', hkL, hiL, Option.bind_eq_bind, Option.bind_some] at h1
    rw [hfound'] at h1
    exact Option.some.inj h1
  subst hfr9
  obtain ⟨i2, hi2, hasg, hway⟩ := State.lambdaCallable_spec hcan
  rw [hσ1] at hi2
  cases hcL.symm.trans hi2
  rw [hσ2, hσ3] at hway
  have hselP : selectMethod e.platform s.vm cK.cls found = .method ⟨G.2.2.1.1 k, 1⟩ := by rw [Launch.admits_selectMethod XS.admits, hclK]; exact hsel
  have hsp : parseMethodDescriptor yTk.desc = some ⟨[.array .int, .array .int], some .boolean⟩ := by decide +kernel
  have hpar : r.sig.parameters = [.array .int, .array .int] := by
    have h9 := hsigR
    rw [hsp] at h9
    rw [← Option.some.inj h9]
  obtain ⟨vm₁, X₁, hstep₁⟩ := XS.invokeinterface hx hown hlink hnR hrm hstR (by rw [hr0cls]; exact hkL) hiL (by decide) (a := tk) (cell := cK) (kcell := kK) hcK
    (fun z h9 => by rw [h9] at hvK; cases hvK) (by rw [hclK]; exact hkK) (by rw [hr0cls, hclK]; exact hasg) hselP hmk (by rw [hnameR, hdescR, hclK]; exact hway) (by rw [hfl]; decide) (by simp [Method.isAbstract, hfl, hasFlag, Acc.abstract]) (g := F0 m 33 ls (.ref fr :: .ref vr :: .ref tk :: st)) rfl (argsL := [.ref vr, .ref fr]) (rest := st) (by rw [hpar]; rfl) rfl (by rw [hb]; exact dX9_go_33)
  have hW1 : G.2.1.WarmedH (T.setVm vm₁).vm := State.WarmedH.trans hW X₁.warmed
  obtain ⟨hmade1, -, -, -, -, -⟩ := hL9.at hGK hW1 hM
  obtain ⟨kK1, tk1, methk1, ck1, -, -, -, -, -, ⟨hkK1, -, -, hkn1⟩, ⟨hmk1, hck1, hbytes1, hml1, hex1, hlkK1, hfl1, hretk1⟩, -, -, -⟩ := hmade1
  have hpk : (T.setVm vm₁).plainMethod ⟨G.2.2.1.1 k, 1⟩ := State.plainMethod.of_name (fun k' hk' => by cases hkK1.symm.trans hk'; rw [hkn1]; exact hpl)
  obtain ⟨t, a1, b1⟩ := rv_into (as := [.ref tk, .ref vr, .ref fr]) (Q := Q) (Qw := Qw) X₁ hL (show decode c.code 33 = _ from by rw [hb]; exact dX9_go_33) hroom hmk1 hck1 hlkK1 hpk (by rw [hml1]; decide) hR hRs hRc hRsl hle hle2 hz (by omega) (by omega)
    (fun R' s' U₀ e1 e2 e3 e4 e5 e6 e7 e8 Y₀ => by
      have hW' : G.2.1.WarmedH s'.vm := by rw [e6]; exact hW1
      have hh5 : s'.heap = T.heap := e5
      have hh7 : U₀.heap = T.heap := e7
      obtain ⟨hmade2, -, -, -, -, -⟩ := hL9.at hGK hW' hM
      obtain ⟨-, -, -, -, -, -, -, -, -, -, -, -, -, hfld⟩ := id hmade2
      have hLs : rv_L ck1.maxLocals (lmL tk vr fr) (rv_in [.ref tk, .ref vr, .ref fr] 3) := by
        rw [hml1]
        exact rv_in_L (as := [.ref tk, .ref vr, .ref fr]) (n := 3) (Nat.le_of_ble_eq_true rfl)
      obtain ⟨t, a1, b1⟩ := lam_goS hGK (as2 := [v1, .ref vr, .ref fr]) (L := rv_in [.ref tk, .ref vr, .ref fr] 3) (ls := lmL tk vr fr) (h := h) (pcc := 6) (mk := ⟨G.2.2.1.1 k, 1⟩) (Q := Q) Y₀ hx (by rw [hh7, hh5]) (by rw [e8, e6]) hW' hmade2 rfl hLs hm hi hC rfl (by rw [hh5]; exact hR) e3 e4 (by omega) (by omega) dlmD_6 dlmD_9 hpoly hQv
      refine ⟨t, ?_, b1⟩
      rw [hml1]
      obtain ⟨f1, g1, k1, l1⟩ := hfld 0 15 rfl
      have q1 : cK.slots[f1.slot]? = some (v1) := by
        rw [l1]
        have h9 := hsl 0 (by show 0 < 1; decide)
        have h9 : cK.slots[G.2.2.1.2 k 0]? = some (vp_V [v1] 0) := h9
        rw [hslot 0] at h9
        exact h9
      exact lam_preD Y₀ hx hbytes1 (cK := cK) (by rw [hh7]; exact hcK) hknK ⟨by rw [e8, ← e6]; exact g1, k1, q1⟩ a1)
    kk kx
  exact ⟨t, hstep₁ _ (fun acts => by rw [doInvoke_state]; exact a1), b1⟩
