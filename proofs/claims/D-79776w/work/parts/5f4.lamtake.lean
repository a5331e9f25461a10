/-! ROWS: a taker's call by the matcher -/
set_option maxRecDepth 100000
set_option maxHeartbeats 2000000
def yTk : MethodName := ⟨"Rulehearth$Taker", "take", "([I[I)Z"⟩
theorem jf_X8 : rv_lf yX9_go.cls 60 yTk yX8_take := ⟨q934, q936, q935, q1009, q1007, q1005, q1006, q1008, rfl, by decide⟩
theorem jf_X13 : rv_lf yX9_go.cls 60 yTk yX13_take := ⟨q934, q936, q935, q1016, q1014, q1012, q1013, q1015, rfl, by decide⟩
theorem jf_X15 : rv_lf yX9_go.cls 60 yTk yX15_take := ⟨q934, q936, q935, q991, q989, q987, q988, q990, rfl, by decide⟩
theorem jf_X17 : rv_lf yX9_go.cls 60 yTk yX17_take := ⟨q934, q936, q935, q941, q939, q937, q938, q940, rfl, by decide⟩
/-- inside the forwarder: the call of an instance method and what follows -/
theorem lam_goV {G : rv_G} (hGK : rv_GK G) {p : Program} {e : Env} {R : Room} {s U : State} {mk : MethodId} {as : Array Value} {below : List Frame} {methk : Method} {ck : Code} {own : String} {tys : Array FieldType} {code : ByteArray} {ix pcc n d2 b ci : Nat} {fxs : List Nat} {ls : Array Slot} {L : List (Option Value)} {y2 : MethodName} {cw : Cond} {as2 fs : List Value} {h : rv_H} {Q : rv_O → rv_H → Prop}
    (Y : Stand p G.1 e R s mk as below methk ck U [] 0 0) (hx : p.tables.exec = Jvm.exec) (hUh : U.heap = s.heap) (hUv : U.vm = s.vm) (hW : G.2.1.WarmedH s.vm) (hmade : lamMade s.vm mk.cls own tys y2.cls y2.name y2.desc code ix fxs) (hmi : mk.idx = 1) (hL : rv_L ck.maxLocals ls L)
    (hm : rv_md y2 cw n) (hi : (Cond.instanceMethod y2) ∈ lw_all) (hse : (Cond.selects y2.cls y2 y2) ∈ lw_all) (hg : rv_rd G h b (.inr (ci, fs))) (hci : rv_rc ci y2.cls) (hC : rv_Call G d2 y2 cw (.ref b :: as2) h Q) (hn : as2.length = n) (hR : rv_R G h s.heap) (hRc : R.cells + s.heap.size = rv_b G + rv_cN) (hRsl : R.slots + rv_sz (rv_b G) s.heap = rv_cS)
    (hf : d2 + 1 ≤ R.frames) (hl : 64 * d2 + 64 ≤ R.locals) (dc : decode code pcc = .ok (.invokevirtual ix, 3)) (dr : decode code (pcc + 3) = .ok (.ireturn, 1)) (hpoly : y2.cls ≠ "java/lang/invoke/MethodHandle" ∧ y2.cls ≠ "java/lang/invoke/VarHandle") (hQv : ∀ v h', Q (.inl v) h' → ∃ z : Bool, v = some (.int (rv_z z))) :
    ∃ t, Steps p.tables e below (U.setTop (F0 mk pcc ls (as2.reverse ++ [.ref b]))) t ∧ vx_MQ below (fun _ _ o t => ∃ (v : Option Value) (h' : rv_H), o = .returned v ∧ rv_R G h' t.heap ∧ Q (.inl v) h') (fun E _ t => ∃ h' : rv_H, rv_R G h' t.heap ∧ Q (.inr E) h') as s R.cells R.slots (fun q => rv_b G ≤ q) t := by
  obtain ⟨kK, tk, methk9, ck9, t0, t9, file, ci9, nt9, ⟨hkK, hkind, hty, hkn⟩, ⟨hmk, hck, hbytes, hml, hex, hlk, hfl, hretk⟩, ⟨htoy, htk, hitf, hlook⟩, ⟨hready, hclsR, hfile, hpool, hnt⟩, hfld⟩ := hmade
  have emk : (⟨mk.cls, 1⟩ : MethodId) = mk := by cases mk; simp at hmi; subst hmi; rfl
  rw [emk] at hmk
  have hY : s.vm.method? mk = some methk := Y.method
  cases hmk.symm.trans hY
  cases hck.symm.trans Y.code
  obtain ⟨m2, meth2, hnamed, hmeth2, hlen, hsig⟩ := rv_md_named hGK hm hW
  have hmd := hm
  obtain ⟨nL, -, -, hini, hy, -, -⟩ := hm
  have hK := rv_back hGK (R := R) (p := p) (e := e) (below := below) (sargs := as) (len := 3) hmd hW hC hf hl
  have hinst := rv_wordU hGK (a := as) hW hi
  obtain ⟨mk2, methM2, hnamed2, hmethM2, hstM, habM⟩ := Cond.instanceMethod_spec hinst
  cases hnamed.symm.trans hnamed2
  cases hmeth2.symm.trans hmethM2
  have hsel := rv_wordU hGK (a := as) hW hse
  obtain ⟨c2, r2, m3, q1, q2, q3, q4, kP2, hkP2, hkPi⟩ := Cond.selects_spec hsel
  have hfT : s.vm.findClass y2.cls = some m2.cls := findClass_of_methodNamed hnamed
  cases htoy.symm.trans hfT
  have ht9 : t9 = m2 := by
    have h1 : s.methodFound? y2.cls y2.name y2.desc = some m2 := State.methodFound?_of_named hnamed hpoly
    simp only [State.methodFound?, hfT, htk, Option.bind_eq_bind, Option.bind_some] at h1
    rw [hlook] at h1
    exact Option.some.inj h1
  subst ht9
  cases (State.methodFound?_of_named hnamed hpoly).symm.trans q2
  cases hnamed.symm.trans q3
  cases hfT.symm.trans q1
  cases htk.symm.trans hkP2
  obtain ⟨T9, N9, hc9⟩ := hci
  have hU := u_Kn_moved hW.alike (hGK.2.2.2 _ _ hc9)
  obtain ⟨cellB, hcB, hclB, hvB, -⟩ := rv_rd.at hGK hR hg
  have hclsB : s.vm.findClass y2.cls = some cellB.cls := by rw [hclB]; exact hU.2.1
  have ecl : cellB.cls = t9.cls := Option.some.inj (hclsB.symm.trans hfT)
  have hsel9 : selectMethod e.platform s.vm cellB.cls t9 = .method t9 := by rw [ecl, Launch.admits_selectMethod Y.admits]; exact q4
  have hsp : ∀ z : Method, signaturePolymorphic tk z = false := fun z => by
    obtain ⟨kT', hkT', hnameT⟩ := className_of_methodNamed hnamed
    cases htk.symm.trans hkT'
    simp [signaturePolymorphic, hnameT, hpoly.1, hpoly.2]
  have Y' : Stand p G.1 e R s mk as below methk ck (U.setVm U.vm) [] (h.2.1 - h.2.1) (h.2.2 - h.2.2) := by rw [State.setVm_self, Nat.sub_self, Nat.sub_self]; exact Y
  have hs : U.topJava?.isSome := Y.here.top
  have dcl : decode ck.code pcc = .ok (.invokevirtual ix, 3) := by rw [hbytes]; exact dc
  obtain ⟨t, a1, b1⟩ := rv_goOn (Qw := vx_MQ below (fun _ _ o t => ∃ (v : Option Value) (h' : rv_H), o = .returned v ∧ rv_R G h' t.heap ∧ Q (.inl v) h') (fun E _ t => ∃ h' : rv_H, rv_R G h' t.heap ∧ Q (.inr E) h') as s R.cells R.slots (fun q => rv_b G ≤ q)) (rest := []) (as := .ref b :: as2) (mk := t9) Y' hK hL dcl (Nat.zero_le _)
    (by
      have q : (s.setVm (U.setVm U.vm).vm).methodNamed? y2 = some t9 := by rw [show (U.setVm U.vm).vm = s.vm from hUv]; exact hnamed
      exact q)
    (by rw [hUv]; exact hW) (by rw [hUh]; exact hR) hR hRc hRsl (Nat.le_refl _) (Nat.le_refl _) (fun z hz => by cases hz)
    (fun v h' hq => by
      obtain ⟨z, rfl⟩ := hQv v h' hq
      intro H1 ls1 locs1 hR1 hL1 hz1
      exact vx_ret (W.zret hx hbytes hretk (rv_zn z) (fun t ht hW => ⟨_, h', rfl, by rw [ht]; exact hR1, hq⟩) hz1 dr hlk))
    (fun E h' hq => by
      intro H1 ls1 locs1 rest1 q1 ce1 hR1 hL1 hz1 hce hcv hcl
      exact vx_out (by rw [hex]; intro x hx; cases hx) hlk hce hcv hcl (fun t ht2 hA => ⟨h', by rw [ht2]; exact hR1, hq⟩) hz1 (Nat.le_refl _) (Nat.le_refl _))
  refine ⟨t, ?_, b1⟩
  rw [State.setVm_self] at a1
  show Steps p.tables e below (U.setTop { method := mk, pc := pcc, locals := ls, stack := as2.reverse ++ [.ref b], locked := none }) t
  jvm_step Y.here [hx, dcl, invokevirtual.wp_ready (e := e) (s := U) (r := t9) (m := t9) (k := tk) (mk := tk) (rmeth := meth2) (meth := meth2) (a := b) (args := as2) (rest := []) (cell := cellB)
    (f := { method := mk, pc := pcc, locals := ls, stack := as2.reverse ++ [.ref b], locked := none }) hs ⟨kK, file, ci9, nt9, t9.cls, tk, by rw [hUv]; exact hkK, hfile, hpool, by rw [hUv]; exact hclsR, by rw [hUv]; exact htk, hitf⟩ (by rw [hUv]; exact hready) (by rw [hUv]; exact htk) (by rw [hUv]; exact hmeth2) (hsp _) hstM (by rw [hn]; exact hlen _ hsig) rfl
    (by rw [hUh]; exact hcB) (fun z e9 => by rw [e9] at hvB; cases hvB) (by rw [hUv]; exact hsel9) (by rw [hUv]; exact hmeth2) habM (by rw [hUv]; exact htk) hitf]
  intro acts'
  rw [doInvoke_state]
  exact a1
/-- inside the forwarder: the call of a static method and what follows -/
theorem lam_goS {G : rv_G} (hGK : rv_GK G) {p : Program} {e : Env} {R : Room} {s U : State} {mk : MethodId} {as : Array Value} {below : List Frame} {methk : Method} {ck : Code} {own : String} {tys : Array FieldType} {code : ByteArray} {ix pcc n d2 : Nat} {fxs : List Nat} {ls : Array Slot} {L : List (Option Value)} {y2 : MethodName} {cw : Cond} {as2 : List Value} {h : rv_H} {Q : rv_O → rv_H → Prop}
    (Y : Stand p G.1 e R s mk as below methk ck U [] 0 0) (hx : p.tables.exec = Jvm.exec) (hUh : U.heap = s.heap) (hUv : U.vm = s.vm) (hW : G.2.1.WarmedH s.vm) (hmade : lamMade s.vm mk.cls own tys y2.cls y2.name y2.desc code ix fxs) (hmi : mk.idx = 1) (hL : rv_L ck.maxLocals ls L)
    (hm : rv_md y2 cw n) (hi : (Cond.static y2) ∈ lw_all) (hC : rv_Call G d2 y2 cw as2 h Q) (hn : as2.length = n) (hR : rv_R G h s.heap) (hRc : R.cells + s.heap.size = rv_b G + rv_cN) (hRsl : R.slots + rv_sz (rv_b G) s.heap = rv_cS)
    (hf : d2 + 1 ≤ R.frames) (hl : 64 * d2 + 64 ≤ R.locals) (dc : decode code pcc = .ok (.invokestatic ix, 3)) (dr : decode code (pcc + 3) = .ok (.ireturn, 1)) (hpoly : y2.cls ≠ "java/lang/invoke/MethodHandle" ∧ y2.cls ≠ "java/lang/invoke/VarHandle") (hQv : ∀ v h', Q (.inl v) h' → ∃ z : Bool, v = some (.int (rv_z z))) :
    ∃ t, Steps p.tables e below (U.setTop (F0 mk pcc ls as2.reverse)) t ∧ vx_MQ below (fun _ _ o t => ∃ (v : Option Value) (h' : rv_H), o = .returned v ∧ rv_R G h' t.heap ∧ Q (.inl v) h') (fun E _ t => ∃ h' : rv_H, rv_R G h' t.heap ∧ Q (.inr E) h') as s R.cells R.slots (fun q => rv_b G ≤ q) t := by
  obtain ⟨kK, tk, methk9, ck9, t0, t9, file, ci9, nt9, ⟨hkK, hkind, hty, hkn⟩, ⟨hmk, hck, hbytes, hml, hex, hlk, hfl, hretk⟩, ⟨htoy, htk, hitf, hlook⟩, ⟨hready, hclsR, hfile, hpool, hnt⟩, hfld⟩ := hmade
  have emk : (⟨mk.cls, 1⟩ : MethodId) = mk := by cases mk; simp at hmi; subst hmi; rfl
  rw [emk] at hmk
  have hY : s.vm.method? mk = some methk := Y.method
  cases hmk.symm.trans hY
  cases hck.symm.trans Y.code
  obtain ⟨m2, meth2, hnamed, hmeth2, hlen, hsig⟩ := rv_md_named hGK hm hW
  have hmd := hm
  obtain ⟨nL, -, -, hini, hy, -, -⟩ := hm
  have hK := rv_back hGK (R := R) (p := p) (e := e) (below := below) (sargs := as) (len := 3) hmd hW hC hf hl
  have hstat := rv_wordU hGK (a := as) hW hi
  have hstM : meth2.isStatic = true := Cond.static_spec hnamed hmeth2 hstat
  have hinitK : tk.init = .initialized := Cond.initialized_spec (findClass_of_methodNamed hnamed) (by
    have e9 : t0 = m2.cls := Option.some.inj (htoy.symm.trans (findClass_of_methodNamed hnamed))
    rw [← e9]
    exact htk) (rv_wordU hGK (a := as) hW hini)
  have hfT : s.vm.findClass y2.cls = some m2.cls := findClass_of_methodNamed hnamed
  cases htoy.symm.trans hfT
  have ht9 : t9 = m2 := by
    have h1 : s.methodFound? y2.cls y2.name y2.desc = some m2 := State.methodFound?_of_named hnamed hpoly
    simp only [State.methodFound?, hfT, htk, Option.bind_eq_bind, Option.bind_some] at h1
    rw [hlook] at h1
    exact Option.some.inj h1
  subst ht9
  have hsp : ∀ z : Method, signaturePolymorphic tk z = false := fun z => by
    obtain ⟨kT', hkT', hnameT⟩ := className_of_methodNamed hnamed
    cases htk.symm.trans hkT'
    simp [signaturePolymorphic, hnameT, hpoly.1, hpoly.2]
  have Y' : Stand p G.1 e R s mk as below methk ck (U.setVm U.vm) [] (h.2.1 - h.2.1) (h.2.2 - h.2.2) := by rw [State.setVm_self, Nat.sub_self, Nat.sub_self]; exact Y
  have hs : U.topJava?.isSome := Y.here.top
  have dcl : decode ck.code pcc = .ok (.invokestatic ix, 3) := by rw [hbytes]; exact dc
  obtain ⟨t, a1, b1⟩ := rv_goOn (Qw := vx_MQ below (fun _ _ o t => ∃ (v : Option Value) (h' : rv_H), o = .returned v ∧ rv_R G h' t.heap ∧ Q (.inl v) h') (fun E _ t => ∃ h' : rv_H, rv_R G h' t.heap ∧ Q (.inr E) h') as s R.cells R.slots (fun q => rv_b G ≤ q)) (rest := []) (as := as2) (mk := t9) Y' hK hL dcl (Nat.zero_le _)
    (by
      have q : (s.setVm (U.setVm U.vm).vm).methodNamed? y2 = some t9 := by rw [show (U.setVm U.vm).vm = s.vm from hUv]; exact hnamed
      exact q)
    (by rw [hUv]; exact hW) (by rw [hUh]; exact hR) hR hRc hRsl (Nat.le_refl _) (Nat.le_refl _) (fun z hz => by cases hz)
    (fun v h' hq => by
      obtain ⟨z, rfl⟩ := hQv v h' hq
      intro H1 ls1 locs1 hR1 hL1 hz1
      exact vx_ret (W.zret hx hbytes hretk (rv_zn z) (fun t ht hW => ⟨_, h', rfl, by rw [ht]; exact hR1, hq⟩) hz1 dr hlk))
    (fun E h' hq => by
      intro H1 ls1 locs1 rest1 q1 ce1 hR1 hL1 hz1 hce hcv hcl
      exact vx_out (by rw [hex]; intro x hx; cases hx) hlk hce hcv hcl (fun t ht2 hA => ⟨h', by rw [ht2]; exact hR1, hq⟩) hz1 (Nat.le_refl _) (Nat.le_refl _))
  refine ⟨t, ?_, b1⟩
  rw [State.setVm_self] at a1
  show Steps p.tables e below (U.setTop { method := mk, pc := pcc, locals := ls, stack := as2.reverse, locked := none }) t
  obtain ⟨b9, hmem⟩ := memberRef_ask' (e := e) (vm := s.vm) (d := mk.cls) (index := ix) hkK hfile (Or.inl hpool) hnt
  jvm_step Y.here [hx, dcl, invokestatic.wp_ready (e := e) (s := U) (m := t9) (k := tk) (meth := meth2) (args := as2) (rest := [])
    (f := { method := mk, pc := pcc, locals := ls, stack := as2.reverse, locked := none }) hs ⟨ci9, _, _, b9, t9.cls, tk, by rw [hUv]; exact hmem, by rw [hUv]; exact hclsR, by rw [hUv]; exact htk, by simp [hsp]⟩ (by rw [hUv]; exact hready) (by rw [hUv]; exact htk) (by rw [hUv]; exact hmeth2) (hsp _) hstM hinitK (by rw [hn]; exact hlen _ hsig) (List.append_nil _).symm]
  intro acts'
  rw [doInvoke_state]
  exact a1
