/-! ROWS: calls, exceptions, a method's start -/
set_option maxRecDepth 100000
/-- the word of a method's code: with or without a table of handlers -/
def rv_cw (y : MethodName) (nL : Nat) (cw : Cond) : Prop := (∃ cc ret, cw = Cond.code y cc nL ret) ∨ ∃ cc ret hh, cw = Cond.codeWith y cc nL ret hh
/-- a method that can be called: n arguments beside the receiver -/
def rv_md (y : MethodName) (cw : Cond) (n : Nat) : Prop := ∃ nL, rv_cw y nL cw ∧ cw ∈ lw_all ∧ (Cond.initialized y.cls) ∈ lw_all ∧ (y.cls ≠ "java/lang/invoke/MethodHandle" ∧ y.cls ≠ "java/lang/invoke/VarHandle") ∧ (parseMethodDescriptor y.desc).map (fun d => d.parameters.length) = some n ∧ nL ≤ 45
theorem rv_md_named {G : rv_G} (hG : rv_GK G) {y : MethodName} {cw : Cond} {n : Nat} (hm : rv_md y cw n) {s : State} (hW : G.2.1.WarmedH s.vm) : ∃ (mk : MethodId) (meth : Method), s.methodNamed? y = some mk ∧ s.vm.method? mk = some meth ∧ (∀ sig, parseMethodDescriptor y.desc = some sig → n = sig.parameters.length) ∧ parseMethodDescriptor y.desc = some meth.sig := by
  obtain ⟨nL, hcw, hq, -, -, hn, -⟩ := hm
  have hlen : ∀ sig, parseMethodDescriptor y.desc = some sig → n = sig.parameters.length := fun sig h => by
    rw [h] at hn
    exact (Option.some.inj hn).symm
  rcases hcw with ⟨cc, ret, rfl⟩ | ⟨cc, ret, hh, rfl⟩
  · have h2 := rv_wordU hG (a := #[]) hW hq
    obtain ⟨mk, hnamed⟩ := Cond.code_named h2
    obtain ⟨methM, cM, hmethM, -, -, -, -, -, -, hsigM⟩ := Cond.code_spec hnamed h2
    exact ⟨mk, methM, hnamed, hmethM, hlen, hsigM⟩
  · have h2 := rv_wordU hG (a := #[]) hW hq
    obtain ⟨mk, methM, cM, hnamed, hmethM, -, -, -, -, -, -, hsigM⟩ := Cond.codeWith_spec h2
    exact ⟨mk, methM, hnamed, hmethM, hlen, hsigM⟩
theorem rv_back {G : rv_G} (hG : rv_GK G) {R : Room} {p : Program} {e : Env} {below : List Frame} {s : State} {sargs : Array Value} {y : MethodName} {cw : Cond} {n d2 len : Nat} {as : List Value} {h : rv_H} {Q : rv_O → rv_H → Prop} (hm : rv_md y cw n) (hW : G.2.1.WarmedH s.vm) (hC : rv_Call G d2 y cw as h Q) (hf : d2 + 1 ≤ R.frames) (hl : 64 * d2 + 64 ≤ R.locals) :
    vx_Back G.1 R p e below s sargs y len 8 (PreOf R (rv_rm G d2 h).cells (rv_rm G d2 h).slots (va_Pc as (fun U => G.2.1.WarmedH U.vm ∧ rv_R G h U.heap))) (PostOf (fun _ _ o t => ∃ (v : Option Value) (h' : rv_H), o = .returned v ∧ rv_R G h' t.heap ∧ Q (.inl v) h') (rv_rm G d2 h).cells (rv_rm G d2 h).slots (fun q => rv_b G ≤ q)) (vx_Post (fun E _ t => ∃ h' : rv_H, rv_R G h' t.heap ∧ Q (.inr E) h') (rv_rm G d2 h).cells (rv_rm G d2 h).slots (fun q => rv_b G ≤ q)) := by
  obtain ⟨nL, hcw, hq, hini, -, -, hnL⟩ := hm
  have hws : ∀ w ∈ [cw], ∀ (a' : Array Value) (U : State), s.WarmedH U.vm → w.before a' U = true := by
    intro w hw a' U hU
    rw [List.mem_singleton.mp hw]
    exact rv_wordU hG (State.WarmedH.trans hW hU) hq
  have hin9 : ∀ (a' : Array Value) (U : State), s.WarmedH U.vm → (Cond.initialized y.cls).before a' U = true := fun a' U hU => rv_wordU hG (State.WarmedH.trans hW hU) hini
  have hb : FrameBlind (va_Pc as (fun U => G.2.1.WarmedH U.vm ∧ rv_R G h U.heap)) := fun a U g mk q => ⟨q.1, q.2.1, q.2.2⟩
  rcases hcw with ⟨cc, ret, rfl⟩ | ⟨cc, ret, hh, rfl⟩
  · exact vx_back (bytes := cc) (maxL := nL) (ret := ret) hC hb rfl rfl hf (by show 8 + (nL + 11) + 64 * d2 ≤ R.locals; omega) hws (List.mem_singleton.mpr rfl) hin9
  · exact vx_backW (bytes := cc) (maxL := nL) (ret := ret) (hh := hh) hC hb rfl rfl hf (by show 8 + (nL + 11) + 64 * d2 ≤ R.locals; omega) hws (List.mem_singleton.mpr rfl) hin9
theorem rv_goOn {G : rv_G} {p : Program} {e : Env} {R : Room} {s : State} {m : MethodId} {args : Array Value} {below : List Frame} {meth : Method} {c : Code} {Qw : State → Prop} {T : State} {vm₁ : Vm} {locs : List Loc} {y2 : MethodName} {mk : MethodId} {d2 len pc : Nat} {ig : Instr} {ls : Array Slot} {L : List (Option Value)} {as rest : List Value} {h hs : rv_H} {Q : rv_O → rv_H → Prop}
    (X₁ : Stand p G.1 e R s m args below meth c (T.setVm vm₁) locs (h.2.1 - hs.2.1) (h.2.2 - hs.2.2)) (hK : vx_Back G.1 R p e below s args y2 len 8 (PreOf R (rv_rm G d2 h).cells (rv_rm G d2 h).slots (va_Pc as (fun U => G.2.1.WarmedH U.vm ∧ rv_R G h U.heap))) (PostOf (fun _ _ o t => ∃ (v : Option Value) (h' : rv_H), o = .returned v ∧ rv_R G h' t.heap ∧ Q (.inl v) h') (rv_rm G d2 h).cells (rv_rm G d2 h).slots (fun q => rv_b G ≤ q)) (vx_Post (fun E _ t => ∃ h' : rv_H, rv_R G h' t.heap ∧ Q (.inr E) h') (rv_rm G d2 h).cells (rv_rm G d2 h).slots (fun q => rv_b G ≤ q)))
    (hL : rv_L c.maxLocals ls L) (hdg : decode c.code pc = .ok (ig, len)) (hroom : (rest.map fun v => v.category).sum ≤ 8) (hn : (T.setVm vm₁).methodNamed? y2 = some mk) (hGW : G.2.1.WarmedH vm₁) (hR : rv_R G h T.heap) (hRs : rv_R G hs s.heap) (hRc : R.cells + s.heap.size = rv_b G + rv_cN) (hRsl : R.slots + rv_sz (rv_b G) s.heap = rv_cS) (hle : hs.2.1 ≤ h.2.1) (hle2 : hs.2.2 ≤ h.2.2)
    (hz : ∀ z ∈ locs, rv_b G ≤ z.base)
    (kk : ∀ (v : Option Value) (h' : rv_H), Q (.inl v) h' → rv_V (G, p, e, R, s, m, args, below, meth, c, Qw) h' (pc + len) L (v.toList ++ rest)) (kx : ∀ (E : String) (h' : rv_H), Q (.inr E) h' → rv_T (G, p, e, R, s, m, args, below, meth, c, Qw) h' pc L E) :
    ∃ t, Steps p.tables e below (doInvoke e ((T.setVm vm₁).setTop (F0 m pc ls rest)) [] mk as.toArray).1 t ∧ Qw t := by
  have hs0 : s.heap.size = hs.2.1 := hRs.1
  have hs1 : rv_sz (rv_b G) s.heap = hs.2.2 := hRs.2.2.2.2.1
  have hc1 : h.2.1 - hs.2.1 + (rv_rm G d2 h).cells = R.cells := by
    show h.2.1 - hs.2.1 + (rv_b G + rv_cN - h.2.1) = R.cells
    have := hR.2.2.2.2.2.1
    omega
  have hc2 : h.2.2 - hs.2.2 + (rv_rm G d2 h).slots = R.slots := by
    show h.2.2 - hs.2.2 + (rv_cS - h.2.2) = R.slots
    have := hR.2.2.2.2.2.2.1
    omega
  have zz : ∀ (L9 : List Loc), (∀ q ∈ L9, rv_b G ≤ q.base) → ∀ z ∈ locs ++ L9, rv_b G ≤ z.base := fun L9 h9 z hm => (List.mem_append.mp hm).elim (hz z) (h9 z)
  rcases hK m meth c ⟨T.setVm vm₁, locs, h.2.1 - hs.2.1, h.2.2 - hs.2.2⟩ (F0 m pc ls rest) ig mk as.toArray X₁ rfl hL.1.1 hdg (by show 2 * 0 + (rest.map fun v => v.category).sum ≤ 8; omega) hn ⟨by show h.2.1 - hs.2.1 + (rv_rm G d2 h).cells ≤ R.cells; omega, by show h.2.2 - hs.2.2 + (rv_rm G d2 h).slots ≤ R.slots; omega, rfl, hGW, hR⟩ with ⟨v, ⟨U', l2, c2, s2⟩, X', ⟨g', mk9, t, L9, e1, e2, ⟨v9, h', hv9, hR', hq⟩, h1, hL9, h2, h3⟩, st⟩ | ⟨q, ⟨U', l2, c2, s2⟩, X', ⟨g', mk9, t, L9, E, ce, e1, e2, ⟨h', hR', hq⟩, hce, hcv, hcl, h1, hL9, h2, h3⟩, st⟩
  · dsimp only [Pt.U, Pt.locs, Pt.cells, Pt.slots] at X' e1 e2 h1 h2 h3 st
    cases hv9
    rw [h1, h2, h3, hc1, hc2] at X'
    obtain ⟨t2, a1, b1⟩ := kk v h' hq U'.heap ls _ (by rw [e1]; exact hR') hL (zz L9 hL9) U' rfl X'
    exact ⟨t2, st.trans a1, b1⟩
  · dsimp only [Pt.U, Pt.locs, Pt.cells, Pt.slots] at X' e1 e2 h1 h2 h3 st hcl
    rw [h1, h2, h3, hc1, hc2] at X'
    have hcl9 : s.vm.findClass E = some ce.cls := by
      have h9 := X₁.warmed.alike.findClass (name := E)
      rw [← h9]
      exact hcl
    obtain ⟨t2, a1, b1⟩ := kx E h' hq U'.heap ls _ rest q ce (by rw [e1]; exact hR') hL (zz L9 hL9) (by rw [e1]; exact hce) hcv hcl9 U' rfl X'
    exact ⟨t2, st.trans a1, b1⟩
def rv_ls (own : String) (ix : Nat) (y2 : MethodName) : Prop := ((Cond.methodLink own ix y2) ∈ lw_all ∨ ∃ host, (Cond.methodLinkNest own ix y2 host) ∈ lw_tbl) ∧ (Cond.static y2) ∈ lw_all
def rv_lv (own : String) (ix : Nat) (y2 : MethodName) : Prop := ((Cond.methodLink own ix y2) ∈ lw_all ∨ ∃ host, (Cond.methodLinkNest own ix y2 host) ∈ lw_tbl) ∧ (Cond.instanceMethod y2) ∈ lw_all ∧ (Cond.selects y2.cls y2 y2) ∈ lw_all
def rv_li (own : String) (ix : Nat) (y2 : MethodName) : Prop := ((Cond.methodLink own ix y2) ∈ lw_all ∨ ∃ host, (Cond.methodLinkNest own ix y2 host) ∈ lw_tbl) ∧ (Cond.instanceMethod y2) ∈ lw_all ∧ y2.name = "<init>"
/-- class number ci is the class C -/
def rv_rc (ci : Nat) (C : String) : Prop := ∃ (T : u_T) (N : Nat), rv_cl[ci]? = some (C, T, N)
section RC
variable {X : rv_X} {y y2 : MethodName} {cc : ByteArray} {cw : Cond} {d d2 n ix : Nat} {h : rv_H} {pc : Nat} {L : List (Option Value)} {st stk as : List Value} {Q : rv_O → rv_H → Prop}
theorem rv_invS (hX : rv_K X y cc d) (hl : rv_ls y.cls ix y2) (hm : rv_md y2 cw n) (hC : rv_Call X.1 d2 y2 cw as h Q) (hd : d2 + 1 ≤ d) (hn : as.length = n) (hst : stk = as.reverse ++ st) (hroom : (st.map fun v => v.category).sum ≤ 8) (dg : decode cc pc = .ok (.invokestatic ix, 3)) (kk : ∀ (v : Option Value) (h' : rv_H), Q (.inl v) h' → rv_V X h' (pc + 3) L (v.toList ++ st)) (kx : ∀ (E : String) (h' : rv_H), Q (.inr E) h' → rv_T X h' pc L E) : rv_V X h pc L stk := by
  obtain ⟨hl, hi⟩ := hl
  have hnest := fun host (q : (Cond.methodLinkNest y.cls ix y2 host) ∈ lw_tbl) => rv_nestM hX q
  obtain ⟨G, p, e, R, s, m, args, below, meth, c, Qw⟩ := X
  intro H ls locs hR hL hz T0 hT0 XS0
  obtain ⟨hx, hb, hown, hlk, hGK, hW, ⟨hs, hRs, hRc, hRsl⟩, hfr, hlo, -⟩ := hX
  have hs0 : s.heap.size = hs.2.1 := hRs.1
  have hs1 : rv_sz (rv_b G) s.heap = hs.2.2 := hRs.2.2.2.2.1
  have hle : hs.2.1 ≤ h.2.1 := by
    have h9 : s.heap.size ≤ T0.heap.size := XS0.same.2.1
    rw [hT0, hR.1, hs0] at h9
    exact h9
  have hle2 : hs.2.2 ≤ h.2.2 := by
    have e1 := rv_old_sz XS0.same (b := rv_b G) hRs.2.1
    rw [hT0, hR.2.2.2.2.1, hs1] at e1
    omega
  refine rv_tight (k := R.cells) (n := R.slots) hR hRs ?_ T0 hT0 XS0
  intro T hT XS
  subst hT
  obtain ⟨mk, methM, hnamed, hmethM, hlen, hsig⟩ := rv_md_named hGK hm hW
  have hmd := hm
  obtain ⟨nL, -, -, hini, hy, -, -⟩ := hm
  obtain ⟨kP, hkP, -⟩ := className_of_methodNamed hnamed
  have hinitP : kP.init = .initialized := Cond.initialized_spec (findClass_of_methodNamed hnamed) hkP (rv_wordU hGK (a := args) hW hini)
  have hK := rv_back hGK (R := R) (p := p) (e := e) (below := below) (sargs := args) (len := 3) hmd hW hC (by omega) (by omega)
  have hstatic : methM.isStatic = true := Cond.static_spec hnamed hmethM (rv_wordU hGK (a := args) hW hi)
  rcases hl with hl | ⟨host, hl⟩
  · obtain ⟨vm₁, X₁, hstep₁⟩ := XS.invokestatic hx hown (rv_wordU hGK hW hl) hnamed hmethM hstatic hkP hinitP hy (g := F0 m pc ls stk) rfl (argsL := as) (rest := st) (hn.trans (hlen _ hsig)) hst (by rw [hb]; exact dg)
    obtain ⟨t, a1, b1⟩ := rv_goOn X₁ hK hL (by rw [hb]; exact dg) hroom (X₁.named hnamed) (State.WarmedH.trans hW X₁.warmed) hR hRs hRc hRsl hle hle2 hz kk kx
    exact ⟨t, hstep₁ _ (fun acts => by rw [doInvoke_state]; exact a1), b1⟩
  · obtain ⟨vm₁, X₁, hstep₁⟩ := XS.invokestaticNest hx hown (hnest host hl) hnamed hmethM hstatic hkP hinitP hy (g := F0 m pc ls stk) rfl (argsL := as) (rest := st) (hn.trans (hlen _ hsig)) hst (by rw [hb]; exact dg)
    obtain ⟨t, a1, b1⟩ := rv_goOn X₁ hK hL (by rw [hb]; exact dg) hroom (X₁.named hnamed) (State.WarmedH.trans hW X₁.warmed) hR hRs hRc hRsl hle hle2 hz kk kx
    exact ⟨t, hstep₁ _ (fun acts => by rw [doInvoke_state]; exact a1), b1⟩
theorem rv_invV (hX : rv_K X y cc d) (hl : rv_lv y.cls ix y2) (hm : rv_md y2 cw n) {b ci : Nat} {fs : List Value} (hg : h.1 b = some (.inr (ci, fs))) (hci : rv_rc ci y2.cls) (hC : rv_Call X.1 d2 y2 cw (.ref b :: as) h Q) (hd : d2 + 1 ≤ d) (hn : as.length = n) (hst : stk = as.reverse ++ .ref b :: st) (hroom : (st.map fun v => v.category).sum ≤ 8) (dg : decode cc pc = .ok (.invokevirtual ix, 3)) (kk : ∀ (v : Option Value) (h' : rv_H), Q (.inl v) h' → rv_V X h' (pc + 3) L (v.toList ++ st)) (kx : ∀ (E : String) (h' : rv_H), Q (.inr E) h' → rv_T X h' pc L E) : rv_V X h pc L stk := by
  obtain ⟨hl, hi, hse⟩ := hl
  have hnest := fun host (q : (Cond.methodLinkNest y.cls ix y2 host) ∈ lw_tbl) => rv_nestM hX q
  obtain ⟨T9, N9, hc9⟩ := hci
  have hU := rv_U_at hX hc9
  obtain ⟨G, p, e, R, s, m, args, below, meth, c, Qw⟩ := X
  intro H ls locs hR hL hz T0 hT0 XS0
  obtain ⟨hx, hb, hown, hlk, hGK, hW, ⟨hs, hRs, hRc, hRsl⟩, hfr, hlo, -⟩ := hX
  have hs0 : s.heap.size = hs.2.1 := hRs.1
  have hs1 : rv_sz (rv_b G) s.heap = hs.2.2 := hRs.2.2.2.2.1
  have hle : hs.2.1 ≤ h.2.1 := by
    have h9 : s.heap.size ≤ T0.heap.size := XS0.same.2.1
    rw [hT0, hR.1, hs0] at h9
    exact h9
  have hle2 : hs.2.2 ≤ h.2.2 := by
    have e1 := rv_old_sz XS0.same (b := rv_b G) hRs.2.1
    rw [hT0, hR.2.2.2.2.1, hs1] at e1
    omega
  refine rv_tight (k := R.cells) (n := R.slots) hR hRs ?_ T0 hT0 XS0
  intro T hT XS
  subst hT
  obtain ⟨mk, methM, hnamed, hmethM, hlen, hsig⟩ := rv_md_named hGK hm hW
  have hmd := hm
  obtain ⟨nL, -, -, hini, hy, -, -⟩ := hm
  obtain ⟨kP, hkP, -⟩ := className_of_methodNamed hnamed
  have hinitP : kP.init = .initialized := Cond.initialized_spec (findClass_of_methodNamed hnamed) hkP (rv_wordU hGK (a := args) hW hini)
  have hK := rv_back hGK (R := R) (p := p) (e := e) (below := below) (sargs := args) (len := 3) hmd hW hC (by omega) (by omega)
  have hinst := rv_wordU hGK (a := args) hW hi
  obtain ⟨mk2, methM2, hnamed2, hmethM2, hstM, habM⟩ := Cond.instanceMethod_spec hinst
  cases hnamed.symm.trans hnamed2
  cases hmethM.symm.trans hmethM2
  have hsel := rv_wordU hGK (a := args) hW hse
  obtain ⟨c2, r2, m2, q1, q2, q3, q4, kP2, hkP2, hkPi⟩ := Cond.selects_spec hsel
  obtain ⟨-, cellB, hcB, hclB, hvB, -⟩ := hR.2.2.2.1 b _ hg
  have hclsB : s.vm.findClass y2.cls = some cellB.cls := by rw [hclB]; exact hU.2.1
  cases hclsB.symm.trans q1
  cases (State.methodFound?_of_named hnamed hy).symm.trans q2
  cases hnamed.symm.trans q3
  have hselP : selectMethod e.platform s.vm cellB.cls mk = .method mk := by rw [Launch.admits_selectMethod XS.admits]; exact q4
  rcases hl with hl | ⟨host, hl⟩
  · obtain ⟨vm₁, X₁, hstep₁⟩ := XS.invokevirtual hx hown (rv_wordU hGK hW hl) hnamed hmethM hstM hkP2 hkPi hy (a := b) (cell := cellB) hcB (fun z h => by rw [hvB] at h; cases h) hselP hmethM habM hkP2 hkPi (g := F0 m pc ls stk) rfl (argsL := as) (rest := st) (hn.trans (hlen _ hsig)) hst (by rw [hb]; exact dg)
    obtain ⟨t, a1, b1⟩ := rv_goOn X₁ hK hL (by rw [hb]; exact dg) hroom (X₁.named hnamed) (State.WarmedH.trans hW X₁.warmed) hR hRs hRc hRsl hle hle2 hz kk kx
    exact ⟨t, hstep₁ _ (fun acts => by rw [doInvoke_state]; exact a1), b1⟩
  · obtain ⟨vm₁, X₁, hstep₁⟩ := XS.invokevirtualNest hx hown (hnest host hl) hnamed hmethM hstM hkP2 hkPi hy (a := b) (cell := cellB) hcB (fun z h => by rw [hvB] at h; cases h) hselP hmethM habM hkP2 hkPi (g := F0 m pc ls stk) rfl (argsL := as) (rest := st) (hn.trans (hlen _ hsig)) hst (by rw [hb]; exact dg)
    obtain ⟨t, a1, b1⟩ := rv_goOn X₁ hK hL (by rw [hb]; exact dg) hroom (X₁.named hnamed) (State.WarmedH.trans hW X₁.warmed) hR hRs hRc hRsl hle hle2 hz kk kx
    exact ⟨t, hstep₁ _ (fun acts => by rw [doInvoke_state]; exact a1), b1⟩
theorem rv_invI {cc2 : ByteArray} {nL2 : Nat} (hX : rv_K X y cc d) (hl : rv_li y.cls ix y2) (hm : rv_md y2 cw n) (hcw : cw = Cond.code y2 cc2 nL2 none) {b : Nat} (hC : rv_Call X.1 d2 y2 cw (.ref b :: as) h Q) (hd : d2 + 1 ≤ d) (hn : as.length = n) (hst : stk = as.reverse ++ .ref b :: st) (hroom : (st.map fun v => v.category).sum ≤ 8) (dg : decode cc pc = .ok (.invokespecial ix, 3)) (kk : ∀ (v : Option Value) (h' : rv_H), Q (.inl v) h' → rv_V X h' (pc + 3) L (v.toList ++ st)) (kx : ∀ (E : String) (h' : rv_H), Q (.inr E) h' → rv_T X h' pc L E) : rv_V X h pc L stk := by
  obtain ⟨hl, hi, hy1⟩ := hl
  have hnest := fun host (q : (Cond.methodLinkNest y.cls ix y2 host) ∈ lw_tbl) => rv_nestM hX q
  obtain ⟨G, p, e, R, s, m, args, below, meth, c, Qw⟩ := X
  intro H ls locs hR hL hz T0 hT0 XS0
  obtain ⟨hx, hb, hown, hlk, hGK, hW, ⟨hs, hRs, hRc, hRsl⟩, hfr, hlo, -⟩ := hX
  have hs0 : s.heap.size = hs.2.1 := hRs.1
  have hs1 : rv_sz (rv_b G) s.heap = hs.2.2 := hRs.2.2.2.2.1
  have hle : hs.2.1 ≤ h.2.1 := by
    have h9 : s.heap.size ≤ T0.heap.size := XS0.same.2.1
    rw [hT0, hR.1, hs0] at h9
    exact h9
  have hle2 : hs.2.2 ≤ h.2.2 := by
    have e1 := rv_old_sz XS0.same (b := rv_b G) hRs.2.1
    rw [hT0, hR.2.2.2.2.1, hs1] at e1
    omega
  refine rv_tight (k := R.cells) (n := R.slots) hR hRs ?_ T0 hT0 XS0
  intro T hT XS
  subst hT
  obtain ⟨mk, methM, hnamed, hmethM, hlen, hsig⟩ := rv_md_named hGK hm hW
  have hmd := hm
  obtain ⟨nL, -, -, hini, hy, -, -⟩ := hm
  obtain ⟨kP, hkP, -⟩ := className_of_methodNamed hnamed
  have hinitP : kP.init = .initialized := Cond.initialized_spec (findClass_of_methodNamed hnamed) hkP (rv_wordU hGK (a := args) hW hini)
  have hK := rv_back hGK (R := R) (p := p) (e := e) (below := below) (sargs := args) (len := 3) hmd hW hC (by omega) (by omega)
  have hpl : e.platform.magicAccessors = ({} : Platform).magicAccessors := by rw [XS.admits.platform]
  subst hcw
  have hcq : (Cond.code y2 cc2 nL2 none) ∈ lw_all := by
    obtain ⟨nL9, -, hq9, -⟩ := hmd
    exact hq9
  have hlen9 : ∀ sig, parseMethodDescriptor y2.desc = some sig → as.length = sig.parameters.length := fun sig h => hn.trans (hlen sig h)
  rcases hl with hl | ⟨host, hl⟩
  · obtain ⟨mk2, methM2, cM, kP2, vm₁, hnamed2, hmethM2, hcodeM, -, hlocalsM, -, hkP2, -, hW₁, hstep₁⟩ := Steps.initColdArgs (tb := p.tables) (e := e) (below := below) XS.here hx XS.warmed hpl hown hy1 hy (rv_wordU hGK hW hl) (rv_wordU hGK (a := args) hW hi) (rv_wordU hGK hW hcq) (f := F0 m pc ls stk) rfl hlen9 hst (by rw [hb]; exact dg)
    cases hnamed.symm.trans hnamed2
    have X₁ := XS.noted hW₁
    obtain ⟨t, a1, b1⟩ := rv_goOn X₁ hK hL (by rw [hb]; exact dg) hroom (X₁.named hnamed) (State.WarmedH.trans hW X₁.warmed) hR hRs hRc hRsl hle hle2 hz kk kx
    exact ⟨t, hstep₁ _ (fun acts => by rw [doInvoke_state]; exact a1), b1⟩
  · obtain ⟨mk2, methM2, cM, kP2, vm₁, hnamed2, hmethM2, hcodeM, -, hlocalsM, -, hkP2, -, hW₁, hstep₁⟩ := Steps.initColdArgsNest (tb := p.tables) (e := e) (below := below) XS.here hx XS.warmed hpl hown hy1 hy (hnest host hl) (rv_wordU hGK (a := args) hW hi) (rv_wordU hGK hW hcq) (f := F0 m pc ls stk) rfl hlen9 hst (by rw [hb]; exact dg)
    cases hnamed.symm.trans hnamed2
    have X₁ := XS.noted hW₁
    obtain ⟨t, a1, b1⟩ := rv_goOn X₁ hK hL (by rw [hb]; exact dg) hroom (X₁.named hnamed) (State.WarmedH.trans hW X₁.warmed) hR hRs hRc hRsl hle hle2 hz kk kx
    exact ⟨t, hstep₁ _ (fun acts => by rw [doInvoke_state]; exact a1), b1⟩
/-- Object.<init> -/
theorem rv_objInit (hX : rv_K X y cc d) {b : Nat} (hl : (Cond.methodLink y.cls ix Lib.objectInit) ∈ lw_all) (hi : (Cond.instanceMethod Lib.objectInit) ∈ lw_all) (hc9 : (Cond.code Lib.objectInit ⟨#[0xb1]⟩ 1 none) ∈ lw_all) (hd : 1 ≤ d) (hroom : (st.map fun v => v.category).sum ≤ 8) (dg : decode cc pc = .ok (.invokespecial ix, 3)) (kk : rv_V X h (pc + 3) L st) : rv_V X h pc L (.ref b :: st) := by
  have h1 := rv_words hX hl
  have h2 := rv_words hX hi
  have h3 := rv_words hX hc9
  obtain ⟨G, p, e, R, s, m, args, below, meth, c, Qw⟩ := X
  intro H ls locs hR hL hz
  obtain ⟨hx, hb, hown, -, -, -, -, hfr, hlo, -⟩ := hX
  exact W.objInit hx hb hown h1 h2 h3 rfl hL.1.1 rfl dg (by omega) (by show 2 * 0 + (st.map fun v => v.category).sum + 12 ≤ R.locals; omega) (kk H ls locs hR hL hz)
/-- not caught here -/
theorem rv_out (hX : rv_K X y cc d) {ret : Option FieldType} {hh : List ExceptionTableEntry} {Qe : rv_O → rv_H → Prop} (hE : rv_E X ret hh Qe) {E : String} (hcov : ∀ x ∈ hh, covers x pc = false) (hq : Qe (.inr E) h) : rv_T X h pc L E := by
  obtain ⟨G, p, e, R, s, m, args, below, meth, c, Qw⟩ := X
  intro H ls locs rest q ce hR hL hz hcell hv hcl
  obtain ⟨hr, ht, hQ⟩ := hE
  subst hQ
  exact vx_out (by rw [ht]; exact hcov) hX.2.2.2.1 hcell hv hcl (fun t ht2 hA => ⟨h, by rw [ht2]; exact hR, hq⟩) hz (Nat.le_refl _) (Nat.le_refl _)
/-- E isn't of the class nm: said by the start's premises -/
def rv_nc (E nm : String) : Prop := (Cond.not (.castable E nm)) ∈ flatC (Jvm.Cond.and given_1 narrow_1)
theorem rv_nc_at (hX : rv_K X y cc d) {E nm : String} (hn : rv_nc E nm) : va_Nc E nm X.2.2.2.2.1 := by
  obtain ⟨G, p, e, R, s, m, args, below, meth, c, Qw⟩ := X
  obtain ⟨-, -, -, -, ⟨⟨a0, -, h0⟩, -⟩, hW, -⟩ := hX
  exact va_Nc.moved hW.alike (va_Nc.of (flat_of_before _ h0 _ hn))
theorem rv_catch (hX : rv_K X y cc d) {ret : Option FieldType} {hh : List ExceptionTableEntry} {Qe : rv_O → rv_H → Prop} (hE : rv_E X ret hh Qe) {E name : String} (pre : List ExceptionTableEntry) (x : ExceptionTableEntry) (suf : List ExceptionTableEntry) (hsplit : hh = pre ++ x :: suf) (hpass : ∀ z ∈ pre, covers z pc = false ∨ (z.catchType ≠ 0 ∧ ∃ nm : String, (Cond.classLink y.cls z.catchType nm) ∈ lw_all ∧ rv_nc E nm)) (hcov : covers x pc = true) (h0 : x.catchType ≠ 0) (hlink : (Cond.classLink y.cls x.catchType name) ∈ lw_all) (hcast : (Cond.castable E name) ∈ lw_tbl) (kk : ∀ q : Nat, rv_V X h x.handlerPc L [.ref q]) : rv_T X h pc L E := by
  have h1 := rv_words hX hlink
  have h2 : ∀ z ∈ pre, covers z pc = false ∨ (z.catchType ≠ 0 ∧ ∃ nm : String, (Cond.classLink y.cls z.catchType nm).before X.2.2.2.2.2.2.1 X.2.2.2.2.1 = true ∧ va_Nc E nm X.2.2.2.2.1) := fun z hz => by
    rcases hpass z hz with h9 | ⟨h9, nm, h8, h7⟩
    · exact Or.inl h9
    · exact Or.inr ⟨h9, nm, rv_words hX h8, rv_nc_at hX h7⟩
  obtain ⟨G, p, e, R, s, m, args, below, meth, c, Qw⟩ := X
  intro H ls locs rest q ce hR hL hz hcell hv hcl
  have hc9 : (Cond.castable E name).before args s = true := by
    obtain ⟨-, -, -, -, ⟨⟨a0, hw, -⟩, -⟩, hW, -⟩ := hX
    exact va_Nw.use rfl (va_Nw.warmC hW (va_Nw.of rfl (hw _ hcast)))
  exact vx_catch hX.2.2.1 pre x suf (by rw [hE.2.1]; exact hsplit) h2 hcov h0 h1 hc9 hcell hv hcl (kk q H ls locs hR hL hz)
end RC
/-! a method's start -/
def rv_sv (s : Slot) : Option Value := match s with
  | .val v => some v
  | _ => none
def rv_in (as : List Value) (n : Nat) : List (Option Value) := (lg_sl as ++ List.replicate (n - (lg_sl as).length) Slot.unset).map rv_sv
theorem rv_in_L {as : List Value} {n : Nat} (hn : (lg_sl as).length ≤ n) : rv_L n (lg_sl as ++ List.replicate (n - (lg_sl as).length) Slot.unset).toArray (rv_in as n) := by
  have h1 := lv_entry as hn
  refine ⟨⟨h1.1, by simp [rv_in]; omega⟩, h1.2.1, fun i v hi => ?_⟩
  unfold rv_in at hi
  rw [List.getElem?_map] at hi
  rw [List.getElem?_toArray]
  cases hx : (lg_sl as ++ List.replicate (n - (lg_sl as).length) Slot.unset)[i]? with
  | none => rw [hx] at hi; cases hi
  | some x =>
    rw [hx] at hi
    simp only [Option.map_some, Option.some.injEq] at hi
    cases x with
    | val w =>
      simp only [rv_sv, Option.some.injEq] at hi
      rw [hi]
    | unset => cases hi
    | second => cases hi
theorem rv_start {G : rv_G} (hG : rv_GK G) {d : Nat} {y : MethodName} {cc : ByteArray} {nL : Nat} {ret : Option FieldType} {as : List Value} {h : rv_H} {Q : rv_O → rv_H → Prop} {L : List (Option Value)} (hy : plainName y.cls = true) (hL : rv_in as nL = L) (hn : (lg_sl as).length ≤ nL)
    (body : ∀ X : rv_X, X.1 = G → rv_K X y cc d → rv_E X ret [] Q → rv_V X h 0 L []) : rv_Call G d y (Cond.code y cc nL ret) as h Q := by
  subst hL
  refine vx_ofW (cc := cc) (maxL := nL) (ret := ret) hy rfl ?_
  intro p e s m args below meth c s₁ B hml hnoH hv
  obtain ⟨rfl, hW, hR⟩ := hv
  have hnil : c.exceptionTable.toList = [] := List.eq_nil_iff_forall_not_mem.mpr (fun x hx => hnoH x hx)
  have h1 := hR.1
  have h2 := hR.2.2.2.2.1
  have h3 := hR.2.2.2.2.2.1
  have h4 := hR.2.2.2.2.2.2.1
  have hK : ∀ Qw : State → Prop, rv_K (G, p, e, rv_rm G d h, s, m, as.toArray, below, meth, c, Qw) y cc d := fun Qw => ⟨B.exec, B.bytes, findClass_of_methodNamed B.named, B.notSynchronized, hG, hW, ⟨h, hR, by show rv_b G + rv_cN - h.2.1 + s.heap.size = _; omega, by show rv_cS - h.2.2 + rv_sz (rv_b G) s.heap = _; omega⟩, Nat.le_refl _, Nat.le_refl _, (name_of_methodNamed B.named B.method).1⟩
  have hV := body _ rfl (hK _) ⟨B.returns, hnil, rfl⟩
  rw [lg_entry_eq]
  refine W.widen (k := (rv_rm G d h).cells) (n := (rv_rm G d h).slots) (Nat.zero_le _) (Nat.zero_le _) ?_
  exact hV s.heap _ [] hR (by rw [hml]; exact rv_in_L hn) (fun z hz => by cases hz)
theorem rv_startW {G : rv_G} (hG : rv_GK G) {d : Nat} {y : MethodName} {cc : ByteArray} {nL : Nat} {ret : Option FieldType} {hh : List (Nat × Nat × Nat × Nat)} {as : List Value} {h : rv_H} {Q : rv_O → rv_H → Prop} {L : List (Option Value)} (hy : plainName y.cls = true) (hL : rv_in as nL = L) (hn : (lg_sl as).length ≤ nL)
    (body : ∀ X : rv_X, X.1 = G → rv_K X y cc d → rv_E X ret (tableOf hh) Q → rv_V X h 0 L []) : rv_Call G d y (Cond.codeWith y cc nL ret hh) as h Q := by
  subst hL
  refine vx_ofWH (cc := cc) (maxL := nL) (ret := ret) hy rfl ?_
  intro p e s m args below meth c s₁ B hml hv
  obtain ⟨rfl, hW, hR⟩ := hv
  have htab := vx_table (x := y) B (atoms_spec (ws := [Cond.codeWith y cc nL ret hh]) B.pre _ (List.mem_singleton.mpr rfl))
  have h1 := hR.1
  have h2 := hR.2.2.2.2.1
  have h3 := hR.2.2.2.2.2.1
  have h4 := hR.2.2.2.2.2.2.1
  have hK : ∀ Qw : State → Prop, rv_K (G, p, e, rv_rm G d h, s, m, as.toArray, below, meth, c, Qw) y cc d := fun Qw => ⟨B.exec, B.bytes, findClass_of_methodNamed B.named, B.notSynchronized, hG, hW, ⟨h, hR, by show rv_b G + rv_cN - h.2.1 + s.heap.size = _; omega, by show rv_cS - h.2.2 + rv_sz (rv_b G) s.heap = _; omega⟩, Nat.le_refl _, Nat.le_refl _, (name_of_methodNamed B.named B.method).1⟩
  have hV := body _ rfl (hK _) ⟨B.returns, htab, rfl⟩
  rw [lg_entry_eq]
  refine W.widen (k := (rv_rm G d h).cells) (n := (rv_rm G d h).slots) (Nat.zero_le _) (Nat.zero_le _) ?_
  exact hV s.heap _ [] hR (by rw [hml]; exact rv_in_L hn) (fun z hz => by cases hz)
theorem rv_Call.mono {G : rv_G} {d : Nat} {y : MethodName} {cw : Cond} {as : List Value} {h : rv_H} {Q Q' : rv_O → rv_H → Prop} (hC : rv_Call G d y cw as h Q) (hq : ∀ o h', Q o h' → Q' o h') : rv_Call G d y cw as h Q' := by
  intro p e h1 h2 h3 s m args below h4 h5 h6 h7
  obtain ⟨n, o, g1, g2, g3, g4⟩ := hC p e h1 h2 h3 s m args below h4 h5 h6 h7
  refine ⟨n, o, g1, g2, g3, ?_⟩
  rcases g4 with ⟨⟨v, h', e1, e2, e3⟩, e4⟩ | ⟨q, e1, E, ce, L, ⟨h', e2, e3⟩, e4⟩
  · exact Or.inl ⟨⟨v, h', e1, e2, hq _ _ e3⟩, e4⟩
  · exact Or.inr ⟨q, e1, E, ce, L, ⟨h', e2, hq _ _ e3⟩, e4⟩
