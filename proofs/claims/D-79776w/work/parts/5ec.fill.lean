/-! ROWS: Throwable's constructors (launches without stack traces): static fields that are null or some reference, fillInStackTrace, athrow -/
set_option maxRecDepth 100000
set_option maxHeartbeats 1000000
def rv_zu (G : rv_G) (n ds : String) (v : Value) : Prop := v.isRef = true ∧ va_Z "java/lang/Throwable" n ds v (fun q => rv_b G ≤ q) G.2.1 G.2.1.heap
theorem rv_zuU {G : rv_G} (hG : rv_GK G) : ∃ v, rv_zu G "UNASSIGNED_STACK" "[Ljava/lang/StackTraceElement;" v := by
  rcases (rv_zqU hG).1 with h | ⟨t, h⟩
  · exact ⟨_, rfl, h⟩
  · exact ⟨_, rfl, h⟩
theorem rv_zuN {G : rv_G} (hG : rv_GK G) : ∃ v, rv_zu G "SUPPRESSED_SENTINEL" "Ljava/util/List;" v := by
  rcases (rv_zqN hG).1 with h | ⟨t, h⟩
  · exact ⟨_, rfl, h⟩
  · exact ⟨_, rfl, h⟩
/-- class number ci is an exception's -/
def rv_ex (ci : Nat) : Prop := ∃ (C : String) (T : u_T), rv_cl[ci]? = some (C, T, 6) ∧ (∀ w ∈ u_ws C T 6, w ∈ lw_all) ∧ T 1 = ("java/lang/Throwable", "stackTrace", "[Ljava/lang/StackTraceElement;", false) ∧ T 4 = ("java/lang/Throwable", "backtrace", "Ljava/lang/Object;", false) ∧ (Cond.lays C "java/lang/Throwable" "stackTrace" "[Ljava/lang/StackTraceElement;") ∈ lw_all ∧ (Cond.selects C Bundle.tFill0 Bundle.tFill0) ∈ lw_all ∧ (Cond.selects C Bundle.tFill Bundle.tFill) ∈ lw_all
theorem rv_exX5 : rv_ex 4 := ⟨RX5, TX5, rv_c4, in_X5, rfl, rfl, q1243, q1241, q229⟩
theorem rv_exX6 : rv_ex 5 := ⟨RX6, TX6, rv_c5, in_X6, rfl, rfl, q1271, q1269, q228⟩
theorem rv_exJ18 : rv_ex 22 := ⟨RJ18, TJ18, rv_c22, in_J18, rfl, rfl, q1071, q1069, q231⟩
theorem rv_thrA {X : rv_X} {y : MethodName} {cc : ByteArray} {d : Nat} (hX : rv_K X y cc d) : ∀ w ∈ Bundle.throwableAtoms, w.before X.2.2.2.2.2.2.1 X.2.2.2.2.1 = true := by
  have hw := fun w (q : rv_wok w) => rv_wok.at hX q
  obtain ⟨G, p, e, R, s, m, args, below, meth, c, Qw⟩ := X
  obtain ⟨hx, hb, hown, hlk, hGK, hW, ⟨hs, hRs, hRc, hRsl⟩, hfr, hlo, -⟩ := hX
  have hkeep : ∀ a : Nat, a < G.2.1.heap.size → ¬ rv_b G ≤ a → s.heap[a]? = G.2.1.heap[a]? := fun a _ hn => hRs.2.2.1 a (Nat.not_le.mp hn)
  have hU := (vx_Zq.kept (vx_Zq.moved hW.alike (rv_zqU hGK)) hkeep)
  have hN := (vx_Zq.kept (vx_Zq.moved hW.alike (rv_zqN hGK)) hkeep)
  refine vx_own (fun w hw9 => ?_) (vx_isRefq hU.1) (vx_isRefq hN.1) hU.2.word hN.2.word
  obtain ⟨h1, h2⟩ := List.mem_filter.mp hw9
  exact hw w (tw_thr w h1 h2)
theorem rv_fill {X : rv_X} {y : MethodName} {cc : ByteArray} {d : Nat} (hX : rv_K X y cc d) (hy : y.cls = "java/lang/Throwable") {h : rv_H} {pc : Nat} {L : List (Option Value)} {st : List Value} {a ci : Nat} {fs : List Value} {v : Value} (hci : rv_ex ci) (hg : h.1 a = some (.inr (ci, fs))) (hl : fs.length = 6) (h1 : fs[1]? = some v) (h4 : fs[4]? = some .null) (hv : rv_zu X.1 "UNASSIGNED_STACK" "[Ljava/lang/StackTraceElement;" v) (hd : 3 ≤ d) (hroom : (st.map fun v => v.category).sum ≤ 8) (dg : decode cc pc = .ok (.invokevirtual 27, 3)) (kk : rv_V X h (pc + 3) L (.ref a :: st)) : rv_V X h pc L (.ref a :: st) := by
  have hthr := rv_thrA hX
  obtain ⟨C, TT, hc, hin, hT1, hT4, wS, wF0, wF⟩ := hci
  have wS := rv_words hX wS
  have wF0 := rv_words hX wF0
  have wF := rv_words hX wF
  have wb1 := rv_words hX q216
  have wb2 := rv_words hX q215
  have hU := rv_U_at hX hc
  obtain ⟨G, p, e, R, s, m, args, below, meth, c, Qw⟩ := X
  intro H ls locs hR hL hz T0 hT0 XS
  subst hT0
  obtain ⟨hx, hb, hown, hlk, hGK, hW, ⟨hs, hRs, hRc, hRsl⟩, hfr, hlo, -⟩ := hX
  obtain ⟨hSl, hfc, kC, hkC, hkind⟩ := hU
  obtain ⟨cf1, kf1, fi1, f1, hi1, hsl1⟩ := hSl 1 (show 1 < 6 by decide)
  obtain ⟨cf4, kf4, fi4, f4, hi4, hsl4⟩ := hSl 4 (show 4 < 6 by decide)
  have hi1 : s.fieldFound? (TT 1).1 (TT 1).2.1 (TT 1).2.2.1 = some (cf1, kf1, fi1, f1) := hi1
  have hi4 : s.fieldFound? (TT 4).1 (TT 4).2.1 (TT 4).2.2.1 = some (cf4, kf4, fi4, f4) := hi4
  rw [hT1] at hi1
  rw [hT4] at hi4
  obtain ⟨hba, cell, r1, r2, r3, r4⟩ := hR.2.2.2.1 a _ hg
  have r5 : cell.monitor = {} := hR.2.2.2.2.2.2.2 a _ hg cell r1
  have hs1 : cell.slots[f1.slot]? = some v := by
    rw [hsl1]
    refine (r4 1 (by show 1 < fs.length; omega)).trans ?_
    simp [vp_V, h1]
  have hs4 : cell.slots[f4.slot]? = some .null := by
    rw [hsl4]
    refine (r4 4 (by show 4 < fs.length; omega)).trans ?_
    simp [vp_V, h4]
  have htr : e.platform.stackTraces = false := (show e.platform.stackTraces = G.1.stackTraces by rw [XS.admits.platform]).trans hGK.2.2.1
  have howns : e.platform.frameOwnsMonitors = true := by rw [XS.admits.platform]
  have hfin : e.platform.finalization = false := by rw [XS.admits.platform]
  have hpl : e.platform.magicAccessors = ({} : Platform).magicAccessors := by rw [XS.admits.platform]
  obtain ⟨T, Z, L9, LZ, Y⟩ := ThrowableC.of_atoms (args := args) howns hfin hpl hthr
  have ef1 : T.fStack = f1 := by
    have q : some (T.cT, T.kT, T.i17, T.fStack) = some (cf1, kf1, fi1, f1) := Y.stack.symm.trans hi1
    simp only [Option.some.injEq, Prod.mk.injEq] at q
    exact q.2.2.2
  have hcC : s.vm.findClass C = some cell.cls := by rw [r2]; exact hfc
  have hsel0 : selectMethod e.platform s.vm cell.cls T.fill0 = .method T.fill0 := by
    obtain ⟨c2, r2, m2, q1, q2, q3, q4, -⟩ := Cond.selects_spec wF0
    cases Option.some.inj (q1.symm.trans hcC)
    cases Option.some.inj (q2.symm.trans (State.methodFound?_of_named Y.fill0 (by decide)))
    cases Option.some.inj (q3.symm.trans Y.fill0)
    rw [Launch.admits_selectMethod XS.admits]; exact q4
  have hselF : selectMethod e.platform s.vm cell.cls T.fill = .method T.fill := by
    obtain ⟨c2, r2, m2, q1, q2, q3, q4, -⟩ := Cond.selects_spec wF
    cases Option.some.inj (q1.symm.trans hcC)
    cases Option.some.inj (q2.symm.trans (State.methodFound?_of_named Y.fill (by decide)))
    cases Option.some.inj (q3.symm.trans Y.fill)
    rw [Launch.admits_selectMethod XS.admits]; exact q4
  obtain ⟨ci198, i198, fB, hk198, hg198, ha198, hsB, -, hnB, htB, hffB⟩ := Cond.ownField (t := .object "java/lang/Object") Y.found L9.cls (by decide +kernel) wb1 wb2 e.platform hpl
  have ef4 : fB = f4 := by
    have q := hffB.symm.trans hi4
    simp only [Option.some.injEq, Prod.mk.injEq] at q
    exact q.2.2.2
  obtain ⟨hvr, hvz⟩ := hv
  obtain ⟨cf, kf, fi, f, aS, cellS, z1, z2, z3, z4, z5, z6, z7, z8⟩ := va_Z.moved hW.alike hvz
  have eU : kf = T.kT ∧ f = T.fUnassigned := by
    have q : some (T.cT, T.kT, T.i13, T.fUnassigned) = some (cf, kf, fi, f) := Y.unassigned.symm.trans z1
    simp only [Option.some.injEq, Prod.mk.injEq] at q
    exact ⟨q.2.1.symm, q.2.2.2.symm⟩
  have eA : aS = T.aS := by
    rw [eU.1, L9.statics] at z4
    exact (Option.some.inj z4).symm
  subst eA
  have hneS : T.aS ≠ a := by
    have : ¬ rv_b G ≤ T.aS := z8
    intro e9
    exact this (e9 ▸ hba)
  have hcS : T0.heap[T.aS]? = some cellS := by rw [hR.2.2.1 _ (Nat.not_le.mp z8)]; exact z5
  rw [eU.2] at z7
  have wS2 : (Cond.lays C "java/lang/Throwable" "stackTrace" "[Ljava/lang/StackTraceElement;").before args s = true := wS
  have hfits : s.fitsSlot cell.cls cell.vm T.fStack.slot v = true := by
    rw [r2, r3, ef1]
    have hnv : narrow (.array (.object "java/lang/StackTraceElement")) v = v := by cases v <;> first | rfl | cases hvr
    have hfv : fits (.array (.object "java/lang/StackTraceElement")) v = true := by cases v <;> first | rfl | cases hvr
    exact (u_fits hfc hkC hkind (Or.inl wS2) hi1 (by decide +kernel) hnv hfv).2
  have htS : Takes s cell T.fStack v := ⟨by rw [ef1]; exact (Array.getElem?_eq_some_iff.mp hs1).1, hfits⟩
  have hown2 : s.vm.findClass Bundle.tN = some m.cls := by rw [← hown, hy]; rfl
  have wlink : (Cond.methodLink Bundle.tN 27 Bundle.tFill).before args s = true := hthr _ (by simp [Bundle.throwableAtoms])
  have hmF := L9.method L9.fillAt
  have hcf : T.fill.cls = T.cT := rfl
  have hr27 : s.vm.classes[T.fill.cls]? = some T.kT := L9.cls
  obtain ⟨vm₁, X₁, hstep₁⟩ := XS.invokevirtual hx hown2 wlink Y.fill hmF L9.fillStatic hr27 L9.notInterface (by decide) (a := a) (cell := cell) r1 (fun z e9 => by rw [r3] at e9; cases e9) hselF hmF L9.fillAbstract hr27 L9.notInterface (g := F0 m pc ls (.ref a :: st)) rfl (argsL := []) (rest := st) (by rw [L9.fillParams]; rfl) rfl (by rw [hb]; exact dg)
  have hmon : (F0 m pc ls st).monitorRoom = 0 := rfl
  have hfr' : (T0.setVm vm₁).frames.length + 2 < (e.platform.stackLimits (T0.setVm vm₁).me).1 := X₁.framesAbove (by omega)
  have hwd' : (stackUse (.java (F0 m pc ls st) :: (T0.setVm vm₁).frames.tail)).2 + 42 ≤ (e.platform.stackLimits (T0.setVm vm₁).me).2 := X₁.stackAbove (g := F0 m pc ls st) hL.1.1 (K := 42) (by rw [hmon]; show 2 * 0 + (st.map fun v => v.category).sum + 42 ≤ R.locals; omega)
  have hcell1 : (T0.setVm vm₁).heap[a]? = some cell := r1
  have hcS1 : (T0.setVm vm₁).heap[T.aS]? = some cellS := hcS
  have hAt : At (T0.setVm vm₁) (F0 m pc ls st).method c below := X₁.here
  have hdg9 : decode c.code (F0 m pc ls st).pc = .ok (.invokevirtual 27, 3) := by rw [hb]; exact dg
  have hkkk := kk T0.heap ls locs hR hL hz
  generalize hV : T0.setVm vm₁ = V at *
  have hVh : V.heap = T0.heap := by rw [← hV]; rfl
  generalize hg9 : F0 m pc ls st = g at *
  have hlt : a < V.heap.size := (Array.getElem?_eq_some_iff.mp hcell1).1
  obtain ⟨g₀, hg0⟩ := Option.isSome_iff_exists.mp hAt.top
  obtain ⟨tl0, htl0⟩ := State.topJava?_eq_some.mp hg0
  have hlen0 : V.frames.length = (Frame.java g :: V.frames.tail).length := by rw [htl0]; rfl
  have hfg : (V.setTop g).frames = [] ++ (Frame.java g :: V.frames.tail) := by rw [State.frames_setTop _ htl0, htl0]; rfl
  have hroom9 : e.platform.stackFull (((V.setTop g).threads[(V.setTop g).cur]?).getD { frames := [] }) (V.setTop g).frames (1 + 2) = false :=
    roomAbove (pushed := []) (base := (Frame.java g :: V.frames.tail)) (free := 42) (lim := e.platform.stackLimits V.me) hfg (State.stackLimits_setTop _ hAt.top g) (by rw [← hlen0]; simp only [List.length_nil]; omega) hwd' (by simp only [stackUse_nil]; omega)
  have hfree : cell.monitor.owner = none := by rw [r5]
  have hcount : cell.monitor.count = 0 := by rw [r5]
  have hskip : SkipFacts T e.platform s (fun u => u) ⟨v, hvr⟩ (cell.withEntry V.cur) :=
    ⟨{ ci198 := ci198, i198 := i198, fBack := fB }, ⟨hk198, hg198, ha198, hsB⟩, by
      show (cell.withEntry V.cur).slots[fB.slot]? = _
      rw [ef4]
      exact hs4, fun _ _ => rfl⟩
  have hnatR : ∀ vm1, s.WarmedH vm1 → e.platform.stackFull ((((fillInside (V.setVm vm1) g T.fill a cell).setTop (fillJ T.fill a 16 [])).threads[((fillInside (V.setVm vm1) g T.fill a cell).setTop (fillJ T.fill a 16 [])).cur]?).getD { frames := [] }) ((fillInside (V.setVm vm1) g T.fill a cell).setTop (fillJ T.fill a 16 [])).frames (nativeFrameWords "java/lang/Throwable" "fillInStackTrace" 2) = false := by
    intro vm1 hW1
    have htopE : ((V.setVm vm1).setCell a (cell.withEntry (V.setVm vm1).cur)).topJava?.isSome := hAt.top
    have hfF : (fillInside (V.setVm vm1) g T.fill a cell).frames = .java (entryFrameSync T.fill #[.ref a] 1 a) :: .java g :: V.frames.tail := by
      rw [show (fillInside (V.setVm vm1) g T.fill a cell).frames = _ from frames_entered (g := g) htopE _]
      rfl
    have htopF : (fillInside (V.setVm vm1) g T.fill a cell).topJava?.isSome := by rw [State.topJava?_of_frames hfF]; rfl
    have hlimF : e.platform.stackLimits (fillInside (V.setVm vm1) g T.fill a cell).me = e.platform.stackLimits V.me := by
      rw [State.stackLimits_pushFrame, State.stackLimits_setTop _ htopE]; rfl
    have hw14 : (stackUse [Frame.java (fillJ T.fill a 16 [])]).2 = 14 := by
      rw [stackUse_java, stackUse_nil]
      simp [operandWords]
    exact roomAbove (pl := e.platform) (u := (fillInside (V.setVm vm1) g T.fill a cell).setTop (fillJ T.fill a 16 [])) (vars := (nativeFrameWords "java/lang/Throwable" "fillInStackTrace" 2))
      (pushed := [.java (fillJ T.fill a 16 [])]) (base := .java g :: V.frames.tail) (free := 42) (lim := e.platform.stackLimits V.me) (State.frames_setTop _ hfF) (by rw [State.stackLimits_setTop _ htopF]; exact hlimF)
      (by rw [← hlen0]; simp only [List.length_cons, List.length_nil]; omega) hwd' (by rw [hw14]; decide)
  obtain ⟨vm', hW', st9⟩ := Steps.fillColdAnyV p (V := V) (g := g) (c := c) (self := a) hAt hx T L9 X₁.warmed
    (Nn := fun u => u) heapOnly_id (fun _ _ => rfl) (fun _ => rfl) (fun u x y => setCell_twice _ _ _ _)
    (cell := cell) (cellS := cellS) (cN := cell.withEntry V.cur) (u0 := ⟨v, hvr⟩) (ig := .invokevirtual 27) (len := 3) []
    hcell1 (fun k e9 => by rw [r3] at e9; cases e9) (by rw [r3]; exact fun e9 => by cases e9) (Or.inl hfree) (by rw [ef1]; exact hs1) hsel0 hcS1 hneS (fun e9 => by rw [e9] at z6; cases z6) z7
    (fun u hu => hu) (fun u hu => hu) rfl rfl rfl rfl htS hdg9
    (fun _ vm1 hW1 hAt1 t' hs9 => L9.nativeOff p htr hAt1 hW1 (hnatR vm1 hW1) hs9) hroom9 hskip
  have hend : ((cell.withEntry V.cur).setSlot T.fStack.slot v).left = cell := by
    rw [Cell.left_setSlot, Cell.left_withEntry V.cur hfree hcount]
    exact Cell.setSlot_same (by rw [ef1]; exact hs1)
  have X2 := X₁.noted hW'
  obtain ⟨t, b1, b2⟩ := hkkk (V.setVm vm') hVh X2
  refine ⟨t, ?_, b2⟩
  refine hstep₁ _ (fun acts => ?_)
  rw [doInvoke_state]
  have hlast : Steps p.tables e below ((((V.setVm vm').setCell a (((cell.withEntry V.cur).setSlot T.fStack.slot v).left)).setTop { g with pc := g.pc + 3, stack := .ref a :: g.stack })) t := by
    rw [hend, State.setCell_asItLies (s := V.setVm vm') (a := a) (x := cell) hcell1]
    rw [← hg9]
    exact b1
  have hfin9 := st9 t hlast
  rw [← hg9] at hfin9
  exact hfin9
