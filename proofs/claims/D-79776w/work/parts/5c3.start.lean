/-! A METHOD'S START, for classes of the platform that the machine has no own entry for -/
set_option maxRecDepth 100000
theorem vx_ofWF {l : Launch} {y : MethodName} {ws ws' : List Cond} {rm : Room} {Pc : Array Value → State → Prop} {Qc : Array Value → State → Outcome → State → Prop} {XC : String → State → State → Prop} {mc ms : Nat} {free : Addr → Prop} {cc : ByteArray} {maxL : Nat} {ret : Option FieldType}
    (hy : plainFor y = true) (hw : ws = Cond.code y cc maxL ret :: ws')
    (body : ∀ p e s m args below meth c s₁, BodyLoose p l y (headSpec ws rm) cc maxL ret e s m args below meth c s₁ → c.maxLocals = maxL → (∀ x ∈ c.exceptionTable.toList, False) → Pc args s →
      W p l e (headSpec ws rm).room s m args below meth c s.heap [] 0 0 (vx_MQ below Qc XC args s mc ms free) (entryFrame m args maxL)) : vx_Met l y ws rm Pc Qc XC mc ms free := by
  refine MetFree.of_bodySF (code := cc) (maxLocals := maxL) (ret := ret) hy ?_ ?_
  · intro args s m h hn
    obtain ⟨meth, c, h1, h2, h3, h4, h5, h6, -, -⟩ := Cond.code_spec hn (atoms_spec (ws := ws) h _ (by rw [hw]; exact List.mem_cons_self))
    exact ⟨meth, c, h1, h2, h3, h4, h5, h6⟩
  · intro p e s m args below meth c s₁ B hml hP _
    have hh0 : s₁.heap = s.heap := by rw [B.state]; rfl
    have ht : ∀ x ∈ c.exceptionTable.toList, False := by
      obtain ⟨meth9, c9, h1, h2, -, -, -, -, h7, -⟩ := Cond.code_spec B.named (atoms_spec (ws := ws) B.pre _ (by rw [hw]; exact List.mem_cons_self))
      cases Option.some.inj (h1.symm.trans B.method)
      cases Option.some.inj (h2.symm.trans (Stand.of_body B).code)
      intro x hx
      rw [Array.isEmpty_iff.mp h7] at hx
      cases hx
    obtain ⟨t, a1, o, b1, b2, b3⟩ := body p e s m args below meth c s₁ B hml ht hP s₁ hh0 (Stand.of_body B)
    exact ⟨t, o, a1, b1, b2, b3⟩
theorem vx_ofWHF {l : Launch} {y : MethodName} {ws ws' : List Cond} {rm : Room} {Pc : Array Value → State → Prop} {Qc : Array Value → State → Outcome → State → Prop} {XC : String → State → State → Prop} {mc ms : Nat} {free : Addr → Prop} {cc : ByteArray} {maxL : Nat} {ret : Option FieldType} {hh : List (Nat × Nat × Nat × Nat)}
    (hy : plainFor y = true) (hw : ws = Cond.codeWith y cc maxL ret hh :: ws')
    (body : ∀ p e s m args below meth c s₁, BodyLoose p l y (headSpec ws rm) cc maxL ret e s m args below meth c s₁ → c.maxLocals = maxL → Pc args s →
      W p l e (headSpec ws rm).room s m args below meth c s.heap [] 0 0 (vx_MQ below Qc XC args s mc ms free) (entryFrame m args maxL)) : vx_Met l y ws rm Pc Qc XC mc ms free := by
  refine MetFree.of_bodySF (code := cc) (maxLocals := maxL) (ret := ret) hy ?_ ?_
  · intro args s m h hn
    obtain ⟨m9, meth, c, hn9, h1, h2, h3, h4, -, h5, h6, -⟩ := Cond.codeWith_spec (atoms_spec (ws := ws) h _ (by rw [hw]; exact List.mem_cons_self))
    cases hn.symm.trans hn9
    exact ⟨meth, c, h1, h2, h3, h4, h5, h6⟩
  · intro p e s m args below meth c s₁ B hml hP _
    have hh0 : s₁.heap = s.heap := by rw [B.state]; rfl
    obtain ⟨t, a1, o, b1, b2, b3⟩ := body p e s m args below meth c s₁ B hml hP s₁ hh0 (Stand.of_body B)
    exact ⟨t, o, a1, b1, b2, b3⟩
theorem rv_startF {G : rv_G} (hG : rv_GK G) {d : Nat} {y : MethodName} {cc : ByteArray} {nL : Nat} {ret : Option FieldType} {as : List Value} {h : rv_H} {Q : rv_O → rv_H → Prop} {L : List (Option Value)} (hy : plainFor y = true) (hL : rv_in as nL = L) (hn : (lg_sl as).length ≤ nL)
    (body : ∀ X : rv_X, X.1 = G → rv_K X y cc d → rv_E X ret [] Q → rv_V X h 0 L []) : rv_Call G d y (Cond.code y cc nL ret) as h Q := by
  subst hL
  refine vx_ofWF (cc := cc) (maxL := nL) (ret := ret) hy rfl ?_
  intro p e s m args below meth c s₁ B hml hnoH hv
  obtain ⟨rfl, hW, hR⟩ := hv
  have hnil : c.exceptionTable.toList = [] := List.eq_nil_iff_forall_not_mem.mpr (fun x hx => hnoH x hx)
  have h1 := hR.1
  have h2 := hR.2.2.2.2.1
  have h3 := hR.2.2.2.2.2.1
  have h4 := hR.2.2.2.2.2.2.1
  have hK : ∀ Qw : State → Prop, rv_K (G, p, e, rv_rm G d h, s, m, as.toArray, below, meth, c, Qw) y cc d := fun Qw => ⟨B.exec, B.bytes, findClass_of_methodNamed B.named, B.notSynchronized, hG, hW, ⟨h, hR, by show rv_b G + rv_cN - h.2.1 + s.heap.size = _; omega, by show rv_cS - h.2.2 + rv_sz (rv_b G) s.heap = _; omega⟩, Nat.le_refl _, Nat.le_refl _, (name_of_methodNamed B.named B.method).1⟩
  have hV := body _ rfl (hK _) ⟨B.returns, hnil, rfl⟩
  rw [lg_entry_eq]
  refine W.widen (k := (rv_rm G d h).cells) (n := (rv_rm G d h).slots) (Nat.zero_le _) (Nat.zero_le _) ?_
  exact hV s.heap _ [] hR (by rw [hml]; exact rv_in_L hn) (fun z hz => by cases hz)
theorem rv_startWF {G : rv_G} (hG : rv_GK G) {d : Nat} {y : MethodName} {cc : ByteArray} {nL : Nat} {ret : Option FieldType} {hh : List (Nat × Nat × Nat × Nat)} {as : List Value} {h : rv_H} {Q : rv_O → rv_H → Prop} {L : List (Option Value)} (hy : plainFor y = true) (hL : rv_in as nL = L) (hn : (lg_sl as).length ≤ nL)
    (body : ∀ X : rv_X, X.1 = G → rv_K X y cc d → rv_E X ret (tableOf hh) Q → rv_V X h 0 L []) : rv_Call G d y (Cond.codeWith y cc nL ret hh) as h Q := by
  subst hL
  refine vx_ofWHF (cc := cc) (maxL := nL) (ret := ret) hy rfl ?_
  intro p e s m args below meth c s₁ B hml hv
  obtain ⟨rfl, hW, hR⟩ := hv
  have htab := vx_table (x := y) B (atoms_spec (ws := [Cond.codeWith y cc nL ret hh]) B.pre _ (List.mem_singleton.mpr rfl))
  have h1 := hR.1
  have h2 := hR.2.2.2.2.1
  have h3 := hR.2.2.2.2.2.1
  have h4 := hR.2.2.2.2.2.2.1
  have hK : ∀ Qw : State → Prop, rv_K (G, p, e, rv_rm G d h, s, m, as.toArray, below, meth, c, Qw) y cc d := fun Qw => ⟨B.exec, B.bytes, findClass_of_methodNamed B.named, B.notSynchronized, hG, hW, ⟨h, hR, by show rv_b G + rv_cN - h.2.1 + s.heap.size = _; omega, by show rv_cS - h.2.2 + rv_sz (rv_b G) s.heap = _; omega⟩, Nat.le_refl _, Nat.le_refl _, (name_of_methodNamed B.named B.method).1⟩
  have hV := body _ rfl (hK _) ⟨B.returns, htab, rfl⟩
  rw [lg_entry_eq]
  refine W.widen (k := (rv_rm G d h).cells) (n := (rv_rm G d h).slots) (Nat.zero_le _) (Nat.zero_le _) ?_
  exact hV s.heap _ [] hR (by rw [hml]; exact rv_in_L hn) (fun z hz => by cases hz)
