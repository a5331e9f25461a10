/-! ROWS: a lambda's call -/
set_option maxRecDepth 100000
set_option maxHeartbeats 1000000
section LC
variable {G : rv_G} {p : Program} {e : Env} {R : Room} {s : State} {m : MethodId} {args : Array Value} {below : List Frame} {meth : Method} {c : Code} {Qw : State → Prop}
/-- a callee that has no name: from its frame's walk to the call's end -/
theorem rv_into {T : State} {locs : List Loc} {mk : MethodId} {methk : Method} {ck : Code} {len pc : Nat} {ig : Instr} {ls : Array Slot} {L : List (Option Value)} {as rest : List Value} {h hs : rv_H} {Q : rv_O → rv_H → Prop}
    (X₁ : Stand p G.1 e R s m args below meth c T locs (h.2.1 - hs.2.1) (h.2.2 - hs.2.2)) (hL : rv_L c.maxLocals ls L) (hdg : decode c.code pc = .ok (ig, len)) (hroom : (rest.map fun v => v.category).sum ≤ 8)
    (hmk : T.vm.method? mk = some methk) (hck : methk.code = some ck) (hlk : methk.locks = false) (hpk : T.plainMethod mk) (hml : ck.maxLocals ≤ 45) (hR : rv_R G h T.heap) (hRs : rv_R G hs s.heap) (hRc : R.cells + s.heap.size = rv_b G + rv_cN) (hRsl : R.slots + rv_sz (rv_b G) s.heap = rv_cS) (hle : hs.2.1 ≤ h.2.1) (hle2 : hs.2.2 ≤ h.2.2)
    (hz : ∀ z ∈ locs, rv_b G ≤ z.base) (hf1 : 1 ≤ R.frames) (hf2 : 64 ≤ R.locals)
    (body : ∀ (R' : Room) (s' U₀ : State), R'.frames + 1 = R.frames → R'.locals + 64 = R.locals → R'.cells + s'.heap.size = rv_b G + rv_cN → R'.slots + rv_sz (rv_b G) s'.heap = rv_cS → s'.heap = T.heap → s'.vm = T.vm → U₀.heap = T.heap → U₀.vm = T.vm → Stand p G.1 e R' s' mk as.toArray (.java (F0 m pc ls rest) :: below) methk ck U₀ [] 0 0 →
      ∃ t, Steps p.tables e (.java (F0 m pc ls rest) :: below) (U₀.setTop (entryFrame mk as.toArray ck.maxLocals)) t ∧ vx_MQ (.java (F0 m pc ls rest) :: below) (fun _ _ o t => ∃ (v : Option Value) (h' : rv_H), o = .returned v ∧ rv_R G h' t.heap ∧ Q (.inl v) h') (fun E _ t => ∃ h' : rv_H, rv_R G h' t.heap ∧ Q (.inr E) h') as.toArray s' R'.cells R'.slots (fun q => rv_b G ≤ q) t)
    (kk : ∀ (v : Option Value) (h' : rv_H), Q (.inl v) h' → rv_V (G, p, e, R, s, m, args, below, meth, c, Qw) h' (pc + len) L (v.toList ++ rest)) (kx : ∀ (E : String) (h' : rv_H), Q (.inr E) h' → rv_T (G, p, e, R, s, m, args, below, meth, c, Qw) h' pc L E) :
    ∃ t, Steps p.tables e below (doInvoke e (T.setTop (F0 m pc ls rest)) [] mk as.toArray).1 t ∧ Qw t := by
  have hs0 : s.heap.size = hs.2.1 := hRs.1
  have hs1 : rv_sz (rv_b G) s.heap = hs.2.2 := hRs.2.2.2.2.1
  have h1 : T.heap.size = h.2.1 := hR.1
  have h2 : rv_sz (rv_b G) T.heap = h.2.2 := hR.2.2.2.2.1
  have h3 := hR.2.2.2.2.2.1
  have h4 := hR.2.2.2.2.2.2.1
  have zz : ∀ (L9 : List Loc), (∀ q ∈ L9, rv_b G ≤ q.base) → ∀ z ∈ locs ++ L9, rv_b G ≤ z.base := fun L9 h9 z hm => (List.mem_append.mp hm).elim (hz z) (h9 z)
  obtain ⟨Y₀, hin⟩ := X₁.into (g := F0 m pc ls rest) rfl hL.1.1 hdg as.toArray (R' := { frames := R.frames - 1, locals := R.locals - 64, cells := R.cells - (h.2.1 - hs.2.1), slots := R.slots - (h.2.2 - hs.2.2) }) hmk hck hlk hpk
    (by show R.frames - 1 + 1 ≤ R.frames; omega) (by show 2 * 0 + (rest.map fun v => v.category).sum + (ck.maxLocals + 11) + (R.locals - 64) ≤ R.locals; omega) (by show h.2.1 - hs.2.1 + (R.cells - (h.2.1 - hs.2.1)) ≤ R.cells; omega) (by show h.2.2 - hs.2.2 + (R.slots - (h.2.2 - hs.2.2)) ≤ R.slots; omega)
  obtain ⟨t, hst, o, hrun, hend, hq⟩ := body { frames := R.frames - 1, locals := R.locals - 64, cells := R.cells - (h.2.1 - hs.2.1), slots := R.slots - (h.2.2 - hs.2.2) } (T.calling (F0 m pc ls rest) mk as.toArray) ((T.setTop (F0 m pc ls rest)).pushFrame (.java (entryFrame mk as.toArray ck.maxLocals))) (by show R.frames - 1 + 1 = R.frames; omega) (by show R.locals - 64 + 64 = R.locals; omega)
    (by show R.cells - (h.2.1 - hs.2.1) + T.heap.size = _; omega) (by show R.slots - (h.2.2 - hs.2.2) + rv_sz (rv_b G) T.heap = _; omega) rfl rfl rfl rfl Y₀
  have e1 : h.2.1 - hs.2.1 + (R.cells - (h.2.1 - hs.2.1)) = R.cells := by omega
  have e2 : h.2.2 - hs.2.2 + (R.slots - (h.2.2 - hs.2.2)) = R.slots := by omega
  rcases hq with ⟨⟨v, h', rfl, hR', hq⟩, L9, hfe, hL9⟩ | ⟨q, rfl, E, ce, L9, ⟨h', hR', hq⟩, hce, hcv, hcl, hW, hsm, hL9⟩
  · obtain ⟨-, hW₂, hsame⟩ := hfe
    obtain ⟨T', X', hW', -, ht⟩ := X₁.outOf (g := F0 m pc ls rest) rfl hdg hend hW₂ hsame
    have hheap : T'.heap = t.heap := by rw [ht]; rfl
    dsimp only at X'
    rw [e1, e2] at X'
    obtain ⟨t2, a1, b1⟩ := kk v h' hq T'.heap ls _ (by rw [hheap]; exact hR') hL (zz L9 hL9) T' rfl X'
    refine ⟨t2, ?_, b1⟩
    rw [hin []]
    refine Steps.trans (Steps.weaken (mid := [.java (F0 m pc ls rest)]) hst) ?_
    rw [ht]
    exact a1
  · obtain ⟨T', X', hW', -, ht⟩ := X₁.outOfThrown (g := F0 m pc ls rest) rfl hend hW hsm
    have hheap : T'.heap = t.heap := by rw [ht]; rfl
    dsimp only at X'
    rw [e1, e2] at X'
    have hcl9 : s.vm.findClass E = some ce.cls := by
      have h9 := X₁.warmed.alike.findClass (name := E)
      rw [← h9]
      exact hcl
    obtain ⟨t2, a1, b1⟩ := kx E h' hq T'.heap ls _ rest q ce (by rw [hheap]; exact hR') hL (zz L9 hL9) (by rw [hheap]; exact hce) hcv hcl9 T' rfl X'
    refine ⟨t2, ?_, b1⟩
    rw [hin []]
    refine Steps.trans (Steps.weaken (mid := [.java (F0 m pc ls rest)]) hst) ?_
    rw [ht]
    exact a1
end LC
