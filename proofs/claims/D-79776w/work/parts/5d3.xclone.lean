/-! ROWS: an array's clone, static fields -/
set_option maxRecDepth 100000
section XN
variable {X : rv_X} {y : MethodName} {cc : ByteArray} {d ix : Nat} {h : rv_H} {pc : Nat} {L : List (Option Value)} {st : List Value}
theorem rv_clone (hX : rv_K X y cc d) {a k : Nat} {x : vp_A} {ad : String} (hk : k < 6) (hnm : ad = "[" ++ (rv_aty k).toString)
    (hl : (Cond.methodLink y.cls ix ⟨ad, "clone", "()Ljava/lang/Object;"⟩) ∈ lw_all) (hsame : (Cond.sameMethod ad "java/lang/Object" "clone" "()Ljava/lang/Object;") ∈ lw_all) (hsel : (Cond.selects ad ⟨ad, "clone", "()Ljava/lang/Object;"⟩ ⟨"java/lang/Object", "clone", "()Ljava/lang/Object;"⟩) ∈ lw_all) (hcl : (Cond.castable ad "java/lang/Cloneable") ∈ lw_tbl)
    (hg : h.1 a = some (.inl (k, x))) (hfit : ∀ (i : Nat) (v : Value), (vp_cell (X.1.2.2.2 k) x).slots[i]? = some v → fits (rv_aty k) v = true) (hC : h.2.1 + 1 ≤ rv_b X.1 + rv_cN) (hS : h.2.2 + x.1 ≤ rv_cS) (hd : 1 ≤ d) (hroom : (st.map fun v => v.category).sum ≤ 8) (dg : decode cc pc = .ok (.invokevirtual ix, 3))
    (kk : rv_V X (rv_add h (.inl (k, x)) x.1) (pc + 3) L (.ref h.2.1 :: st)) : rv_V X h pc L (.ref a :: st) := by
  have w1 := rv_words hX hl
  have w2 := rv_words hX hsame
  have w3 := rv_words hX q307
  have w4 := rv_words hX q308
  have w5 := rv_words hX hsel
  have w6 := rv_castW hX hcl
  have hA := rv_A_at hX (k := k) hk
  have hAn := rv_aname hA.2
  obtain ⟨G, p, e, R, s, m, args, below, meth, c, Qw⟩ := X
  obtain ⟨hexec, hbc, hown, hlk, hGK, hW, ⟨hs, hRs, hRc, hRsl⟩, hfr, hlo, -⟩ := hX
  intro H ls locs hR hL hz
  have hsz : (vp_cell (G.2.2.2 k) x).slots.size = x.1 := by
    obtain ⟨n, f | f | f | f | f⟩ := x <;> exact arrV_size _ _ _
  have hvm0 : (vp_cell (G.2.2.2 k) x).vm = .none := by
    obtain ⟨n, f | f | f | f | f⟩ := x <;> rfl
  have hcl0 : (vp_cell (G.2.2.2 k) x).cls = G.2.2.2 k := by
    obtain ⟨n, f | f | f | f | f⟩ := x <;> rfl
  have hcellE : ({ cls := (vp_cell (G.2.2.2 k) x).cls, slots := (vp_cell (G.2.2.2 k) x).slots } : Cell) = vp_cell (G.2.2.2 k) x := by
    obtain ⟨n, f | f | f | f | f⟩ := x <;> rfl
  obtain ⟨c0, t0', f1, f2, f3⟩ := Cond.castable_spec w6
  rw [← hnm] at hAn
  cases hAn.symm.trans f1
  have h0 : h.2.1 = H.size := hR.1.symm
  have hs0 : s.heap.size = hs.2.1 := hRs.1
  have hs1 : rv_sz (rv_b G) s.heap = hs.2.2 := hRs.2.2.2.2.1
  intro T hT XS
  have hle : s.heap.size ≤ H.size := by rw [← hT]; exact XS.same.2.1
  have hle2 : hs.2.2 ≤ h.2.2 := by
    have e1 := rv_old_sz XS.same (b := rv_b G) hRs.2.1
    rw [hT, hR.2.2.2.2.1, hs1] at e1
    omega
  have hC' : h.2.1 + 1 ≤ rv_b G + rv_cN := hC
  refine rv_tight (k := R.cells) (n := R.slots) hR hRs ?_ T hT XS
  clear XS hT
  clear T
  intro T hT X
  have hcellT : T.heap[a]? = some (vp_cell (G.2.2.2 k) x) := by rw [hT]; exact (hR.2.2.2.1 a _ hg).2
  obtain ⟨-, kA, hkA, comp, hkind⟩ := State.isArrayOf_alike X.warmed.alike (hA.1 0 (fun _ => .null))
  obtain ⟨-, kS, hkS, compS, hkindS⟩ := hA.1 0 (fun _ => .null)
  obtain ⟨vm', X', st9⟩ := X.cloneArray hexec hown w1 w2 w3 w4 w5 (a := a) (cell := vp_cell (G.2.2.2 k) x) hcellT (fun k h => by rw [hvm0] at h; cases h) (by rw [hvm0]; exact fun h => by cases h) (by rw [hcl0]; exact hAn) f2 (by rw [hcl0]; exact f3)
    (fun i v hv => by
      rw [hcl0]
      have hk' : T.vm.classes[G.2.2.2 k]? = some kA := hkA
      simpa [State.fitsSlot, State.slotType?, hk', hkind] using hfit i v hv)
    (g := F0 m pc ls (.ref a :: st)) rfl hL.1.1 rfl (by rw [hbc]; exact dg) (by omega) (by show 2 * 0 + _ + 14 ≤ _; omega) (by omega) (by rw [hsz]; omega) (hloader := by rw [hcl0]; exact Vm.clonesLoader_of_array hkS hkindS)
  rw [hcellE, hsz] at X'
  have hRn : rv_R G (rv_add h (.inl (k, x)) x.1) (H.push (vp_cell (G.2.2.2 k) x)) := rv_R_add hR (by
    show (H.push _)[H.size]? = some (vp_cell _ _)
    rw [Array.getElem?_push, if_pos rfl]) hsz hC' hS
  have kk2 : W p G.1 e R s m args below meth c (H.push (vp_cell (G.2.2.2 k) x)) locs R.cells R.slots Qw (F0 m (pc + 3) ls (.ref H.size :: st)) := by
    have := kk (H.push (vp_cell (G.2.2.2 k) x)) ls locs hRn hL hz
    rw [h0] at this
    exact this
  have kk3 : W p G.1 e R s m args below meth c (H.push (vp_cell (G.2.2.2 k) x)) locs (h.2.1 - hs.2.1 + 1) (h.2.2 - hs.2.2 + x.1) Qw (F0 m (pc + 3) ls (.ref H.size :: st)) := W.widen (by omega) (by omega) kk2
  obtain ⟨t, b1, b2⟩ := kk3 ((T.setVm vm').pushCell (vp_cell (G.2.2.2 k) x)) (by rw [← hT]; rfl) X'
  refine ⟨t, st9 t ?_, b2⟩
  rw [hcellE, hT]
  exact b1
end XN
