/-! ROWS: lambdas made and called (the way is the library's ToyCaptured's and NT82's) -/
set_option maxRecDepth 100000
set_option maxHeartbeats 1000000
theorem lm_i15 {α : Type} {x : Array Nat} {f : Nat → Nat → Nat → Option α} {r : α} (h : Lambda.shapeOf?.match_15 (fun _ => Option α) x f (fun _ => none) = some r) : ∃ a0 a1 a2, f a0 a1 a2 = some r := by
  rcases x with ⟨L⟩
  match L, h with
  | [], h => cases h
  | [_], h => cases h
  | [_, _], h => cases h
  | [a, b, c], h => exact ⟨a, b, c, h⟩
  | _ :: _ :: _ :: _ :: _, h => cases h
/-- a call site's shape gives its entry (follows NT82 of the library) -/
theorem lm_site {cf : ClassFile} {index : Nat} {σ : Lambda.Shape} (h : Lambda.shapeOf? cf index = some σ) :
    ∃ (b nt : Nat) (desc : String) (site : MethodDescriptor), cf.constantPool[index]? = some (.invokeDynamic b nt) ∧ cf.constantPool.nameAndType? nt = some (σ.name, desc) ∧ parseMethodDescriptor desc = some site ∧ site.parameters = σ.captured := by
  unfold Lambda.shapeOf? at h
  split at h
  · rename_i b nt hc
    obtain ⟨entries, -, h⟩ := Option.bind_eq_some_iff.mp h
    obtain ⟨bm, -, h⟩ := Option.bind_eq_some_iff.mp h
    split at h
    · obtain ⟨_, -, h⟩ := Option.bind_eq_some_iff.mp h
      obtain ⟨a0, a1, a2, h⟩ := lm_i15 h
      split at h
      · split at h
        · split at h
          · obtain ⟨⟨name, desc⟩, hnt, h⟩ := Option.bind_eq_some_iff.mp h
            obtain ⟨site, hsite, h⟩ := Option.bind_eq_some_iff.mp h
            split at h
            · obtain ⟨⟨implClass, implName, implDesc, implItf⟩, -, h⟩ := Option.bind_eq_some_iff.mp h
              obtain ⟨x1, -, h⟩ := Option.bind_eq_some_iff.mp h
              obtain ⟨x2, -, h⟩ := Option.bind_eq_some_iff.mp h
              obtain ⟨x3, -, h⟩ := Option.bind_eq_some_iff.mp h
              obtain ⟨x4, -, h⟩ := Option.bind_eq_some_iff.mp h
              obtain ⟨x5, -, h⟩ := Option.bind_eq_some_iff.mp h
              cases h
              exact ⟨b, nt, desc, site, hc, hnt, hsite, rfl⟩
            · cases h
          · cases h
        · cases h
      · cases h
    · cases h
  · cases h
def rv_N (X : rv_X) (y : MethodName) : Prop := X.2.2.2.2.1.methodNamed? y = some X.2.2.2.2.2.1
theorem rv_startN {G : rv_G} (hG : rv_GK G) {d : Nat} {y : MethodName} {cc : ByteArray} {nL : Nat} {ret : Option FieldType} {as : List Value} {h : rv_H} {Q : rv_O → rv_H → Prop} {L : List (Option Value)} (hy : plainFor y = true) (hL : rv_in as nL = L) (hn : (lg_sl as).length ≤ nL)
    (body : ∀ X : rv_X, X.1 = G → rv_K X y cc d → rv_N X y → rv_E X ret [] Q → rv_V X h 0 L []) : rv_Call G d y (Cond.code y cc nL ret) as h Q := by
  subst hL
  refine vx_ofWF (cc := cc) (maxL := nL) (ret := ret) hy rfl ?_
  intro p e s m args below meth c s₁ B hml hnoH hv
  obtain ⟨rfl, hW, hR⟩ := hv
  have hnil : c.exceptionTable.toList = [] := List.eq_nil_iff_forall_not_mem.mpr (fun x hx => hnoH x hx)
  have h1 := hR.1
  have h2 := hR.2.2.2.2.1
  have h3 := hR.2.2.2.2.2.1
  have h4 := hR.2.2.2.2.2.2.1
  have hK : ∀ Qw : State → Prop, rv_K (G, p, e, rv_rm G d h, s, m, as.toArray, below, meth, c, Qw) y cc d := fun Qw => ⟨B.exec, B.bytes, findClass_of_methodNamed B.named, B.notSynchronized, hG, hW, ⟨h, hR, by show rv_b G + rv_cN - h.2.1 + s.heap.size = _; omega, by show rv_cS - h.2.2 + rv_sz (rv_b G) s.heap = _; omega⟩, Nat.le_refl _, Nat.le_refl _, (name_of_methodNamed B.named B.method).1⟩
  have hV := body _ rfl (hK _) B.named ⟨B.returns, hnil, rfl⟩
  rw [lg_entry_eq]
  refine W.widen (k := (rv_rm G d h).cells) (n := (rv_rm G d h).slots) (Nat.zero_le _) (Nat.zero_le _) ?_
  exact hV s.heap _ [] hR (by rw [hml]; exact rv_in_L hn) (fun z hz => by cases hz)
/-- the class number k is the class of the lambda at a site -/
def rv_LKs (G : rv_G) (k : Nat) (x : MethodName) (pc ix : Nat) (σ : Lambda.Shape) : Prop := (∃ one, G.2.1.lambdaAt? x pc ix σ = some (G.2.2.1.1 k, one)) ∧ ∀ i, G.2.2.1.2 k i = i
def rv_LK (G : rv_G) : Prop := rv_LKs G 24 yX7_init 79 48 lm1_s ∧ rv_LKs G 25 yX12_init 108 62 lm2_s ∧ rv_LKs G 26 yX12_measure 57 118 lm3_s ∧ rv_LKs G 27 yX1_whyNot 22 389 lm4_s ∧ rv_LKs G 28 yX16_init 112 84 lm5_s ∧ rv_LKs G 29 yX1_count 5 420 lm6_s
/-- what is known of a lambda's class in any warmer state -/
def lamOf (own : String) (σ : Lambda.Shape) (tys : Array FieldType) (implC implN implD : String) (code : ByteArray) (ix : Nat) (fxs : List Nat) : Prop :=
  ∀ (vm : Vm) (d c : ClassId) (dk : Class), vm.classes[d]? = some dk → dk.name = own → Lambda.isMade { classPath := fun _ => none } vm d σ c = true → (∀ o ok, vm.findClass "java/lang/Object" = some o → vm.classes[o]? = some ok → ok.instanceTypes = #[]) → lamMade vm c own tys implC implN implD code ix fxs
theorem rv_LKs.at {G : rv_G} (hG : rv_GK G) {k : Nat} {x : MethodName} {pc ix : Nat} {σ : Lambda.Shape} (hL : rv_LKs G k x pc ix σ) {s : State} (hW : G.2.1.WarmedH s.vm) {tys : Array FieldType} {implC implN implD : String} {code : ByteArray} {ix2 : Nat} {fxs : List Nat} (hM : lamOf x.cls σ tys implC implN implD code ix2 fxs) :
    lamMade s.vm (G.2.2.1.1 k) x.cls tys implC implN implD code ix2 fxs ∧ s.lambdaCallable σ (G.2.2.1.1 k) = true ∧ ∃ m d, Lambda.isMade { classPath := fun _ => none } s.vm d σ (G.2.2.1.1 k) = true ∧ s.methodNamed? x = some m ∧ ∃ (k0 : Class) (cf : ClassFile) (i0 p0 : Nat) (l : Linked), s.vm.classes[m.cls]? = some k0 ∧ k0.cf = some cf ∧ Lambda.shapeOf? cf ix = some σ ∧ (k0.callSites.find? fun y => y.1 == m.idx && y.2.1 == pc) = some (i0, p0, l) ∧
      ((∃ a cell, l = .constant a ∧ σ.captured = [] ∧ G.2.1.heap[a]? = some cell ∧ cell.cls = G.2.2.1.1 k ∧ cell.vm = .none ∧ cell.slots = #[]) ∨ (l = .makes (G.2.2.1.1 k) ∧ σ.captured ≠ [])) := by
  obtain ⟨⟨one, hat⟩, -⟩ := hL
  obtain ⟨m, kc, cf, i0, p0, l, hm, hk, hcf, hsh, -, hfind, hmade, hcall, hl⟩ := State.lambdaAt?_spec hat
  have hcall' : s.lambdaCallable σ (G.2.2.1.1 k) = true := by
    have hA := hW.alike
    simp only [State.lambdaCallable, hA.findClass, hA.assignable, hA.superclasses, hA.declaredIn] at hcall ⊢
    exact hcall
  obtain ⟨kc', hk', he⟩ := hW.alike.2.2 _ _ hk
  have hm' : s.methodNamed? x = some m := by
    have := State.methodNamed?_setVm (s := G.2.1) hW.alike x
    rw [hm] at this
    exact this
  have hcf' : kc'.cf = some cf := by rw [he]; exact hcf
  have hfind' : (kc'.callSites.find? fun y => y.1 == m.idx && y.2.1 == pc) = some (i0, p0, l) := by rw [he]; exact hfind
  have hmade' := Lambda.isMade_warmer hW hmade
  obtain ⟨kS', hkS', hnameS⟩ := className_of_methodNamed hm'
  refine ⟨hM s.vm m.cls _ kS' hkS' hnameS hmade' (lm_O (a := #[]) (rv_wordU hG hW q2830)), hcall', m, m.cls, hmade', hm', kc', cf, i0, p0, l, hk', hcf', hsh, hfind', ?_⟩
  rcases hl with ⟨a, cell, h1, -, h2, h3, h4, h5, h6⟩ | ⟨h1, -, h2⟩
  · exact Or.inl ⟨a, cell, h1, h2, h3, h4, h5, h6⟩
  · exact Or.inr ⟨h1, h2⟩
section LN
variable {X : rv_X} {y : MethodName} {cc : ByteArray} {d ix : Nat} {h : rv_H} {pc : Nat} {L : List (Option Value)} {st : List Value}
theorem rv_lamNew (hX : rv_K X y cc d) (hN : rv_N X y) {k : Nat} {σ : Lambda.Shape} (hL9 : rv_LKs X.1 k y pc ix σ) {tys : Array FieldType} {implC implN implD : String} {code : ByteArray} {ix2 : Nat} {fxs : List Nat} (hM : lamOf y.cls σ tys implC implN implD code ix2 fxs) {vals stk : List Value} (hcap : σ.captured ≠ []) (hlen : vals.length = σ.captured.length)
    (hzip : ((tys.toList.zip vals).map fun (t, v) => narrow t v) = vals) (hfit : ∀ (i : Nat) (v : Value), vals[i]? = some v → ∃ t, tys[i]? = some t ∧ fits t v = true) (hst : stk = vals.reverse ++ st) (hcat : (stk.map fun v => v.category).sum ≤ 12) (hd : 50 ≤ d) (hC : h.2.1 + 1 ≤ rv_b X.1 + rv_cN) (hS : h.2.2 + vals.length ≤ rv_cS) (dg : decode cc pc = .ok (.invokedynamic ix, 5))
    (kk : rv_V X (rv_add h (.inr (k, vals)) vals.length) (pc + 5) L (.ref h.2.1 :: st)) : rv_V X h pc L stk := by
  obtain ⟨G, p, e, R, s, m, args, below, meth, c, Qw⟩ := X
  intro H ls locs hR hL hz
  obtain ⟨hx, hb, hown, hlk, hGK, hW, ⟨hs, hRs, hRc, hRsl⟩, hfr, hlo, -⟩ := hX
  have hslot := hL9.2
  obtain ⟨hmade, -, m', d9, -, hm', k0, cf, i0, p0, l, hk0, hcf, hsh, hfind, hl⟩ := hL9.at hGK hW hM
  have hN : s.methodNamed? y = some m := hN
  cases hN.symm.trans hm'
  obtain ⟨rfl, -⟩ : l = .makes (G.2.2.1.1 k) ∧ σ.captured ≠ [] := by
    rcases hl with ⟨a, cell, -, h9, -⟩ | h9
    · exact absurd h9 hcap
    · exact h9
  obtain ⟨kK, tk, methk, ck, t0, t, file, ci, nt, ⟨hkK, hkind, hty, -⟩, -⟩ := hmade
  obtain ⟨bsm, nt9, desc, site, hc9, hnt9, hsite, hpar⟩ := lm_site hsh
  have h0 : h.2.1 = H.size := hR.1.symm
  have hs0 : s.heap.size = hs.2.1 := hRs.1
  have hs1 : rv_sz (rv_b G) s.heap = hs.2.2 := hRs.2.2.2.2.1
  intro T9 hT XS
  have hle : s.heap.size ≤ H.size := by rw [← hT]; exact XS.same.2.1
  have hle2 : hs.2.2 ≤ h.2.2 := by
    have e1 := rv_old_sz XS.same (b := rv_b G) hRs.2.1
    rw [hT, hR.2.2.2.2.1, hs1] at e1
    omega
  have hC' : h.2.1 + 1 ≤ rv_b G + rv_cN := hC
  refine rv_tight (k := R.cells) (n := R.slots) hR hRs ?_ T9 hT XS
  clear XS hT
  clear T9
  intro T hT XS
  have hzE : ((kK.instanceTypes.toList.zip vals).map fun (t, v) => narrow t v) = vals := by rw [hty]; exact hzip
  obtain ⟨X₁, st1⟩ := XS.lambdaMakes hx (g := F0 m pc ls stk) rfl hL.1.1 (by rw [hb]; exact dg) (vals := vals) (rest := st) hk0 hfind hcf hc9 hnt9 (parseLong_of_parse hsite) (by rw [hlen, ← hpar]) hst hkK
    (by rw [XS.admits.platform]; show 2 * 0 + (stk.map fun v => v.category).sum + 3072 ≤ R.locals; omega) (by omega) (by rw [hzE]; omega)
    (fun i v hv => by
      rw [hzE] at hv
      obtain ⟨t9, ht9, hf9⟩ := hfit i v (by simpa using hv)
      have e9 : kK.instanceTypes[i]? = some t9 := by rw [hty]; exact ht9
      simp [State.fitsSlot, State.slotType?, hkK, hkind, e9, hf9])
  rw [hzE] at X₁ st1
  have hsz : (vals.toArray).size = vals.length := by simp
  have hRn : rv_R G (rv_add h (.inr (k, vals)) vals.length) (H.push { cls := G.2.2.1.1 k, slots := vals.toArray, vm := .none }) := rv_R_add hR (by
    refine ⟨{ cls := G.2.2.1.1 k, slots := vals.toArray, vm := .none }, by rw [Array.getElem?_push, if_pos rfl], rfl, rfl, fun i hi => ?_⟩
    show vals.toArray[G.2.2.1.2 k i]? = some (vp_V vals i)
    rw [hslot i]
    have hi : i < vals.length := hi
    simp [vp_V, hi]) hsz hC' hS
  have kk2 : W p G.1 e R s m args below meth c (H.push { cls := G.2.2.1.1 k, slots := vals.toArray, vm := .none }) locs R.cells R.slots Qw (F0 m (pc + 5) ls (.ref H.size :: st)) := by
    have := kk (H.push { cls := G.2.2.1.1 k, slots := vals.toArray, vm := .none }) ls locs hRn hL hz
    rw [h0] at this
    exact this
  have kk3 : W p G.1 e R s m args below meth c (H.push { cls := G.2.2.1.1 k, slots := vals.toArray, vm := .none }) locs (h.2.1 - hs.2.1 + 1) (h.2.2 - hs.2.2 + vals.length) Qw (F0 m (pc + 5) ls (.ref H.size :: st)) := W.widen (by omega) (by omega) kk2
  rw [hsz] at X₁
  obtain ⟨t9, b1, b2⟩ := kk3 _ (by rw [← hT]; rfl) X₁
  refine ⟨t9, st1 t9 ?_, b2⟩
  rw [hT]
  exact b1
end LN
