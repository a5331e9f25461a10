/-! LAMBDAS: what their classes hold (printed by tools/gen_lam.py; the way is ToyCaptured's and NT82's of the library) -/
set_option maxRecDepth 100000
def lamF (D : ClassFile) (lay : Array Field) (fx i : Nat) : Bool := match D.constantPool[fx]? with
  | some (.fieldref _ nt) => (match D.constantPool.nameAndType? nt with
    | some (nm, _) => decide (lay.findIdx? (·.name == nm) = some i) && decide ((lay[i]?).map (fun f => (f.isStatic, f.slot)) = some (false, i))
    | none => false)
  | _ => false
/-- what is known of a lambda's class c: it forwards to implC.implN implD -/
def lamMade (vm : Vm) (c : ClassId) (own : String) (tys : Array FieldType) (implC implN implD : String) (code : ByteArray) (ix : Nat) (fxs : List Nat) : Prop :=
  ∃ (k tk : Class) (methk : Method) (ck : Code) (t0 : ClassId) (t : MethodId) (file : ClassFile) (ci nt : Nat),
    (vm.classes[c]? = some k ∧ k.kind = .ordinary ∧ k.instanceTypes = tys ∧ k.name = own ++ "$$Lambda") ∧
    (vm.method? ⟨c, 1⟩ = some methk ∧ methk.code = some ck ∧ ck.code = code ∧ ck.maxLocals = 3 ∧ ck.exceptionTable = #[] ∧ methk.locks = false ∧ methk.accessFlags = 0x0001 ∧ methk.sig.returnType = some .boolean) ∧
    (vm.findClass implC = some t0 ∧ vm.classes[t0]? = some tk ∧ tk.isInterface = false ∧ ((methodIn t0 implN implD tk.isInterface none).ask { classPath := fun _ => none } vm).1 = .ok t) ∧
    (vm.methodReady c ix t ∧ vm.classReady c ci t0 ∧ k.cf = some file ∧ file.constantPool[ix]? = some (.methodref ci nt) ∧ file.constantPool.nameAndType? nt = some (implN, implD)) ∧
    ∀ i fx, fxs[i]? = some fx → ∃ f, vm.fieldReady c fx c f ∧ f.isStatic = false ∧ f.slot = i
theorem lam_gen {σ : Lambda.Shape} {own : String} {D : ClassFile} {fw : Method} {lay : Array Field × Array FieldType × Array FieldType} {tys : Array FieldType} {code : ByteArray} {ix ci nt cn : Nat} {fxs : List Nat}
    (hfile : σ.file own = some D) (hsec : ∀ ms, layoutMethods D = some ms → ms[1]? = some fw) (hlay : layoutFields D 0 = some lay) (htys : lay.2.1 = tys)
    (hcode : (fw.code.map fun c => (c.code.data, c.maxLocals)) = some (code.data, 3)) (hff : (fw.accessFlags, fw.name, fw.sig.returnType) = (0x0001, "take", some FieldType.boolean))
    (hM : D.constantPool[ix]? = some (.methodref ci nt) ∧ D.constantPool.className? ci = some σ.implClass ∧ D.constantPool.nameAndType? nt = some (σ.implName, σ.implDesc.toString))
    (hC : D.constantPool[ci]? = some (.class_ cn) ∧ D.constantPool.string? cn = some σ.implClass ∧ ci ≠ D.thisClass) (hF : ∀ i fx, fxs[i]? = some fx → lamF D lay.1 fx i = true) (himpl : σ.implItf = false)
    {vm : Vm} {d c : ClassId} {dk : Class} (hd : vm.classes[d]? = some dk) (hname : dk.name = own) (h : Lambda.isMade { classPath := fun _ => none } vm d σ c = true)
    (hO : ∀ o ok, vm.findClass "java/lang/Object" = some o → vm.classes[o]? = some ok → ok.instanceTypes = #[]) :
    lamMade vm c own tys σ.implClass σ.implName σ.implDesc.toString code ix fxs := by
  obtain ⟨dk', k, ok, tk, file, cf, object, iface, toy, lay', methods, target, found, hd', hk, hfile', hcf, hobj, -, hok, hlay', hms, ht, htk, hg, -, hrec, -, -, -, hitf, hpool, hmeth, hfields, ⟨hty, -⟩, hres, -⟩ := Lambda.isMade_spec h
  cases hd.symm.trans hd'
  rw [hname, hfile] at hcf
  cases hcf
  have hO2 := hO object ok hobj hok
  rw [hO2, show (#[] : Array FieldType).size = 0 from rfl, hlay] at hlay'
  cases hlay'
  obtain ⟨b, hb, hsame⟩ := hmeth 1 fw (hsec methods hms)
  obtain ⟨-, -, hsig, hfl, x, z, hx, hz, -, hml, hcd, hex⟩ := Lambda.sameMethod_spec hsame
  simp only [Prod.mk.injEq] at hff
  rw [hx] at hcode
  simp only [Option.map_some, Option.some.injEq, Prod.mk.injEq] at hcode
  refine ⟨k, tk, b, z, toy, target, file, ci, nt, ⟨hk, hrec.2.1, by rw [hty, hO2, htys]; simp, by rw [hrec.1, hname]⟩, ⟨by simp [Vm.method?, hk, hb], hz, ?_, by rw [hml]; exact hcode.2, hex, ?_, by rw [hfl]; exact hff.1, by rw [hsig]; exact hff.2.2⟩, ⟨ht, htk, by rw [hitf]; exact himpl, hg⟩,
    ⟨⟨k, hk, hres ix _ (Lambda.resolvedOf_method hM.1 hM.2.1 ht htk hM.2.2 hg)⟩, ⟨k, hk, hres ci _ (Lambda.resolvedOf_class hC.1 hC.2.2 hC.2.1 ht)⟩, hfile', by rw [hpool.2.1]; exact hM.1, by rw [hpool.2.1]; exact hM.2.2⟩, fun i fx hi => ?_⟩
  · rw [hcd]
    exact ByteArray.ext hcode.1
  · simp [Method.locks, Method.isSynchronized, hfl, hff.1, hasFlag, Acc.synchronized]
  · have h9 := hF i fx hi
    unfold lamF at h9
    split at h9
    · rename_i c9 nt9 e9
      split at h9
      · rename_i nm ds e8
        rw [Bool.and_eq_true] at h9
        have h7 := of_decide_eq_true h9.1
        have h6 := of_decide_eq_true h9.2
        obtain ⟨g0, hg0, hp0⟩ := Option.map_eq_some_iff.mp h6
        simp only [Prod.mk.injEq] at hp0
        exact ⟨g0, ⟨k, i, k, hk, hres fx _ (Lambda.resolvedOf_field e9 e8 h7), hk, hfields i _ hg0⟩, hp0.1, hp0.2⟩
      · cases h9
    · cases h9
theorem lm_O {U : State} {a : Array Value} (h : (Cond.instantiable "java/lang/Object" 0).before a U = true) : ∀ o ok, U.vm.findClass "java/lang/Object" = some o → U.vm.classes[o]? = some ok → ok.instanceTypes = #[] := by
  intro o ok ho hok
  obtain ⟨cO, kO, hfO, hkO, -, -, -, hsz⟩ := Cond.instantiable_spec h
  cases hfO.symm.trans ho
  cases hkO.symm.trans hok
  exact Array.eq_empty_of_size_eq_zero hsz

def lm1_s : Lambda.Shape := ({ iface := "Rulehearth$Taker", name := "take", sam := ({ parameters := [(Jvm.ClassFile.FieldType.array Jvm.ClassFile.FieldType.int), (Jvm.ClassFile.FieldType.array Jvm.ClassFile.FieldType.int)], returnType := (Option.some Jvm.ClassFile.FieldType.boolean) } : Jvm.ClassFile.MethodDescriptor), captured := [(Jvm.ClassFile.FieldType.object "Rulehearth$Deriver"), (Jvm.ClassFile.FieldType.object "Rulehearth$Clause")], kind := 5, implClass := "Rulehearth$Deriver", implName := "lambda$new$0", implDesc := ({ parameters := [(Jvm.ClassFile.FieldType.object "Rulehearth$Clause"), (Jvm.ClassFile.FieldType.array Jvm.ClassFile.FieldType.int), (Jvm.ClassFile.FieldType.array Jvm.ClassFile.FieldType.int)], returnType := (Option.some Jvm.ClassFile.FieldType.boolean) } : Jvm.ClassFile.MethodDescriptor), implItf := false, inst := ({ parameters := [(Jvm.ClassFile.FieldType.array Jvm.ClassFile.FieldType.int), (Jvm.ClassFile.FieldType.array Jvm.ClassFile.FieldType.int)], returnType := (Option.some Jvm.ClassFile.FieldType.boolean) } : Jvm.ClassFile.MethodDescriptor) } : Jvm.Lambda.Shape)
def lm1_D : ClassFile := (lm1_s.file "Rulehearth$Deriver").getD { minorVersion := 0, majorVersion := 0, constantPool := #[], accessFlags := 0, thisClass := 0, superClass := 0, interfaces := #[], fields := #[], methods := #[], attributes := #[] }
def lm1_fw : Method := ((layoutMethods lm1_D).bind (·[1]?)).getD default
def lm1_lay : Array Field × Array FieldType × Array FieldType := (layoutFields lm1_D 0).getD (#[], #[], #[])
def lm1_code : ByteArray := ⟨#[0x2a, 0xb4, 0x00, 0x11, 0x2a, 0xb4, 0x00, 0x13, 0x2b, 0x2c, 0xb6, 0x00, 0x1b, 0xac]⟩
theorem lm1_file : lm1_s.file "Rulehearth$Deriver" = some lm1_D := by
  have h : (lm1_s.file "Rulehearth$Deriver").isSome = true := by decide +kernel
  obtain ⟨x, hx⟩ := Option.isSome_iff_exists.mp h
  simp [lm1_D, hx]
theorem lm1_second : ∀ ms, layoutMethods lm1_D = some ms → ms[1]? = some lm1_fw := by
  intro ms hms
  have h : ((layoutMethods lm1_D).bind (·[1]?)).isSome = true := by decide +kernel
  obtain ⟨x, hx⟩ := Option.isSome_iff_exists.mp h
  have hf : lm1_fw = x := by simp [lm1_fw, hx]
  rw [hms] at hx
  rw [hf]
  exact hx
theorem lm1_laid : layoutFields lm1_D 0 = some lm1_lay := by
  have h : (layoutFields lm1_D 0).isSome = true := by decide +kernel
  obtain ⟨x, hx⟩ := Option.isSome_iff_exists.mp h
  simp [lm1_lay, hx]
theorem lm1_made {vm : Vm} {d c : ClassId} {dk : Class} (hd : vm.classes[d]? = some dk) (hname : dk.name = "Rulehearth$Deriver") (h : Lambda.isMade { classPath := fun _ => none } vm d lm1_s c = true)
    (hO : ∀ o ok, vm.findClass "java/lang/Object" = some o → vm.classes[o]? = some ok → ok.instanceTypes = #[]) :
    lamMade vm c "Rulehearth$Deriver" #[(.object "Rulehearth$Deriver"), (.object "Rulehearth$Clause")] "Rulehearth$Deriver" "lambda$new$0" "(LRulehearth$Clause;[I[I)Z" lm1_code 27 [17, 19] := by
  have e : lm1_s.implDesc.toString = "(LRulehearth$Clause;[I[I)Z" := by decide +kernel
  have h9 := lam_gen (σ := lm1_s) (code := lm1_code) (ix := 27) (ci := 23) (nt := 26) (cn := 22) (tys := #[(.object "Rulehearth$Deriver"), (.object "Rulehearth$Clause")]) (fxs := [17, 19]) lm1_file lm1_second lm1_laid (by decide +kernel) (by decide +kernel) (by decide +kernel) (by decide +kernel) (by decide +kernel) (fun i fx hi => ?_) (by decide +kernel) hd hname h hO
  · rw [e] at h9
    exact h9
  · match i, hi with
    | 0, hi => cases hi; decide +kernel
    | 1, hi => cases hi; decide +kernel
    | i + 2, hi => cases hi
def lm2_s : Lambda.Shape := ({ iface := "Rulehearth$Taker", name := "take", sam := ({ parameters := [(Jvm.ClassFile.FieldType.array Jvm.ClassFile.FieldType.int), (Jvm.ClassFile.FieldType.array Jvm.ClassFile.FieldType.int)], returnType := (Option.some Jvm.ClassFile.FieldType.boolean) } : Jvm.ClassFile.MethodDescriptor), captured := [(Jvm.ClassFile.FieldType.object "Rulehearth$Reasons"), (Jvm.ClassFile.FieldType.object "Rulehearth$Clause"), Jvm.ClassFile.FieldType.int], kind := 5, implClass := "Rulehearth$Reasons", implName := "lambda$new$0", implDesc := ({ parameters := [(Jvm.ClassFile.FieldType.object "Rulehearth$Clause"), Jvm.ClassFile.FieldType.int, (Jvm.ClassFile.FieldType.array Jvm.ClassFile.FieldType.int), (Jvm.ClassFile.FieldType.array Jvm.ClassFile.FieldType.int)], returnType := (Option.some Jvm.ClassFile.FieldType.boolean) } : Jvm.ClassFile.MethodDescriptor), implItf := false, inst := ({ parameters := [(Jvm.ClassFile.FieldType.array Jvm.ClassFile.FieldType.int), (Jvm.ClassFile.FieldType.array Jvm.ClassFile.FieldType.int)], returnType := (Option.some Jvm.ClassFile.FieldType.boolean) } : Jvm.ClassFile.MethodDescriptor) } : Jvm.Lambda.Shape)
def lm2_D : ClassFile := (lm2_s.file "Rulehearth$Reasons").getD { minorVersion := 0, majorVersion := 0, constantPool := #[], accessFlags := 0, thisClass := 0, superClass := 0, interfaces := #[], fields := #[], methods := #[], attributes := #[] }
def lm2_fw : Method := ((layoutMethods lm2_D).bind (·[1]?)).getD default
def lm2_lay : Array Field × Array FieldType × Array FieldType := (layoutFields lm2_D 0).getD (#[], #[], #[])
def lm2_code : ByteArray := ⟨#[0x2a, 0xb4, 0x00, 0x13, 0x2a, 0xb4, 0x00, 0x15, 0x2a, 0xb4, 0x00, 0x17, 0x2b, 0x2c, 0xb6, 0x00, 0x1f, 0xac]⟩
theorem lm2_file : lm2_s.file "Rulehearth$Reasons" = some lm2_D := by
  have h : (lm2_s.file "Rulehearth$Reasons").isSome = true := by decide +kernel
  obtain ⟨x, hx⟩ := Option.isSome_iff_exists.mp h
  simp [lm2_D, hx]
theorem lm2_second : ∀ ms, layoutMethods lm2_D = some ms → ms[1]? = some lm2_fw := by
  intro ms hms
  have h : ((layoutMethods lm2_D).bind (·[1]?)).isSome = true := by decide +kernel
  obtain ⟨x, hx⟩ := Option.isSome_iff_exists.mp h
  have hf : lm2_fw = x := by simp [lm2_fw, hx]
  rw [hms] at hx
  rw [hf]
  exact hx
theorem lm2_laid : layoutFields lm2_D 0 = some lm2_lay := by
  have h : (layoutFields lm2_D 0).isSome = true := by decide +kernel
  obtain ⟨x, hx⟩ := Option.isSome_iff_exists.mp h
  simp [lm2_lay, hx]
theorem lm2_made {vm : Vm} {d c : ClassId} {dk : Class} (hd : vm.classes[d]? = some dk) (hname : dk.name = "Rulehearth$Reasons") (h : Lambda.isMade { classPath := fun _ => none } vm d lm2_s c = true)
    (hO : ∀ o ok, vm.findClass "java/lang/Object" = some o → vm.classes[o]? = some ok → ok.instanceTypes = #[]) :
    lamMade vm c "Rulehearth$Reasons" #[(.object "Rulehearth$Reasons"), (.object "Rulehearth$Clause"), .int] "Rulehearth$Reasons" "lambda$new$0" "(LRulehearth$Clause;I[I[I)Z" lm2_code 31 [19, 21, 23] := by
  have e : lm2_s.implDesc.toString = "(LRulehearth$Clause;I[I[I)Z" := by decide +kernel
  have h9 := lam_gen (σ := lm2_s) (code := lm2_code) (ix := 31) (ci := 27) (nt := 30) (cn := 26) (tys := #[(.object "Rulehearth$Reasons"), (.object "Rulehearth$Clause"), .int]) (fxs := [19, 21, 23]) lm2_file lm2_second lm2_laid (by decide +kernel) (by decide +kernel) (by decide +kernel) (by decide +kernel) (by decide +kernel) (fun i fx hi => ?_) (by decide +kernel) hd hname h hO
  · rw [e] at h9
    exact h9
  · match i, hi with
    | 0, hi => cases hi; decide +kernel
    | 1, hi => cases hi; decide +kernel
    | 2, hi => cases hi; decide +kernel
    | i + 3, hi => cases hi
def lm3_s : Lambda.Shape := ({ iface := "Rulehearth$Taker", name := "take", sam := ({ parameters := [(Jvm.ClassFile.FieldType.array Jvm.ClassFile.FieldType.int), (Jvm.ClassFile.FieldType.array Jvm.ClassFile.FieldType.int)], returnType := (Option.some Jvm.ClassFile.FieldType.boolean) } : Jvm.ClassFile.MethodDescriptor), captured := [(Jvm.ClassFile.FieldType.object "Rulehearth$Reasons"), (Jvm.ClassFile.FieldType.object "Rulehearth$Clause"), Jvm.ClassFile.FieldType.int], kind := 5, implClass := "Rulehearth$Reasons", implName := "lambda$measure$1", implDesc := ({ parameters := [(Jvm.ClassFile.FieldType.object "Rulehearth$Clause"), Jvm.ClassFile.FieldType.int, (Jvm.ClassFile.FieldType.array Jvm.ClassFile.FieldType.int), (Jvm.ClassFile.FieldType.array Jvm.ClassFile.FieldType.int)], returnType := (Option.some Jvm.ClassFile.FieldType.boolean) } : Jvm.ClassFile.MethodDescriptor), implItf := false, inst := ({ parameters := [(Jvm.ClassFile.FieldType.array Jvm.ClassFile.FieldType.int), (Jvm.ClassFile.FieldType.array Jvm.ClassFile.FieldType.int)], returnType := (Option.some Jvm.ClassFile.FieldType.boolean) } : Jvm.ClassFile.MethodDescriptor) } : Jvm.Lambda.Shape)
def lm3_D : ClassFile := (lm3_s.file "Rulehearth$Reasons").getD { minorVersion := 0, majorVersion := 0, constantPool := #[], accessFlags := 0, thisClass := 0, superClass := 0, interfaces := #[], fields := #[], methods := #[], attributes := #[] }
def lm3_fw : Method := ((layoutMethods lm3_D).bind (·[1]?)).getD default
def lm3_lay : Array Field × Array FieldType × Array FieldType := (layoutFields lm3_D 0).getD (#[], #[], #[])
def lm3_code : ByteArray := ⟨#[0x2a, 0xb4, 0x00, 0x13, 0x2a, 0xb4, 0x00, 0x15, 0x2a, 0xb4, 0x00, 0x17, 0x2b, 0x2c, 0xb6, 0x00, 0x1f, 0xac]⟩
theorem lm3_file : lm3_s.file "Rulehearth$Reasons" = some lm3_D := by
  have h : (lm3_s.file "Rulehearth$Reasons").isSome = true := by decide +kernel
  obtain ⟨x, hx⟩ := Option.isSome_iff_exists.mp h
  simp [lm3_D, hx]
theorem lm3_second : ∀ ms, layoutMethods lm3_D = some ms → ms[1]? = some lm3_fw := by
  intro ms hms
  have h : ((layoutMethods lm3_D).bind (·[1]?)).isSome = true := by decide +kernel
  obtain ⟨x, hx⟩ := Option.isSome_iff_exists.mp h
  have hf : lm3_fw = x := by simp [lm3_fw, hx]
  rw [hms] at hx
  rw [hf]
  exact hx
theorem lm3_laid : layoutFields lm3_D 0 = some lm3_lay := by
  have h : (layoutFields lm3_D 0).isSome = true := by decide +kernel
  obtain ⟨x, hx⟩ := Option.isSome_iff_exists.mp h
  simp [lm3_lay, hx]
theorem lm3_made {vm : Vm} {d c : ClassId} {dk : Class} (hd : vm.classes[d]? = some dk) (hname : dk.name = "Rulehearth$Reasons") (h : Lambda.isMade { classPath := fun _ => none } vm d lm3_s c = true)
    (hO : ∀ o ok, vm.findClass "java/lang/Object" = some o → vm.classes[o]? = some ok → ok.instanceTypes = #[]) :
    lamMade vm c "Rulehearth$Reasons" #[(.object "Rulehearth$Reasons"), (.object "Rulehearth$Clause"), .int] "Rulehearth$Reasons" "lambda$measure$1" "(LRulehearth$Clause;I[I[I)Z" lm3_code 31 [19, 21, 23] := by
  have e : lm3_s.implDesc.toString = "(LRulehearth$Clause;I[I[I)Z" := by decide +kernel
  have h9 := lam_gen (σ := lm3_s) (code := lm3_code) (ix := 31) (ci := 27) (nt := 30) (cn := 26) (tys := #[(.object "Rulehearth$Reasons"), (.object "Rulehearth$Clause"), .int]) (fxs := [19, 21, 23]) lm3_file lm3_second lm3_laid (by decide +kernel) (by decide +kernel) (by decide +kernel) (by decide +kernel) (by decide +kernel) (fun i fx hi => ?_) (by decide +kernel) hd hname h hO
  · rw [e] at h9
    exact h9
  · match i, hi with
    | 0, hi => cases hi; decide +kernel
    | 1, hi => cases hi; decide +kernel
    | 2, hi => cases hi; decide +kernel
    | i + 3, hi => cases hi
def lm4_s : Lambda.Shape := ({ iface := "Rulehearth$Taker", name := "take", sam := ({ parameters := [(Jvm.ClassFile.FieldType.array Jvm.ClassFile.FieldType.int), (Jvm.ClassFile.FieldType.array Jvm.ClassFile.FieldType.int)], returnType := (Option.some Jvm.ClassFile.FieldType.boolean) } : Jvm.ClassFile.MethodDescriptor), captured := [], kind := 6, implClass := "Rulehearth", implName := "lambda$whyNot$0", implDesc := ({ parameters := [(Jvm.ClassFile.FieldType.array Jvm.ClassFile.FieldType.int), (Jvm.ClassFile.FieldType.array Jvm.ClassFile.FieldType.int)], returnType := (Option.some Jvm.ClassFile.FieldType.boolean) } : Jvm.ClassFile.MethodDescriptor), implItf := false, inst := ({ parameters := [(Jvm.ClassFile.FieldType.array Jvm.ClassFile.FieldType.int), (Jvm.ClassFile.FieldType.array Jvm.ClassFile.FieldType.int)], returnType := (Option.some Jvm.ClassFile.FieldType.boolean) } : Jvm.ClassFile.MethodDescriptor) } : Jvm.Lambda.Shape)
def lm4_D : ClassFile := (lm4_s.file "Rulehearth").getD { minorVersion := 0, majorVersion := 0, constantPool := #[], accessFlags := 0, thisClass := 0, superClass := 0, interfaces := #[], fields := #[], methods := #[], attributes := #[] }
def lm4_fw : Method := ((layoutMethods lm4_D).bind (·[1]?)).getD default
def lm4_lay : Array Field × Array FieldType × Array FieldType := (layoutFields lm4_D 0).getD (#[], #[], #[])
def lm4_code : ByteArray := ⟨#[0x2b, 0x2c, 0xb8, 0x00, 0x11, 0xac]⟩
theorem lm4_file : lm4_s.file "Rulehearth" = some lm4_D := by
  have h : (lm4_s.file "Rulehearth").isSome = true := by decide +kernel
  obtain ⟨x, hx⟩ := Option.isSome_iff_exists.mp h
  simp [lm4_D, hx]
theorem lm4_second : ∀ ms, layoutMethods lm4_D = some ms → ms[1]? = some lm4_fw := by
  intro ms hms
  have h : ((layoutMethods lm4_D).bind (·[1]?)).isSome = true := by decide +kernel
  obtain ⟨x, hx⟩ := Option.isSome_iff_exists.mp h
  have hf : lm4_fw = x := by simp [lm4_fw, hx]
  rw [hms] at hx
  rw [hf]
  exact hx
theorem lm4_laid : layoutFields lm4_D 0 = some lm4_lay := by
  have h : (layoutFields lm4_D 0).isSome = true := by decide +kernel
  obtain ⟨x, hx⟩ := Option.isSome_iff_exists.mp h
  simp [lm4_lay, hx]
theorem lm4_made {vm : Vm} {d c : ClassId} {dk : Class} (hd : vm.classes[d]? = some dk) (hname : dk.name = "Rulehearth") (h : Lambda.isMade { classPath := fun _ => none } vm d lm4_s c = true)
    (hO : ∀ o ok, vm.findClass "java/lang/Object" = some o → vm.classes[o]? = some ok → ok.instanceTypes = #[]) :
    lamMade vm c "Rulehearth" #[] "Rulehearth" "lambda$whyNot$0" "([I[I)Z" lm4_code 17 [] := by
  have e : lm4_s.implDesc.toString = "([I[I)Z" := by decide +kernel
  have h9 := lam_gen (σ := lm4_s) (code := lm4_code) (ix := 17) (ci := 14) (nt := 16) (cn := 13) (tys := #[]) (fxs := []) lm4_file lm4_second lm4_laid (by decide +kernel) (by decide +kernel) (by decide +kernel) (by decide +kernel) (by decide +kernel) (fun i fx hi => ?_) (by decide +kernel) hd hname h hO
  · rw [e] at h9
    exact h9
  · match i, hi with
    | i + 0, hi => cases hi
def lm5_s : Lambda.Shape := ({ iface := "Rulehearth$Taker", name := "take", sam := ({ parameters := [(Jvm.ClassFile.FieldType.array Jvm.ClassFile.FieldType.int), (Jvm.ClassFile.FieldType.array Jvm.ClassFile.FieldType.int)], returnType := (Option.some Jvm.ClassFile.FieldType.boolean) } : Jvm.ClassFile.MethodDescriptor), captured := [(Jvm.ClassFile.FieldType.object "Rulehearth$Goals"), (Jvm.ClassFile.FieldType.object "Rulehearth$Item")], kind := 5, implClass := "Rulehearth$Goals", implName := "lambda$new$0", implDesc := ({ parameters := [(Jvm.ClassFile.FieldType.object "Rulehearth$Item"), (Jvm.ClassFile.FieldType.array Jvm.ClassFile.FieldType.int), (Jvm.ClassFile.FieldType.array Jvm.ClassFile.FieldType.int)], returnType := (Option.some Jvm.ClassFile.FieldType.boolean) } : Jvm.ClassFile.MethodDescriptor), implItf := false, inst := ({ parameters := [(Jvm.ClassFile.FieldType.array Jvm.ClassFile.FieldType.int), (Jvm.ClassFile.FieldType.array Jvm.ClassFile.FieldType.int)], returnType := (Option.some Jvm.ClassFile.FieldType.boolean) } : Jvm.ClassFile.MethodDescriptor) } : Jvm.Lambda.Shape)
def lm5_D : ClassFile := (lm5_s.file "Rulehearth$Goals").getD { minorVersion := 0, majorVersion := 0, constantPool := #[], accessFlags := 0, thisClass := 0, superClass := 0, interfaces := #[], fields := #[], methods := #[], attributes := #[] }
def lm5_fw : Method := ((layoutMethods lm5_D).bind (·[1]?)).getD default
def lm5_lay : Array Field × Array FieldType × Array FieldType := (layoutFields lm5_D 0).getD (#[], #[], #[])
def lm5_code : ByteArray := ⟨#[0x2a, 0xb4, 0x00, 0x11, 0x2a, 0xb4, 0x00, 0x13, 0x2b, 0x2c, 0xb6, 0x00, 0x1b, 0xac]⟩
theorem lm5_file : lm5_s.file "Rulehearth$Goals" = some lm5_D := by
  have h : (lm5_s.file "Rulehearth$Goals").isSome = true := by decide +kernel
  obtain ⟨x, hx⟩ := Option.isSome_iff_exists.mp h
  simp [lm5_D, hx]
theorem lm5_second : ∀ ms, layoutMethods lm5_D = some ms → ms[1]? = some lm5_fw := by
  intro ms hms
  have h : ((layoutMethods lm5_D).bind (·[1]?)).isSome = true := by decide +kernel
  obtain ⟨x, hx⟩ := Option.isSome_iff_exists.mp h
  have hf : lm5_fw = x := by simp [lm5_fw, hx]
  rw [hms] at hx
  rw [hf]
  exact hx
theorem lm5_laid : layoutFields lm5_D 0 = some lm5_lay := by
  have h : (layoutFields lm5_D 0).isSome = true := by decide +kernel
  obtain ⟨x, hx⟩ := Option.isSome_iff_exists.mp h
  simp [lm5_lay, hx]
theorem lm5_made {vm : Vm} {d c : ClassId} {dk : Class} (hd : vm.classes[d]? = some dk) (hname : dk.name = "Rulehearth$Goals") (h : Lambda.isMade { classPath := fun _ => none } vm d lm5_s c = true)
    (hO : ∀ o ok, vm.findClass "java/lang/Object" = some o → vm.classes[o]? = some ok → ok.instanceTypes = #[]) :
    lamMade vm c "Rulehearth$Goals" #[(.object "Rulehearth$Goals"), (.object "Rulehearth$Item")] "Rulehearth$Goals" "lambda$new$0" "(LRulehearth$Item;[I[I)Z" lm5_code 27 [17, 19] := by
  have e : lm5_s.implDesc.toString = "(LRulehearth$Item;[I[I)Z" := by decide +kernel
  have h9 := lam_gen (σ := lm5_s) (code := lm5_code) (ix := 27) (ci := 23) (nt := 26) (cn := 22) (tys := #[(.object "Rulehearth$Goals"), (.object "Rulehearth$Item")]) (fxs := [17, 19]) lm5_file lm5_second lm5_laid (by decide +kernel) (by decide +kernel) (by decide +kernel) (by decide +kernel) (by decide +kernel) (fun i fx hi => ?_) (by decide +kernel) hd hname h hO
  · rw [e] at h9
    exact h9
  · match i, hi with
    | 0, hi => cases hi; decide +kernel
    | 1, hi => cases hi; decide +kernel
    | i + 2, hi => cases hi
def lm6_s : Lambda.Shape := ({ iface := "Rulehearth$Taker", name := "take", sam := ({ parameters := [(Jvm.ClassFile.FieldType.array Jvm.ClassFile.FieldType.int), (Jvm.ClassFile.FieldType.array Jvm.ClassFile.FieldType.int)], returnType := (Option.some Jvm.ClassFile.FieldType.boolean) } : Jvm.ClassFile.MethodDescriptor), captured := [(Jvm.ClassFile.FieldType.array Jvm.ClassFile.FieldType.int)], kind := 6, implClass := "Rulehearth", implName := "lambda$count$1", implDesc := ({ parameters := [(Jvm.ClassFile.FieldType.array Jvm.ClassFile.FieldType.int), (Jvm.ClassFile.FieldType.array Jvm.ClassFile.FieldType.int), (Jvm.ClassFile.FieldType.array Jvm.ClassFile.FieldType.int)], returnType := (Option.some Jvm.ClassFile.FieldType.boolean) } : Jvm.ClassFile.MethodDescriptor), implItf := false, inst := ({ parameters := [(Jvm.ClassFile.FieldType.array Jvm.ClassFile.FieldType.int), (Jvm.ClassFile.FieldType.array Jvm.ClassFile.FieldType.int)], returnType := (Option.some Jvm.ClassFile.FieldType.boolean) } : Jvm.ClassFile.MethodDescriptor) } : Jvm.Lambda.Shape)
def lm6_D : ClassFile := (lm6_s.file "Rulehearth").getD { minorVersion := 0, majorVersion := 0, constantPool := #[], accessFlags := 0, thisClass := 0, superClass := 0, interfaces := #[], fields := #[], methods := #[], attributes := #[] }
def lm6_fw : Method := ((layoutMethods lm6_D).bind (·[1]?)).getD default
def lm6_lay : Array Field × Array FieldType × Array FieldType := (layoutFields lm6_D 0).getD (#[], #[], #[])
def lm6_code : ByteArray := ⟨#[0x2a, 0xb4, 0x00, 0x0f, 0x2b, 0x2c, 0xb8, 0x00, 0x17, 0xac]⟩
theorem lm6_file : lm6_s.file "Rulehearth" = some lm6_D := by
  have h : (lm6_s.file "Rulehearth").isSome = true := by decide +kernel
  obtain ⟨x, hx⟩ := Option.isSome_iff_exists.mp h
  simp [lm6_D, hx]
theorem lm6_second : ∀ ms, layoutMethods lm6_D = some ms → ms[1]? = some lm6_fw := by
  intro ms hms
  have h : ((layoutMethods lm6_D).bind (·[1]?)).isSome = true := by decide +kernel
  obtain ⟨x, hx⟩ := Option.isSome_iff_exists.mp h
  have hf : lm6_fw = x := by simp [lm6_fw, hx]
  rw [hms] at hx
  rw [hf]
  exact hx
theorem lm6_laid : layoutFields lm6_D 0 = some lm6_lay := by
  have h : (layoutFields lm6_D 0).isSome = true := by decide +kernel
  obtain ⟨x, hx⟩ := Option.isSome_iff_exists.mp h
  simp [lm6_lay, hx]
theorem lm6_made {vm : Vm} {d c : ClassId} {dk : Class} (hd : vm.classes[d]? = some dk) (hname : dk.name = "Rulehearth") (h : Lambda.isMade { classPath := fun _ => none } vm d lm6_s c = true)
    (hO : ∀ o ok, vm.findClass "java/lang/Object" = some o → vm.classes[o]? = some ok → ok.instanceTypes = #[]) :
    lamMade vm c "Rulehearth" #[(.array .int)] "Rulehearth" "lambda$count$1" "([I[I[I)Z" lm6_code 23 [15] := by
  have e : lm6_s.implDesc.toString = "([I[I[I)Z" := by decide +kernel
  have h9 := lam_gen (σ := lm6_s) (code := lm6_code) (ix := 23) (ci := 19) (nt := 22) (cn := 18) (tys := #[(.array .int)]) (fxs := [15]) lm6_file lm6_second lm6_laid (by decide +kernel) (by decide +kernel) (by decide +kernel) (by decide +kernel) (by decide +kernel) (fun i fx hi => ?_) (by decide +kernel) hd hname h hO
  · rw [e] at h9
    exact h9
  · match i, hi with
    | 0, hi => cases hi; decide +kernel
    | i + 1, hi => cases hi
