/-! ROWS: what a lambda's class does: it forwards -/
set_option maxRecDepth 100000
set_option maxHeartbeats 2000000
theorem dlmA_0 : decode lm1_code 0 = .ok (.aload_n 0, 1) := by decide +kernel
theorem dlmA_1 : decode lm1_code 1 = .ok (.getfield 17, 3) := by decide +kernel
theorem dlmA_4 : decode lm1_code 4 = .ok (.aload_n 0, 1) := by decide +kernel
theorem dlmA_5 : decode lm1_code 5 = .ok (.getfield 19, 3) := by decide +kernel
theorem dlmA_8 : decode lm1_code 8 = .ok (.aload_n 1, 1) := by decide +kernel
theorem dlmA_9 : decode lm1_code 9 = .ok (.aload_n 2, 1) := by decide +kernel
theorem dlmA_10 : decode lm1_code 10 = .ok (.invokevirtual 27, 3) := by decide +kernel
theorem dlmA_13 : decode lm1_code 13 = .ok (.ireturn, 1) := by decide +kernel
theorem dlmB_0 : decode lm2_code 0 = .ok (.aload_n 0, 1) := by decide +kernel
theorem dlmB_1 : decode lm2_code 1 = .ok (.getfield 19, 3) := by decide +kernel
theorem dlmB_4 : decode lm2_code 4 = .ok (.aload_n 0, 1) := by decide +kernel
theorem dlmB_5 : decode lm2_code 5 = .ok (.getfield 21, 3) := by decide +kernel
theorem dlmB_8 : decode lm2_code 8 = .ok (.aload_n 0, 1) := by decide +kernel
theorem dlmB_9 : decode lm2_code 9 = .ok (.getfield 23, 3) := by decide +kernel
theorem dlmB_12 : decode lm2_code 12 = .ok (.aload_n 1, 1) := by decide +kernel
theorem dlmB_13 : decode lm2_code 13 = .ok (.aload_n 2, 1) := by decide +kernel
theorem dlmB_14 : decode lm2_code 14 = .ok (.invokevirtual 31, 3) := by decide +kernel
theorem dlmB_17 : decode lm2_code 17 = .ok (.ireturn, 1) := by decide +kernel
theorem dlmC_0 : decode lm4_code 0 = .ok (.aload_n 1, 1) := by decide +kernel
theorem dlmC_1 : decode lm4_code 1 = .ok (.aload_n 2, 1) := by decide +kernel
theorem dlmC_2 : decode lm4_code 2 = .ok (.invokestatic 17, 3) := by decide +kernel
theorem dlmC_5 : decode lm4_code 5 = .ok (.ireturn, 1) := by decide +kernel
theorem dlmD_0 : decode lm6_code 0 = .ok (.aload_n 0, 1) := by decide +kernel
theorem dlmD_1 : decode lm6_code 1 = .ok (.getfield 15, 3) := by decide +kernel
theorem dlmD_4 : decode lm6_code 4 = .ok (.aload_n 1, 1) := by decide +kernel
theorem dlmD_5 : decode lm6_code 5 = .ok (.aload_n 2, 1) := by decide +kernel
theorem dlmD_6 : decode lm6_code 6 = .ok (.invokestatic 23, 3) := by decide +kernel
theorem dlmD_9 : decode lm6_code 9 = .ok (.ireturn, 1) := by decide +kernel
abbrev lmL (a vr fr : Nat) : Array Slot := #[.val (.ref a), .val (.ref vr), .val (.ref fr)]
section PF
variable {p : Program} {l : Launch} {e : Env} {R : Room} {s : State} {mk : MethodId} {as : Array Value} {below : List Frame} {methk : Method} {ck : Code} {U t : State} {a vr fr : Nat} {cK : Cell}
theorem lam_preA (Y : Stand p l e R s mk as below methk ck U [] 0 0) (hx : p.tables.exec = Jvm.exec) (hb : ck.code = lm1_code) (hcK : U.heap[a]? = some cK) (hkn : cK.vm ≠ .unknown) {f1 f2 : Field} {v1 v2 : Value} (h1 : U.vm.fieldReady mk.cls 17 mk.cls f1 ∧ f1.isStatic = false ∧ cK.slots[f1.slot]? = some v1) (h2 : U.vm.fieldReady mk.cls 19 mk.cls f2 ∧ f2.isStatic = false ∧ cK.slots[f2.slot]? = some v2)
    (k : Steps p.tables e below (U.setTop (F0 mk 10 (lmL a vr fr) [.ref fr, .ref vr, v2, v1])) t) : Steps p.tables e below (U.setTop (F0 mk 0 (lmL a vr fr) [])) t := by
  have hs : U.topJava?.isSome := Y.here.top
  show Steps p.tables e below (U.setTop { method := mk, pc := 0, locals := lmL a vr fr, stack := [], locked := none }) t
  jvm_step Y.here [hx, hb, dlmA_0, Value.isRef]
  jvm_step Y.here [hx, hb, dlmA_1, getfield.wp_ready (e := e) (s := U) (c := mk.cls) (field := f1) (a := a) (rest := []) (cell := cK) (v := v1) (f := { method := mk, pc := 1, locals := lmL a vr fr, stack := [.ref a], locked := none }) hs h1.1 h1.2.1 rfl hcK hkn h1.2.2]
  jvm_step Y.here [hx, hb, dlmA_4, Value.isRef]
  jvm_step Y.here [hx, hb, dlmA_5, getfield.wp_ready (e := e) (s := U) (c := mk.cls) (field := f2) (a := a) (rest := [v1]) (cell := cK) (v := v2) (f := { method := mk, pc := 5, locals := lmL a vr fr, stack := [.ref a, v1], locked := none }) hs h2.1 h2.2.1 rfl hcK hkn h2.2.2]
  jvm_step Y.here [hx, hb, dlmA_8, Value.isRef]
  jvm_step Y.here [hx, hb, dlmA_9, Value.isRef]
  exact k
theorem lam_preB (Y : Stand p l e R s mk as below methk ck U [] 0 0) (hx : p.tables.exec = Jvm.exec) (hb : ck.code = lm2_code) (hcK : U.heap[a]? = some cK) (hkn : cK.vm ≠ .unknown) {f1 f2 f3 : Field} {v1 v2 v3 : Value} (h1 : U.vm.fieldReady mk.cls 19 mk.cls f1 ∧ f1.isStatic = false ∧ cK.slots[f1.slot]? = some v1) (h2 : U.vm.fieldReady mk.cls 21 mk.cls f2 ∧ f2.isStatic = false ∧ cK.slots[f2.slot]? = some v2) (h3 : U.vm.fieldReady mk.cls 23 mk.cls f3 ∧ f3.isStatic = false ∧ cK.slots[f3.slot]? = some v3)
    (k : Steps p.tables e below (U.setTop (F0 mk 14 (lmL a vr fr) [.ref fr, .ref vr, v3, v2, v1])) t) : Steps p.tables e below (U.setTop (F0 mk 0 (lmL a vr fr) [])) t := by
  have hs : U.topJava?.isSome := Y.here.top
  show Steps p.tables e below (U.setTop { method := mk, pc := 0, locals := lmL a vr fr, stack := [], locked := none }) t
  jvm_step Y.here [hx, hb, dlmB_0, Value.isRef]
  jvm_step Y.here [hx, hb, dlmB_1, getfield.wp_ready (e := e) (s := U) (c := mk.cls) (field := f1) (a := a) (rest := []) (cell := cK) (v := v1) (f := { method := mk, pc := 1, locals := lmL a vr fr, stack := [.ref a], locked := none }) hs h1.1 h1.2.1 rfl hcK hkn h1.2.2]
  jvm_step Y.here [hx, hb, dlmB_4, Value.isRef]
  jvm_step Y.here [hx, hb, dlmB_5, getfield.wp_ready (e := e) (s := U) (c := mk.cls) (field := f2) (a := a) (rest := [v1]) (cell := cK) (v := v2) (f := { method := mk, pc := 5, locals := lmL a vr fr, stack := [.ref a, v1], locked := none }) hs h2.1 h2.2.1 rfl hcK hkn h2.2.2]
  jvm_step Y.here [hx, hb, dlmB_8, Value.isRef]
  jvm_step Y.here [hx, hb, dlmB_9, getfield.wp_ready (e := e) (s := U) (c := mk.cls) (field := f3) (a := a) (rest := [v2, v1]) (cell := cK) (v := v3) (f := { method := mk, pc := 9, locals := lmL a vr fr, stack := [.ref a, v2, v1], locked := none }) hs h3.1 h3.2.1 rfl hcK hkn h3.2.2]
  jvm_step Y.here [hx, hb, dlmB_12, Value.isRef]
  jvm_step Y.here [hx, hb, dlmB_13, Value.isRef]
  exact k
theorem lam_preC (Y : Stand p l e R s mk as below methk ck U [] 0 0) (hx : p.tables.exec = Jvm.exec) (hb : ck.code = lm4_code)
    (k : Steps p.tables e below (U.setTop (F0 mk 2 (lmL a vr fr) [.ref fr, .ref vr])) t) : Steps p.tables e below (U.setTop (F0 mk 0 (lmL a vr fr) [])) t := by
  have hs : U.topJava?.isSome := Y.here.top
  show Steps p.tables e below (U.setTop { method := mk, pc := 0, locals := lmL a vr fr, stack := [], locked := none }) t
  jvm_step Y.here [hx, hb, dlmC_0, Value.isRef]
  jvm_step Y.here [hx, hb, dlmC_1, Value.isRef]
  exact k
theorem lam_preD (Y : Stand p l e R s mk as below methk ck U [] 0 0) (hx : p.tables.exec = Jvm.exec) (hb : ck.code = lm6_code) (hcK : U.heap[a]? = some cK) (hkn : cK.vm ≠ .unknown) {f1 : Field} {v1 : Value} (h1 : U.vm.fieldReady mk.cls 15 mk.cls f1 ∧ f1.isStatic = false ∧ cK.slots[f1.slot]? = some v1)
    (k : Steps p.tables e below (U.setTop (F0 mk 6 (lmL a vr fr) [.ref fr, .ref vr, v1])) t) : Steps p.tables e below (U.setTop (F0 mk 0 (lmL a vr fr) [])) t := by
  have hs : U.topJava?.isSome := Y.here.top
  show Steps p.tables e below (U.setTop { method := mk, pc := 0, locals := lmL a vr fr, stack := [], locked := none }) t
  jvm_step Y.here [hx, hb, dlmD_0, Value.isRef]
  jvm_step Y.here [hx, hb, dlmD_1, getfield.wp_ready (e := e) (s := U) (c := mk.cls) (field := f1) (a := a) (rest := []) (cell := cK) (v := v1) (f := { method := mk, pc := 1, locals := lmL a vr fr, stack := [.ref a], locked := none }) hs h1.1 h1.2.1 rfl hcK hkn h1.2.2]
  jvm_step Y.here [hx, hb, dlmD_4, Value.isRef]
  jvm_step Y.here [hx, hb, dlmD_5, Value.isRef]
  exact k
end PF
