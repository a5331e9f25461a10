/-! THE ROWS: one an instruction, over rv_V (printed by tools/gen_rows.py) -/
set_option maxRecDepth 100000
theorem rv_iadd {X : rv_X} {y : MethodName} {cc : ByteArray} {d : Nat} (hX : rv_K X y cc d) {h : rv_H} {pc : Nat} {L : List (Option Value)} {st : List Value} {a b : Int32} (dg : decode cc pc = .ok (.iadd, 1)) (k : rv_V X h (pc + 1) L (.int (a + b) :: st)) : rv_V X h pc L (.int b :: .int a :: st) := by
  obtain ⟨G, p, e, R, s, m, args, below, meth, c, Qw⟩ := X
  intro H ls locs hR hL hz
  exact lv_iadd hX.1 hX.2.1 dg (k H ls locs hR hL hz)
theorem rv_isub {X : rv_X} {y : MethodName} {cc : ByteArray} {d : Nat} (hX : rv_K X y cc d) {h : rv_H} {pc : Nat} {L : List (Option Value)} {st : List Value} {a b : Int32} (dg : decode cc pc = .ok (.isub, 1)) (k : rv_V X h (pc + 1) L (.int (a - b) :: st)) : rv_V X h pc L (.int b :: .int a :: st) := by
  obtain ⟨G, p, e, R, s, m, args, below, meth, c, Qw⟩ := X
  intro H ls locs hR hL hz
  exact lv_isub hX.1 hX.2.1 dg (k H ls locs hR hL hz)
theorem rv_imul {X : rv_X} {y : MethodName} {cc : ByteArray} {d : Nat} (hX : rv_K X y cc d) {h : rv_H} {pc : Nat} {L : List (Option Value)} {st : List Value} {a b : Int32} (dg : decode cc pc = .ok (.imul, 1)) (k : rv_V X h (pc + 1) L (.int (a * b) :: st)) : rv_V X h pc L (.int b :: .int a :: st) := by
  obtain ⟨G, p, e, R, s, m, args, below, meth, c, Qw⟩ := X
  intro H ls locs hR hL hz
  exact lv_imul hX.1 hX.2.1 dg (k H ls locs hR hL hz)
theorem rv_iand {X : rv_X} {y : MethodName} {cc : ByteArray} {d : Nat} (hX : rv_K X y cc d) {h : rv_H} {pc : Nat} {L : List (Option Value)} {st : List Value} {a b : Int32} (dg : decode cc pc = .ok (.iand, 1)) (k : rv_V X h (pc + 1) L (.int (a &&& b) :: st)) : rv_V X h pc L (.int b :: .int a :: st) := by
  obtain ⟨G, p, e, R, s, m, args, below, meth, c, Qw⟩ := X
  intro H ls locs hR hL hz
  exact lv_iand hX.1 hX.2.1 dg (k H ls locs hR hL hz)
theorem rv_ior {X : rv_X} {y : MethodName} {cc : ByteArray} {d : Nat} (hX : rv_K X y cc d) {h : rv_H} {pc : Nat} {L : List (Option Value)} {st : List Value} {a b : Int32} (dg : decode cc pc = .ok (.ior, 1)) (k : rv_V X h (pc + 1) L (.int (a ||| b) :: st)) : rv_V X h pc L (.int b :: .int a :: st) := by
  obtain ⟨G, p, e, R, s, m, args, below, meth, c, Qw⟩ := X
  intro H ls locs hR hL hz
  exact lv_ior hX.1 hX.2.1 dg (k H ls locs hR hL hz)
theorem rv_ixor {X : rv_X} {y : MethodName} {cc : ByteArray} {d : Nat} (hX : rv_K X y cc d) {h : rv_H} {pc : Nat} {L : List (Option Value)} {st : List Value} {a b : Int32} (dg : decode cc pc = .ok (.ixor, 1)) (k : rv_V X h (pc + 1) L (.int (a ^^^ b) :: st)) : rv_V X h pc L (.int b :: .int a :: st) := by
  obtain ⟨G, p, e, R, s, m, args, below, meth, c, Qw⟩ := X
  intro H ls locs hR hL hz
  exact lv_ixor hX.1 hX.2.1 dg (k H ls locs hR hL hz)
theorem rv_ishl {X : rv_X} {y : MethodName} {cc : ByteArray} {d : Nat} (hX : rv_K X y cc d) {h : rv_H} {pc : Nat} {L : List (Option Value)} {st : List Value} {a b : Int32} (dg : decode cc pc = .ok (.ishl, 1)) (k : rv_V X h (pc + 1) L (.int (a <<< (b &&& 31)) :: st)) : rv_V X h pc L (.int b :: .int a :: st) := by
  obtain ⟨G, p, e, R, s, m, args, below, meth, c, Qw⟩ := X
  intro H ls locs hR hL hz
  exact lv_ishl hX.1 hX.2.1 dg (k H ls locs hR hL hz)
theorem rv_ishr {X : rv_X} {y : MethodName} {cc : ByteArray} {d : Nat} (hX : rv_K X y cc d) {h : rv_H} {pc : Nat} {L : List (Option Value)} {st : List Value} {a b : Int32} (dg : decode cc pc = .ok (.ishr, 1)) (k : rv_V X h (pc + 1) L (.int (a >>> (b &&& 31)) :: st)) : rv_V X h pc L (.int b :: .int a :: st) := by
  obtain ⟨G, p, e, R, s, m, args, below, meth, c, Qw⟩ := X
  intro H ls locs hR hL hz
  exact lv_ishr hX.1 hX.2.1 dg (k H ls locs hR hL hz)
theorem rv_idiv {X : rv_X} {y : MethodName} {cc : ByteArray} {d : Nat} (hX : rv_K X y cc d) {h : rv_H} {pc : Nat} {L : List (Option Value)} {st : List Value} {a b : Int32} (dg : decode cc pc = .ok (.idiv, 1)) (hb0 : ¬ b = 0) (k : rv_V X h (pc + 1) L (.int (a / b) :: st)) : rv_V X h pc L (.int b :: .int a :: st) := by
  obtain ⟨G, p, e, R, s, m, args, below, meth, c, Qw⟩ := X
  intro H ls locs hR hL hz
  exact lv_idiv hX.1 hX.2.1 dg hb0 (k H ls locs hR hL hz)
theorem rv_irem {X : rv_X} {y : MethodName} {cc : ByteArray} {d : Nat} (hX : rv_K X y cc d) {h : rv_H} {pc : Nat} {L : List (Option Value)} {st : List Value} {a b : Int32} (dg : decode cc pc = .ok (.irem, 1)) (hb0 : ¬ b = 0) (k : rv_V X h (pc + 1) L (.int (a - a / b * b) :: st)) : rv_V X h pc L (.int b :: .int a :: st) := by
  obtain ⟨G, p, e, R, s, m, args, below, meth, c, Qw⟩ := X
  intro H ls locs hR hL hz
  exact lv_irem hX.1 hX.2.1 dg hb0 (k H ls locs hR hL hz)
theorem rv_ladd {X : rv_X} {y : MethodName} {cc : ByteArray} {d : Nat} (hX : rv_K X y cc d) {h : rv_H} {pc : Nat} {L : List (Option Value)} {st : List Value} {a b : Int64} (dg : decode cc pc = .ok (.ladd, 1)) (k : rv_V X h (pc + 1) L (.long (a + b) :: st)) : rv_V X h pc L (.long b :: .long a :: st) := by
  obtain ⟨G, p, e, R, s, m, args, below, meth, c, Qw⟩ := X
  intro H ls locs hR hL hz
  exact lv_ladd hX.1 hX.2.1 dg (k H ls locs hR hL hz)
theorem rv_lsub {X : rv_X} {y : MethodName} {cc : ByteArray} {d : Nat} (hX : rv_K X y cc d) {h : rv_H} {pc : Nat} {L : List (Option Value)} {st : List Value} {a b : Int64} (dg : decode cc pc = .ok (.lsub, 1)) (k : rv_V X h (pc + 1) L (.long (a - b) :: st)) : rv_V X h pc L (.long b :: .long a :: st) := by
  obtain ⟨G, p, e, R, s, m, args, below, meth, c, Qw⟩ := X
  intro H ls locs hR hL hz
  exact lv_lsub hX.1 hX.2.1 dg (k H ls locs hR hL hz)
theorem rv_lmul {X : rv_X} {y : MethodName} {cc : ByteArray} {d : Nat} (hX : rv_K X y cc d) {h : rv_H} {pc : Nat} {L : List (Option Value)} {st : List Value} {a b : Int64} (dg : decode cc pc = .ok (.lmul, 1)) (k : rv_V X h (pc + 1) L (.long (a * b) :: st)) : rv_V X h pc L (.long b :: .long a :: st) := by
  obtain ⟨G, p, e, R, s, m, args, below, meth, c, Qw⟩ := X
  intro H ls locs hR hL hz
  exact lv_lmul hX.1 hX.2.1 dg (k H ls locs hR hL hz)
theorem rv_land {X : rv_X} {y : MethodName} {cc : ByteArray} {d : Nat} (hX : rv_K X y cc d) {h : rv_H} {pc : Nat} {L : List (Option Value)} {st : List Value} {a b : Int64} (dg : decode cc pc = .ok (.land, 1)) (k : rv_V X h (pc + 1) L (.long (a &&& b) :: st)) : rv_V X h pc L (.long b :: .long a :: st) := by
  obtain ⟨G, p, e, R, s, m, args, below, meth, c, Qw⟩ := X
  intro H ls locs hR hL hz
  exact lv_land hX.1 hX.2.1 dg (k H ls locs hR hL hz)
theorem rv_lor {X : rv_X} {y : MethodName} {cc : ByteArray} {d : Nat} (hX : rv_K X y cc d) {h : rv_H} {pc : Nat} {L : List (Option Value)} {st : List Value} {a b : Int64} (dg : decode cc pc = .ok (.lor, 1)) (k : rv_V X h (pc + 1) L (.long (a ||| b) :: st)) : rv_V X h pc L (.long b :: .long a :: st) := by
  obtain ⟨G, p, e, R, s, m, args, below, meth, c, Qw⟩ := X
  intro H ls locs hR hL hz
  exact lv_lor hX.1 hX.2.1 dg (k H ls locs hR hL hz)
theorem rv_lxor {X : rv_X} {y : MethodName} {cc : ByteArray} {d : Nat} (hX : rv_K X y cc d) {h : rv_H} {pc : Nat} {L : List (Option Value)} {st : List Value} {a b : Int64} (dg : decode cc pc = .ok (.lxor, 1)) (k : rv_V X h (pc + 1) L (.long (a ^^^ b) :: st)) : rv_V X h pc L (.long b :: .long a :: st) := by
  obtain ⟨G, p, e, R, s, m, args, below, meth, c, Qw⟩ := X
  intro H ls locs hR hL hz
  exact lv_lxor hX.1 hX.2.1 dg (k H ls locs hR hL hz)
theorem rv_ineg {X : rv_X} {y : MethodName} {cc : ByteArray} {d : Nat} (hX : rv_K X y cc d) {h : rv_H} {pc : Nat} {L : List (Option Value)} {st : List Value} {a : Int32} (dg : decode cc pc = .ok (.ineg, 1)) (k : rv_V X h (pc + 1) L (.int (-a) :: st)) : rv_V X h pc L (.int a :: st) := by
  obtain ⟨G, p, e, R, s, m, args, below, meth, c, Qw⟩ := X
  intro H ls locs hR hL hz
  exact lv_ineg hX.1 hX.2.1 dg (k H ls locs hR hL hz)
theorem rv_iushr {X : rv_X} {y : MethodName} {cc : ByteArray} {d : Nat} (hX : rv_K X y cc d) {h : rv_H} {pc : Nat} {L : List (Option Value)} {st : List Value} {a b : Int32} (dg : decode cc pc = .ok (.iushr, 1)) (k : rv_V X h (pc + 1) L (.int ((a.toUInt32 >>> (b.toUInt32 &&& Int32.toUInt32 31)).toInt32) :: st)) : rv_V X h pc L (.int b :: .int a :: st) := by
  obtain ⟨G, p, e, R, s, m, args, below, meth, c, Qw⟩ := X
  intro H ls locs hR hL hz
  exact lv_iushr hX.1 hX.2.1 dg rfl (k H ls locs hR hL hz)
theorem rv_lshl {X : rv_X} {y : MethodName} {cc : ByteArray} {d : Nat} (hX : rv_K X y cc d) {h : rv_H} {pc : Nat} {L : List (Option Value)} {st : List Value} {a : Int64} {b : Int32} (dg : decode cc pc = .ok (.lshl, 1)) (k : rv_V X h (pc + 1) L (.long (a <<< (b.toInt64 &&& 63)) :: st)) : rv_V X h pc L (.int b :: .long a :: st) := by
  obtain ⟨G, p, e, R, s, m, args, below, meth, c, Qw⟩ := X
  intro H ls locs hR hL hz
  exact lv_lshl hX.1 hX.2.1 dg rfl (k H ls locs hR hL hz)
theorem rv_lshr {X : rv_X} {y : MethodName} {cc : ByteArray} {d : Nat} (hX : rv_K X y cc d) {h : rv_H} {pc : Nat} {L : List (Option Value)} {st : List Value} {a : Int64} {b : Int32} (dg : decode cc pc = .ok (.lshr, 1)) (k : rv_V X h (pc + 1) L (.long (a >>> (b.toInt64 &&& 63)) :: st)) : rv_V X h pc L (.int b :: .long a :: st) := by
  obtain ⟨G, p, e, R, s, m, args, below, meth, c, Qw⟩ := X
  intro H ls locs hR hL hz
  exact lv_lshr hX.1 hX.2.1 dg rfl (k H ls locs hR hL hz)
theorem rv_i2l {X : rv_X} {y : MethodName} {cc : ByteArray} {d : Nat} (hX : rv_K X y cc d) {h : rv_H} {pc : Nat} {L : List (Option Value)} {st : List Value} {a : Int32} (dg : decode cc pc = .ok (.i2l, 1)) (k : rv_V X h (pc + 1) L (.long a.toInt64 :: st)) : rv_V X h pc L (.int a :: st) := by
  obtain ⟨G, p, e, R, s, m, args, below, meth, c, Qw⟩ := X
  intro H ls locs hR hL hz
  exact lv_i2l hX.1 hX.2.1 dg rfl (k H ls locs hR hL hz)
theorem rv_l2i {X : rv_X} {y : MethodName} {cc : ByteArray} {d : Nat} (hX : rv_K X y cc d) {h : rv_H} {pc : Nat} {L : List (Option Value)} {st : List Value} {a : Int64} (dg : decode cc pc = .ok (.l2i, 1)) (k : rv_V X h (pc + 1) L (.int a.toInt32 :: st)) : rv_V X h pc L (.long a :: st) := by
  obtain ⟨G, p, e, R, s, m, args, below, meth, c, Qw⟩ := X
  intro H ls locs hR hL hz
  exact lv_l2i hX.1 hX.2.1 dg rfl (k H ls locs hR hL hz)
theorem rv_i2b {X : rv_X} {y : MethodName} {cc : ByteArray} {d : Nat} (hX : rv_K X y cc d) {h : rv_H} {pc : Nat} {L : List (Option Value)} {st : List Value} {a : Int32} (dg : decode cc pc = .ok (.i2b, 1)) (k : rv_V X h (pc + 1) L (.int a.toInt8.toInt32 :: st)) : rv_V X h pc L (.int a :: st) := by
  obtain ⟨G, p, e, R, s, m, args, below, meth, c, Qw⟩ := X
  intro H ls locs hR hL hz
  exact lv_i2b hX.1 hX.2.1 dg rfl (k H ls locs hR hL hz)
theorem rv_i2c {X : rv_X} {y : MethodName} {cc : ByteArray} {d : Nat} (hX : rv_K X y cc d) {h : rv_H} {pc : Nat} {L : List (Option Value)} {st : List Value} {a : Int32} (dg : decode cc pc = .ok (.i2c, 1)) (k : rv_V X h (pc + 1) L (.int (a.toUInt32 % 65536).toInt32 :: st)) : rv_V X h pc L (.int a :: st) := by
  obtain ⟨G, p, e, R, s, m, args, below, meth, c, Qw⟩ := X
  intro H ls locs hR hL hz
  exact lv_i2c hX.1 hX.2.1 dg rfl (k H ls locs hR hL hz)
theorem rv_iconst {X : rv_X} {y : MethodName} {cc : ByteArray} {d : Nat} (hX : rv_K X y cc d) {h : rv_H} {pc : Nat} {L : List (Option Value)} {st : List Value} {n : Int} {v : Int32} (dg : decode cc pc = .ok (.iconst n, 1)) (hv : Int32.ofInt n = v) (k : rv_V X h (pc + 1) L (.int v :: st)) : rv_V X h pc L (st) := by
  obtain ⟨G, p, e, R, s, m, args, below, meth, c, Qw⟩ := X
  intro H ls locs hR hL hz
  exact lv_iconst hX.1 hX.2.1 dg hv (k H ls locs hR hL hz)
theorem rv_bipush {X : rv_X} {y : MethodName} {cc : ByteArray} {d : Nat} (hX : rv_K X y cc d) {h : rv_H} {pc : Nat} {L : List (Option Value)} {st : List Value} {n : Int} {v : Int32} (dg : decode cc pc = .ok (.bipush n, 2)) (hv : (Int8.ofInt n).toInt32 = v) (k : rv_V X h (pc + 2) L (.int v :: st)) : rv_V X h pc L (st) := by
  obtain ⟨G, p, e, R, s, m, args, below, meth, c, Qw⟩ := X
  intro H ls locs hR hL hz
  exact lv_bipush hX.1 hX.2.1 dg hv (k H ls locs hR hL hz)
theorem rv_sipush {X : rv_X} {y : MethodName} {cc : ByteArray} {d : Nat} (hX : rv_K X y cc d) {h : rv_H} {pc : Nat} {L : List (Option Value)} {st : List Value} {n : Int} {v : Int32} (dg : decode cc pc = .ok (.sipush n, 3)) (hv : (Int16.ofInt n).toInt32 = v) (k : rv_V X h (pc + 3) L (.int v :: st)) : rv_V X h pc L (st) := by
  obtain ⟨G, p, e, R, s, m, args, below, meth, c, Qw⟩ := X
  intro H ls locs hR hL hz
  exact lv_sipush hX.1 hX.2.1 dg hv (k H ls locs hR hL hz)
theorem rv_lconst {X : rv_X} {y : MethodName} {cc : ByteArray} {d : Nat} (hX : rv_K X y cc d) {h : rv_H} {pc : Nat} {L : List (Option Value)} {st : List Value} {n : Fin 2} {v : Int64} (dg : decode cc pc = .ok (.lconst n, 1)) (hv : Int64.ofNat (n : Nat) = v) (k : rv_V X h (pc + 1) L (.long v :: st)) : rv_V X h pc L (st) := by
  obtain ⟨G, p, e, R, s, m, args, below, meth, c, Qw⟩ := X
  intro H ls locs hR hL hz
  exact lv_lconst hX.1 hX.2.1 dg hv (k H ls locs hR hL hz)
theorem rv_null {X : rv_X} {y : MethodName} {cc : ByteArray} {d : Nat} (hX : rv_K X y cc d) {h : rv_H} {pc : Nat} {L : List (Option Value)} {st : List Value}  (dg : decode cc pc = .ok (.aconst_null, 1)) (k : rv_V X h (pc + 1) L (.null :: st)) : rv_V X h pc L (st) := by
  obtain ⟨G, p, e, R, s, m, args, below, meth, c, Qw⟩ := X
  intro H ls locs hR hL hz
  exact lv_null hX.1 hX.2.1 dg (k H ls locs hR hL hz)
theorem rv_dup {X : rv_X} {y : MethodName} {cc : ByteArray} {d : Nat} (hX : rv_K X y cc d) {h : rv_H} {pc : Nat} {L : List (Option Value)} {st : List Value} {v : Value} (dg : decode cc pc = .ok (.dup, 1)) (h1 : v.category = 1) (k : rv_V X h (pc + 1) L (v :: v :: st)) : rv_V X h pc L (v :: st) := by
  obtain ⟨G, p, e, R, s, m, args, below, meth, c, Qw⟩ := X
  intro H ls locs hR hL hz
  exact lv_dup hX.1 hX.2.1 dg h1 (k H ls locs hR hL hz)
theorem rv_pop {X : rv_X} {y : MethodName} {cc : ByteArray} {d : Nat} (hX : rv_K X y cc d) {h : rv_H} {pc : Nat} {L : List (Option Value)} {st : List Value} {v : Value} (dg : decode cc pc = .ok (.pop, 1)) (h1 : v.category = 1) (k : rv_V X h (pc + 1) L (st)) : rv_V X h pc L (v :: st) := by
  obtain ⟨G, p, e, R, s, m, args, below, meth, c, Qw⟩ := X
  intro H ls locs hR hL hz
  exact lv_pop hX.1 hX.2.1 dg h1 (k H ls locs hR hL hz)
theorem rv_dup_x1 {X : rv_X} {y : MethodName} {cc : ByteArray} {d : Nat} (hX : rv_K X y cc d) {h : rv_H} {pc : Nat} {L : List (Option Value)} {st : List Value} {v w : Value} (dg : decode cc pc = .ok (.dup_x1, 1)) (h1 : v.category = 1) (h2 : w.category = 1) (k : rv_V X h (pc + 1) L (v :: w :: v :: st)) : rv_V X h pc L (v :: w :: st) := by
  obtain ⟨G, p, e, R, s, m, args, below, meth, c, Qw⟩ := X
  intro H ls locs hR hL hz
  exact lv_dup_x1 hX.1 hX.2.1 dg h1 h2 (k H ls locs hR hL hz)
theorem rv_dup2 {X : rv_X} {y : MethodName} {cc : ByteArray} {d : Nat} (hX : rv_K X y cc d) {h : rv_H} {pc : Nat} {L : List (Option Value)} {st : List Value} {v w : Value} (dg : decode cc pc = .ok (.dup2, 1)) (h1 : v.category = 1) (h2 : w.category = 1) (k : rv_V X h (pc + 1) L (v :: w :: v :: w :: st)) : rv_V X h pc L (v :: w :: st) := by
  obtain ⟨G, p, e, R, s, m, args, below, meth, c, Qw⟩ := X
  intro H ls locs hR hL hz
  exact lv_dup2_11 hX.1 hX.2.1 dg h1 h2 (k H ls locs hR hL hz)
theorem rv_iload_n {X : rv_X} {y : MethodName} {cc : ByteArray} {d : Nat} (hX : rv_K X y cc d) {h : rv_H} {pc : Nat} {L : List (Option Value)} {st : List Value} {k0 : Fin 4} {a : Int32} (dg : decode cc pc = .ok (.iload_n k0, 1)) (hl : L[(k0 : Nat)]? = some (some (.int a))) (k : rv_V X h (pc + 1) L (.int a :: st)) : rv_V X h pc L (st) := by
  obtain ⟨G, p, e, R, s, m, args, below, meth, c, Qw⟩ := X
  intro H ls locs hR hL hz
  exact lv_iload_n hX.1 hX.2.1 dg rfl (hL.2.2 _ _ hl) (k H ls locs hR hL hz)
theorem rv_iload {X : rv_X} {y : MethodName} {cc : ByteArray} {d : Nat} (hX : rv_K X y cc d) {h : rv_H} {pc : Nat} {L : List (Option Value)} {st : List Value} {i : Nat} {a : Int32} (dg : decode cc pc = .ok (.iload i, 2)) (hl : L[i]? = some (some (.int a))) (k : rv_V X h (pc + 2) L (.int a :: st)) : rv_V X h pc L (st) := by
  obtain ⟨G, p, e, R, s, m, args, below, meth, c, Qw⟩ := X
  intro H ls locs hR hL hz
  exact lv_iload hX.1 hX.2.1 dg (hL.2.2 _ _ hl) (k H ls locs hR hL hz)
theorem rv_lload_n {X : rv_X} {y : MethodName} {cc : ByteArray} {d : Nat} (hX : rv_K X y cc d) {h : rv_H} {pc : Nat} {L : List (Option Value)} {st : List Value} {k0 : Fin 4} {a : Int64} (dg : decode cc pc = .ok (.lload_n k0, 1)) (hl : L[(k0 : Nat)]? = some (some (.long a))) (k : rv_V X h (pc + 1) L (.long a :: st)) : rv_V X h pc L (st) := by
  obtain ⟨G, p, e, R, s, m, args, below, meth, c, Qw⟩ := X
  intro H ls locs hR hL hz
  exact lv_lload_n hX.1 hX.2.1 dg rfl (hL.2.2 _ _ hl) (k H ls locs hR hL hz)
theorem rv_lload {X : rv_X} {y : MethodName} {cc : ByteArray} {d : Nat} (hX : rv_K X y cc d) {h : rv_H} {pc : Nat} {L : List (Option Value)} {st : List Value} {i : Nat} {a : Int64} (dg : decode cc pc = .ok (.lload i, 2)) (hl : L[i]? = some (some (.long a))) (k : rv_V X h (pc + 2) L (.long a :: st)) : rv_V X h pc L (st) := by
  obtain ⟨G, p, e, R, s, m, args, below, meth, c, Qw⟩ := X
  intro H ls locs hR hL hz
  exact lv_lload hX.1 hX.2.1 dg (hL.2.2 _ _ hl) (k H ls locs hR hL hz)
theorem rv_aload_n {X : rv_X} {y : MethodName} {cc : ByteArray} {d : Nat} (hX : rv_K X y cc d) {h : rv_H} {pc : Nat} {L : List (Option Value)} {st : List Value} {k0 : Fin 4} {a : Nat} (dg : decode cc pc = .ok (.aload_n k0, 1)) (hl : L[(k0 : Nat)]? = some (some (.ref a))) (k : rv_V X h (pc + 1) L (.ref a :: st)) : rv_V X h pc L (st) := by
  obtain ⟨G, p, e, R, s, m, args, below, meth, c, Qw⟩ := X
  intro H ls locs hR hL hz
  exact lv_aload_n hX.1 hX.2.1 dg rfl (hL.2.2 _ _ hl) (k H ls locs hR hL hz)
theorem rv_aload {X : rv_X} {y : MethodName} {cc : ByteArray} {d : Nat} (hX : rv_K X y cc d) {h : rv_H} {pc : Nat} {L : List (Option Value)} {st : List Value} {i : Nat} {a : Nat} (dg : decode cc pc = .ok (.aload i, 2)) (hl : L[i]? = some (some (.ref a))) (k : rv_V X h (pc + 2) L (.ref a :: st)) : rv_V X h pc L (st) := by
  obtain ⟨G, p, e, R, s, m, args, below, meth, c, Qw⟩ := X
  intro H ls locs hR hL hz
  exact lv_aload hX.1 hX.2.1 dg (hL.2.2 _ _ hl) (k H ls locs hR hL hz)
theorem rv_aload_nN {X : rv_X} {y : MethodName} {cc : ByteArray} {d : Nat} (hX : rv_K X y cc d) {h : rv_H} {pc : Nat} {L : List (Option Value)} {st : List Value} {k0 : Fin 4} (dg : decode cc pc = .ok (.aload_n k0, 1)) (hl : L[(k0 : Nat)]? = some (some .null)) (k : rv_V X h (pc + 1) L (.null :: st)) : rv_V X h pc L (st) := by
  obtain ⟨G, p, e, R, s, m, args, below, meth, c, Qw⟩ := X
  intro H ls locs hR hL hz
  exact lv_aload_nN hX.1 hX.2.1 dg rfl (hL.2.2 _ _ hl) (k H ls locs hR hL hz)
theorem rv_aloadN {X : rv_X} {y : MethodName} {cc : ByteArray} {d : Nat} (hX : rv_K X y cc d) {h : rv_H} {pc : Nat} {L : List (Option Value)} {st : List Value} {i : Nat} (dg : decode cc pc = .ok (.aload i, 2)) (hl : L[i]? = some (some .null)) (k : rv_V X h (pc + 2) L (.null :: st)) : rv_V X h pc L (st) := by
  obtain ⟨G, p, e, R, s, m, args, below, meth, c, Qw⟩ := X
  intro H ls locs hR hL hz
  exact lv_aloadN hX.1 hX.2.1 dg (hL.2.2 _ _ hl) (k H ls locs hR hL hz)
theorem rv_istore_n {X : rv_X} {y : MethodName} {cc : ByteArray} {d : Nat} (hX : rv_K X y cc d) {h : rv_H} {pc : Nat} {L : List (Option Value)} {st : List Value} {k0 : Fin 4} {a : Int32} {L' : List (Option Value)} (dg : decode cc pc = .ok (.istore_n k0, 1)) (hS : rv_st L (k0 : Nat) (.int a) L') (k : rv_V X h (pc + 1) L' st) : rv_V X h pc L (.int a :: st) := by
  obtain ⟨G, p, e, R, s, m, args, below, meth, c, Qw⟩ := X
  intro H ls locs hR hL hz
  exact lv_istore_n hX.1 hX.2.1 dg rfl (rv_L_has hL) hS.2.1 rfl (fun ls2 h2 => k H ls2 locs hR (rv_L_st1 hL.1.2 hS h2) hz)
theorem rv_istore {X : rv_X} {y : MethodName} {cc : ByteArray} {d : Nat} (hX : rv_K X y cc d) {h : rv_H} {pc : Nat} {L : List (Option Value)} {st : List Value} {i : Nat} {a : Int32} {L' : List (Option Value)} (dg : decode cc pc = .ok (.istore i, 2)) (hS : rv_st L i (.int a) L') (k : rv_V X h (pc + 2) L' st) : rv_V X h pc L (.int a :: st) := by
  obtain ⟨G, p, e, R, s, m, args, below, meth, c, Qw⟩ := X
  intro H ls locs hR hL hz
  exact lv_istore hX.1 hX.2.1 dg (rv_L_has hL) hS.2.1 rfl (fun ls2 h2 => k H ls2 locs hR (rv_L_st1 hL.1.2 hS h2) hz)
theorem rv_astore_n {X : rv_X} {y : MethodName} {cc : ByteArray} {d : Nat} (hX : rv_K X y cc d) {h : rv_H} {pc : Nat} {L : List (Option Value)} {st : List Value} {k0 : Fin 4} {a : Nat} {L' : List (Option Value)} (dg : decode cc pc = .ok (.astore_n k0, 1)) (hS : rv_st L (k0 : Nat) (.ref a) L') (k : rv_V X h (pc + 1) L' st) : rv_V X h pc L (.ref a :: st) := by
  obtain ⟨G, p, e, R, s, m, args, below, meth, c, Qw⟩ := X
  intro H ls locs hR hL hz
  exact lv_astore_n hX.1 hX.2.1 dg rfl (rv_L_has hL) hS.2.1 rfl (fun ls2 h2 => k H ls2 locs hR (rv_L_st1 hL.1.2 hS h2) hz)
theorem rv_astore {X : rv_X} {y : MethodName} {cc : ByteArray} {d : Nat} (hX : rv_K X y cc d) {h : rv_H} {pc : Nat} {L : List (Option Value)} {st : List Value} {i : Nat} {a : Nat} {L' : List (Option Value)} (dg : decode cc pc = .ok (.astore i, 2)) (hS : rv_st L i (.ref a) L') (k : rv_V X h (pc + 2) L' st) : rv_V X h pc L (.ref a :: st) := by
  obtain ⟨G, p, e, R, s, m, args, below, meth, c, Qw⟩ := X
  intro H ls locs hR hL hz
  exact lv_astore hX.1 hX.2.1 dg (rv_L_has hL) hS.2.1 rfl (fun ls2 h2 => k H ls2 locs hR (rv_L_st1 hL.1.2 hS h2) hz)
theorem rv_astore_nN {X : rv_X} {y : MethodName} {cc : ByteArray} {d : Nat} (hX : rv_K X y cc d) {h : rv_H} {pc : Nat} {L : List (Option Value)} {st : List Value} {k0 : Fin 4} {L' : List (Option Value)} (dg : decode cc pc = .ok (.astore_n k0, 1)) (hS : rv_st L (k0 : Nat) .null L') (k : rv_V X h (pc + 1) L' st) : rv_V X h pc L (.null :: st) := by
  obtain ⟨G, p, e, R, s, m, args, below, meth, c, Qw⟩ := X
  intro H ls locs hR hL hz
  exact lv_astore_nN hX.1 hX.2.1 dg rfl (rv_L_has hL) hS.2.1 rfl (fun ls2 h2 => k H ls2 locs hR (rv_L_st1 hL.1.2 hS h2) hz)
theorem rv_astoreN {X : rv_X} {y : MethodName} {cc : ByteArray} {d : Nat} (hX : rv_K X y cc d) {h : rv_H} {pc : Nat} {L : List (Option Value)} {st : List Value} {i : Nat} {L' : List (Option Value)} (dg : decode cc pc = .ok (.astore i, 2)) (hS : rv_st L i .null L') (k : rv_V X h (pc + 2) L' st) : rv_V X h pc L (.null :: st) := by
  obtain ⟨G, p, e, R, s, m, args, below, meth, c, Qw⟩ := X
  intro H ls locs hR hL hz
  exact lv_astoreN hX.1 hX.2.1 dg (rv_L_has hL) hS.2.1 rfl (fun ls2 h2 => k H ls2 locs hR (rv_L_st1 hL.1.2 hS h2) hz)
theorem rv_lstore_n {X : rv_X} {y : MethodName} {cc : ByteArray} {d : Nat} (hX : rv_K X y cc d) {h : rv_H} {pc : Nat} {L : List (Option Value)} {st : List Value} {k0 : Fin 4} {a : Int64} {L' : List (Option Value)} (dg : decode cc pc = .ok (.lstore_n k0, 1)) (hS : rv_st L (k0 : Nat) (.long a) L') (hn : L'[(k0 : Nat) + 1]? = some none) (k : rv_V X h (pc + 1) L' st) : rv_V X h pc L (.long a :: st) := by
  obtain ⟨G, p, e, R, s, m, args, below, meth, c, Qw⟩ := X
  intro H ls locs hR hL hz
  have hn2 : (k0 : Nat) + 1 < L.length := by rw [← hS.1]; exact (List.getElem?_eq_some_iff.mp hn).1
  exact lv_lstore_n hX.1 hX.2.1 dg rfl (rv_L_has hL) hn2 rfl (fun ls2 h2 => k H ls2 locs hR (rv_L_st2 hL.1.2 hS (fun w hw => by rw [hn] at hw; cases hw) h2) hz)
theorem rv_lstore {X : rv_X} {y : MethodName} {cc : ByteArray} {d : Nat} (hX : rv_K X y cc d) {h : rv_H} {pc : Nat} {L : List (Option Value)} {st : List Value} {i : Nat} {a : Int64} {L' : List (Option Value)} (dg : decode cc pc = .ok (.lstore i, 2)) (hS : rv_st L i (.long a) L') (hn : L'[i + 1]? = some none) (k : rv_V X h (pc + 2) L' st) : rv_V X h pc L (.long a :: st) := by
  obtain ⟨G, p, e, R, s, m, args, below, meth, c, Qw⟩ := X
  intro H ls locs hR hL hz
  have hn2 : i + 1 < L.length := by rw [← hS.1]; exact (List.getElem?_eq_some_iff.mp hn).1
  exact lv_lstore hX.1 hX.2.1 dg (rv_L_has hL) hn2 rfl (fun ls2 h2 => k H ls2 locs hR (rv_L_st2 hL.1.2 hS (fun w hw => by rw [hn] at hw; cases hw) h2) hz)
theorem rv_iinc {X : rv_X} {y : MethodName} {cc : ByteArray} {d : Nat} (hX : rv_K X y cc d) {h : rv_H} {pc : Nat} {L : List (Option Value)} {st : List Value} {i : Nat} {n : Int} {a v : Int32} {L' : List (Option Value)} (dg : decode cc pc = .ok (.iinc i n, 3)) (hl : L[i]? = some (some (.int a))) (hv : a + Int32.ofInt n = v) (hS : rv_st L i (.int v) L') (k : rv_V X h (pc + 3) L' st) : rv_V X h pc L st := by
  obtain ⟨G, p, e, R, s, m, args, below, meth, c, Qw⟩ := X
  intro H ls locs hR hL hz
  obtain ⟨k9, hk9⟩ := List.getElem?_of_mem (rv_al_mem.mpr hl)
  exact lv_iinc hX.1 hX.2.1 dg (rv_L_has hL) hk9 hv hS.2.1 rfl (fun ls2 h2 => k H ls2 locs hR (rv_L_st1 hL.1.2 hS h2) hz)
theorem rv_if_eq {X : rv_X} {y : MethodName} {cc : ByteArray} {d : Nat} (hX : rv_K X y cc d) {h : rv_H} {pc : Nat} {L : List (Option Value)} {st : List Value} {x : Int32} {off : Int} (tgt : Nat) (dg : decode cc pc = .ok (.ifCond .eq off, 3)) (ht : (pc : Int) + off = (tgt : Int)) (kt : x = 0 → rv_V X h tgt L st) (kf : ¬ x = 0 → rv_V X h (pc + 3) L st) : rv_V X h pc L (.int x :: st) := by
  obtain ⟨G, p, e, R, s, m, args, below, meth, c, Qw⟩ := X
  intro H ls locs hR hL hz
  exact lv_if_eq hX.1 hX.2.1 dg ht (fun q => kt q H ls locs hR hL hz) (fun q => kf q H ls locs hR hL hz)
theorem rv_icmp_eq {X : rv_X} {y : MethodName} {cc : ByteArray} {d : Nat} (hX : rv_K X y cc d) {h : rv_H} {pc : Nat} {L : List (Option Value)} {st : List Value} {x y9 : Int32} {off : Int} (tgt : Nat) (dg : decode cc pc = .ok (.if_icmp .eq off, 3)) (ht : (pc : Int) + off = (tgt : Int)) (kt : x = y9 → rv_V X h tgt L st) (kf : ¬ x = y9 → rv_V X h (pc + 3) L st) : rv_V X h pc L (.int y9 :: .int x :: st) := by
  obtain ⟨G, p, e, R, s, m, args, below, meth, c, Qw⟩ := X
  intro H ls locs hR hL hz
  exact lv_icmp_eq hX.1 hX.2.1 dg ht (fun q => kt q H ls locs hR hL hz) (fun q => kf q H ls locs hR hL hz)
theorem rv_if_ne {X : rv_X} {y : MethodName} {cc : ByteArray} {d : Nat} (hX : rv_K X y cc d) {h : rv_H} {pc : Nat} {L : List (Option Value)} {st : List Value} {x : Int32} {off : Int} (tgt : Nat) (dg : decode cc pc = .ok (.ifCond .ne off, 3)) (ht : (pc : Int) + off = (tgt : Int)) (kt : ¬ x = 0 → rv_V X h tgt L st) (kf : x = 0 → rv_V X h (pc + 3) L st) : rv_V X h pc L (.int x :: st) := by
  obtain ⟨G, p, e, R, s, m, args, below, meth, c, Qw⟩ := X
  intro H ls locs hR hL hz
  exact lv_if_ne hX.1 hX.2.1 dg ht (fun q => kt q H ls locs hR hL hz) (fun q => kf q H ls locs hR hL hz)
theorem rv_icmp_ne {X : rv_X} {y : MethodName} {cc : ByteArray} {d : Nat} (hX : rv_K X y cc d) {h : rv_H} {pc : Nat} {L : List (Option Value)} {st : List Value} {x y9 : Int32} {off : Int} (tgt : Nat) (dg : decode cc pc = .ok (.if_icmp .ne off, 3)) (ht : (pc : Int) + off = (tgt : Int)) (kt : ¬ x = y9 → rv_V X h tgt L st) (kf : x = y9 → rv_V X h (pc + 3) L st) : rv_V X h pc L (.int y9 :: .int x :: st) := by
  obtain ⟨G, p, e, R, s, m, args, below, meth, c, Qw⟩ := X
  intro H ls locs hR hL hz
  exact lv_icmp_ne hX.1 hX.2.1 dg ht (fun q => kt q H ls locs hR hL hz) (fun q => kf q H ls locs hR hL hz)
theorem rv_if_lt {X : rv_X} {y : MethodName} {cc : ByteArray} {d : Nat} (hX : rv_K X y cc d) {h : rv_H} {pc : Nat} {L : List (Option Value)} {st : List Value} {x : Int32} {off : Int} (tgt : Nat) (dg : decode cc pc = .ok (.ifCond .lt off, 3)) (ht : (pc : Int) + off = (tgt : Int)) (kt : x < 0 → rv_V X h tgt L st) (kf : ¬ x < 0 → rv_V X h (pc + 3) L st) : rv_V X h pc L (.int x :: st) := by
  obtain ⟨G, p, e, R, s, m, args, below, meth, c, Qw⟩ := X
  intro H ls locs hR hL hz
  exact lv_if_lt hX.1 hX.2.1 dg ht (fun q => kt q H ls locs hR hL hz) (fun q => kf q H ls locs hR hL hz)
theorem rv_icmp_lt {X : rv_X} {y : MethodName} {cc : ByteArray} {d : Nat} (hX : rv_K X y cc d) {h : rv_H} {pc : Nat} {L : List (Option Value)} {st : List Value} {x y9 : Int32} {off : Int} (tgt : Nat) (dg : decode cc pc = .ok (.if_icmp .lt off, 3)) (ht : (pc : Int) + off = (tgt : Int)) (kt : x < y9 → rv_V X h tgt L st) (kf : ¬ x < y9 → rv_V X h (pc + 3) L st) : rv_V X h pc L (.int y9 :: .int x :: st) := by
  obtain ⟨G, p, e, R, s, m, args, below, meth, c, Qw⟩ := X
  intro H ls locs hR hL hz
  exact lv_icmp_lt hX.1 hX.2.1 dg ht (fun q => kt q H ls locs hR hL hz) (fun q => kf q H ls locs hR hL hz)
theorem rv_if_ge {X : rv_X} {y : MethodName} {cc : ByteArray} {d : Nat} (hX : rv_K X y cc d) {h : rv_H} {pc : Nat} {L : List (Option Value)} {st : List Value} {x : Int32} {off : Int} (tgt : Nat) (dg : decode cc pc = .ok (.ifCond .ge off, 3)) (ht : (pc : Int) + off = (tgt : Int)) (kt : 0 ≤ x → rv_V X h tgt L st) (kf : ¬ 0 ≤ x → rv_V X h (pc + 3) L st) : rv_V X h pc L (.int x :: st) := by
  obtain ⟨G, p, e, R, s, m, args, below, meth, c, Qw⟩ := X
  intro H ls locs hR hL hz
  exact lv_if_ge hX.1 hX.2.1 dg ht (fun q => kt q H ls locs hR hL hz) (fun q => kf q H ls locs hR hL hz)
theorem rv_icmp_ge {X : rv_X} {y : MethodName} {cc : ByteArray} {d : Nat} (hX : rv_K X y cc d) {h : rv_H} {pc : Nat} {L : List (Option Value)} {st : List Value} {x y9 : Int32} {off : Int} (tgt : Nat) (dg : decode cc pc = .ok (.if_icmp .ge off, 3)) (ht : (pc : Int) + off = (tgt : Int)) (kt : y9 ≤ x → rv_V X h tgt L st) (kf : ¬ y9 ≤ x → rv_V X h (pc + 3) L st) : rv_V X h pc L (.int y9 :: .int x :: st) := by
  obtain ⟨G, p, e, R, s, m, args, below, meth, c, Qw⟩ := X
  intro H ls locs hR hL hz
  exact lv_icmp_ge hX.1 hX.2.1 dg ht (fun q => kt q H ls locs hR hL hz) (fun q => kf q H ls locs hR hL hz)
theorem rv_if_gt {X : rv_X} {y : MethodName} {cc : ByteArray} {d : Nat} (hX : rv_K X y cc d) {h : rv_H} {pc : Nat} {L : List (Option Value)} {st : List Value} {x : Int32} {off : Int} (tgt : Nat) (dg : decode cc pc = .ok (.ifCond .gt off, 3)) (ht : (pc : Int) + off = (tgt : Int)) (kt : 0 < x → rv_V X h tgt L st) (kf : ¬ 0 < x → rv_V X h (pc + 3) L st) : rv_V X h pc L (.int x :: st) := by
  obtain ⟨G, p, e, R, s, m, args, below, meth, c, Qw⟩ := X
  intro H ls locs hR hL hz
  exact lv_if_gt hX.1 hX.2.1 dg ht (fun q => kt q H ls locs hR hL hz) (fun q => kf q H ls locs hR hL hz)
theorem rv_icmp_gt {X : rv_X} {y : MethodName} {cc : ByteArray} {d : Nat} (hX : rv_K X y cc d) {h : rv_H} {pc : Nat} {L : List (Option Value)} {st : List Value} {x y9 : Int32} {off : Int} (tgt : Nat) (dg : decode cc pc = .ok (.if_icmp .gt off, 3)) (ht : (pc : Int) + off = (tgt : Int)) (kt : y9 < x → rv_V X h tgt L st) (kf : ¬ y9 < x → rv_V X h (pc + 3) L st) : rv_V X h pc L (.int y9 :: .int x :: st) := by
  obtain ⟨G, p, e, R, s, m, args, below, meth, c, Qw⟩ := X
  intro H ls locs hR hL hz
  exact lv_icmp_gt hX.1 hX.2.1 dg ht (fun q => kt q H ls locs hR hL hz) (fun q => kf q H ls locs hR hL hz)
theorem rv_if_le {X : rv_X} {y : MethodName} {cc : ByteArray} {d : Nat} (hX : rv_K X y cc d) {h : rv_H} {pc : Nat} {L : List (Option Value)} {st : List Value} {x : Int32} {off : Int} (tgt : Nat) (dg : decode cc pc = .ok (.ifCond .le off, 3)) (ht : (pc : Int) + off = (tgt : Int)) (kt : x ≤ 0 → rv_V X h tgt L st) (kf : ¬ x ≤ 0 → rv_V X h (pc + 3) L st) : rv_V X h pc L (.int x :: st) := by
  obtain ⟨G, p, e, R, s, m, args, below, meth, c, Qw⟩ := X
  intro H ls locs hR hL hz
  exact lv_if_le hX.1 hX.2.1 dg ht (fun q => kt q H ls locs hR hL hz) (fun q => kf q H ls locs hR hL hz)
theorem rv_icmp_le {X : rv_X} {y : MethodName} {cc : ByteArray} {d : Nat} (hX : rv_K X y cc d) {h : rv_H} {pc : Nat} {L : List (Option Value)} {st : List Value} {x y9 : Int32} {off : Int} (tgt : Nat) (dg : decode cc pc = .ok (.if_icmp .le off, 3)) (ht : (pc : Int) + off = (tgt : Int)) (kt : x ≤ y9 → rv_V X h tgt L st) (kf : ¬ x ≤ y9 → rv_V X h (pc + 3) L st) : rv_V X h pc L (.int y9 :: .int x :: st) := by
  obtain ⟨G, p, e, R, s, m, args, below, meth, c, Qw⟩ := X
  intro H ls locs hR hL hz
  exact lv_icmp_le hX.1 hX.2.1 dg ht (fun q => kt q H ls locs hR hL hz) (fun q => kf q H ls locs hR hL hz)
theorem rv_goto {X : rv_X} {y : MethodName} {cc : ByteArray} {d : Nat} (hX : rv_K X y cc d) {h : rv_H} {pc : Nat} {L : List (Option Value)} {st : List Value} {off : Int} (tgt : Nat) (dg : decode cc pc = .ok (.goto off, 3)) (ht : (pc : Int) + off = (tgt : Int)) (k : rv_V X h tgt L st) : rv_V X h pc L st := by
  obtain ⟨G, p, e, R, s, m, args, below, meth, c, Qw⟩ := X
  intro H ls locs hR hL hz
  exact lv_goto hX.1 hX.2.1 dg ht (k H ls locs hR hL hz)
theorem rv_ifnonnull {X : rv_X} {y : MethodName} {cc : ByteArray} {d : Nat} (hX : rv_K X y cc d) {h : rv_H} {pc : Nat} {L : List (Option Value)} {st : List Value} {x : Nat} {off : Int} (tgt : Nat) (dg : decode cc pc = .ok (.ifnonnull off, 3)) (ht : (pc : Int) + off = (tgt : Int)) (k : rv_V X h tgt L st) : rv_V X h pc L (.ref x :: st) := by
  obtain ⟨G, p, e, R, s, m, args, below, meth, c, Qw⟩ := X
  intro H ls locs hR hL hz
  exact lv_ifnonnull hX.1 hX.2.1 dg ht (k H ls locs hR hL hz)
theorem rv_ifnonnullN {X : rv_X} {y : MethodName} {cc : ByteArray} {d : Nat} (hX : rv_K X y cc d) {h : rv_H} {pc : Nat} {L : List (Option Value)} {st : List Value} {off : Int} (dg : decode cc pc = .ok (.ifnonnull off, 3)) (k : rv_V X h (pc + 3) L st) : rv_V X h pc L (.null :: st) := by
  obtain ⟨G, p, e, R, s, m, args, below, meth, c, Qw⟩ := X
  intro H ls locs hR hL hz
  exact lv_ifnonnullN hX.1 hX.2.1 dg (k H ls locs hR hL hz)
theorem rv_ifnullN {X : rv_X} {y : MethodName} {cc : ByteArray} {d : Nat} (hX : rv_K X y cc d) {h : rv_H} {pc : Nat} {L : List (Option Value)} {st : List Value} {off : Int} (tgt : Nat) (dg : decode cc pc = .ok (.ifnull off, 3)) (ht : (pc : Int) + off = (tgt : Int)) (k : rv_V X h tgt L st) : rv_V X h pc L (.null :: st) := by
  obtain ⟨G, p, e, R, s, m, args, below, meth, c, Qw⟩ := X
  intro H ls locs hR hL hz
  exact lv_ifnullN hX.1 hX.2.1 dg ht (k H ls locs hR hL hz)
theorem rv_ifnull {X : rv_X} {y : MethodName} {cc : ByteArray} {d : Nat} (hX : rv_K X y cc d) {h : rv_H} {pc : Nat} {L : List (Option Value)} {st : List Value} {x : Nat} {off : Int} (dg : decode cc pc = .ok (.ifnull off, 3)) (k : rv_V X h (pc + 3) L st) : rv_V X h pc L (.ref x :: st) := by
  obtain ⟨G, p, e, R, s, m, args, below, meth, c, Qw⟩ := X
  intro H ls locs hR hL hz
  exact lv_ifnull hX.1 hX.2.1 dg (k H ls locs hR hL hz)
theorem rv_acmp_eq {X : rv_X} {y : MethodName} {cc : ByteArray} {d : Nat} (hX : rv_K X y cc d) {h : rv_H} {pc : Nat} {L : List (Option Value)} {st : List Value} {rx ry : Option Nat} {off : Int} (tgt : Nat) (dg : decode cc pc = .ok (.if_acmp .eq off, 3)) (ht : (pc : Int) + off = (tgt : Int)) (kt : rx = ry → rv_V X h tgt L st) (kf : ¬ rx = ry → rv_V X h (pc + 3) L st) : rv_V X h pc L (va_rf ry :: va_rf rx :: st) := by
  obtain ⟨G, p, e, R, s, m, args, below, meth, c, Qw⟩ := X
  intro H ls locs hR hL hz
  exact lv_acmp_eq hX.1 hX.2.1 dg ht (fun q => kt q H ls locs hR hL hz) (fun q => kf q H ls locs hR hL hz)
theorem rv_acmp_ne {X : rv_X} {y : MethodName} {cc : ByteArray} {d : Nat} (hX : rv_K X y cc d) {h : rv_H} {pc : Nat} {L : List (Option Value)} {st : List Value} {rx ry : Option Nat} {off : Int} (tgt : Nat) (dg : decode cc pc = .ok (.if_acmp .ne off, 3)) (ht : (pc : Int) + off = (tgt : Int)) (kt : ¬ rx = ry → rv_V X h tgt L st) (kf : rx = ry → rv_V X h (pc + 3) L st) : rv_V X h pc L (va_rf ry :: va_rf rx :: st) := by
  obtain ⟨G, p, e, R, s, m, args, below, meth, c, Qw⟩ := X
  intro H ls locs hR hL hz
  exact lv_acmp_ne hX.1 hX.2.1 dg ht (fun q => kt q H ls locs hR hL hz) (fun q => kf q H ls locs hR hL hz)
theorem rv_ldc {X : rv_X} {y : MethodName} {cc : ByteArray} {d : Nat} (hX : rv_K X y cc d) {h : rv_H} {pc : Nat} {L : List (Option Value)} {st : List Value} {ix : Nat} {v : Int32} (hq : (Jvm.Cond.constant y.cls ix v) ∈ lw_all) (dg : decode cc pc = .ok (.ldc ix, 2)) (k : rv_V X h (pc + 2) L (.int v :: st)) : rv_V X h pc L st := by
  have hw := rv_words hX hq
  obtain ⟨G, p, e, R, s, m, args, below, meth, c, Qw⟩ := X
  intro H ls locs hR hL hz
  exact lv_ldc hX.1 hX.2.1 hX.2.2.1 hw dg (k H ls locs hR hL hz)
theorem rv_ldc2 {X : rv_X} {y : MethodName} {cc : ByteArray} {d : Nat} (hX : rv_K X y cc d) {h : rv_H} {pc : Nat} {L : List (Option Value)} {st : List Value} {ix : Nat} {v : Int64} (hq : (Jvm.Cond.constantLong y.cls ix v) ∈ lw_all) (dg : decode cc pc = .ok (.ldc2_w ix, 3)) (k : rv_V X h (pc + 3) L (.long v :: st)) : rv_V X h pc L st := by
  have hw := rv_words hX hq
  obtain ⟨G, p, e, R, s, m, args, below, meth, c, Qw⟩ := X
  intro H ls locs hR hL hz
  exact lv_ldc2 hX.1 hX.2.1 hX.2.2.1 hw dg (k H ls locs hR hL hz)
theorem rv_tableIn {X : rv_X} {y : MethodName} {cc : ByteArray} {d : Nat} (hX : rv_K X y cc d) {h : rv_H} {pc : Nat} {L : List (Option Value)} {st : List Value} {dflt lo hi : Int} {offs : Array Int} {len : Nat} {x : Int32} {off : Int} (tgt : Nat) (dg : decode cc pc = .ok (.tableswitch dflt lo hi offs, len)) (h1 : ¬ x.toInt < lo) (h2 : ¬ hi < x.toInt) (ho : offs[(x.toInt - lo).toNat]? = some off) (ht : (pc : Int) + off = (tgt : Int)) (k : rv_V X h tgt L st) : rv_V X h pc L (.int x :: st) := by
  obtain ⟨G, p, e, R, s, m, args, below, meth, c, Qw⟩ := X
  intro H ls locs hR hL hz
  exact lv_tableIn hX.1 hX.2.1 dg h1 h2 ho ht (k H ls locs hR hL hz)
theorem rv_tableOut {X : rv_X} {y : MethodName} {cc : ByteArray} {d : Nat} (hX : rv_K X y cc d) {h : rv_H} {pc : Nat} {L : List (Option Value)} {st : List Value} {dflt lo hi : Int} {offs : Array Int} {len : Nat} {x : Int32} (tgt : Nat) (dg : decode cc pc = .ok (.tableswitch dflt lo hi offs, len)) (h1 : x.toInt < lo ∨ hi < x.toInt) (ht : (pc : Int) + dflt = (tgt : Int)) (k : rv_V X h tgt L st) : rv_V X h pc L (.int x :: st) := by
  obtain ⟨G, p, e, R, s, m, args, below, meth, c, Qw⟩ := X
  intro H ls locs hR hL hz
  exact lv_tableOut hX.1 hX.2.1 dg h1 ht (k H ls locs hR hL hz)
