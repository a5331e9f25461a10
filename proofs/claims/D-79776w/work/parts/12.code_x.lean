/-! CODES AND DECODE ROWS (printed by tools/gen_links.py) -/
set_option maxRecDepth 100000
abbrev cX0_relation : ByteArray := method_3_code
def yX0_relation : MethodName := ⟨RX0, "relation", "(LRulehearth;I[J)I"⟩
def dkwX0_relation_0 : List UInt8 := [44, 3, 42, 27, 182, 0, 7, 133, 80, 167, 0, 9, 78, 4, 172, 78, 5, 172, 3, 172]
abbrev dktX0_relation_0 : List UInt8 := dkwX0_relation_0 ++ []
theorem dksX0_relation_0 : cX0_relation.data.toList.drop 0 = dktX0_relation_0 := by decide +kernel
theorem dX0_relation_0 : decode cX0_relation 0 = .ok (.aload_n 2, 1) := dk_44 (dk_at dksX0_relation_0 0 rfl rfl)
theorem dX0_relation_1 : decode cX0_relation 1 = .ok (.iconst 0, 1) := dk_3 (dk_at dksX0_relation_0 1 rfl rfl)
theorem dX0_relation_2 : decode cX0_relation 2 = .ok (.aload_n 0, 1) := dk_42 (dk_at dksX0_relation_0 2 rfl rfl)
theorem dX0_relation_3 : decode cX0_relation 3 = .ok (.iload_n 1, 1) := dk_27 (dk_at dksX0_relation_0 3 rfl rfl)
theorem dX0_relation_4 : decode cX0_relation 4 = .ok (.invokevirtual 7, 3) := dk_182 0 7 (dk_at dksX0_relation_0 4 rfl rfl)
theorem dX0_relation_7 : decode cX0_relation 7 = .ok (.i2l, 1) := dk_133 (dk_at dksX0_relation_0 7 rfl rfl)
theorem dX0_relation_8 : decode cX0_relation 8 = .ok (.lastore, 1) := dk_80 (dk_at dksX0_relation_0 8 rfl rfl)
theorem dX0_relation_9 : decode cX0_relation 9 = .ok (.goto 9, 3) := dk_167 0 9 (dk_at dksX0_relation_0 9 rfl rfl)
theorem dX0_relation_12 : decode cX0_relation 12 = .ok (.astore_n 3, 1) := dk_78 (dk_at dksX0_relation_0 12 rfl rfl)
theorem dX0_relation_13 : decode cX0_relation 13 = .ok (.iconst 1, 1) := dk_4 (dk_at dksX0_relation_0 13 rfl rfl)
theorem dX0_relation_14 : decode cX0_relation 14 = .ok (.ireturn, 1) := dk_172 (dk_at dksX0_relation_0 14 rfl rfl)
theorem dX0_relation_15 : decode cX0_relation 15 = .ok (.astore_n 3, 1) := dk_78 (dk_at dksX0_relation_0 15 rfl rfl)
theorem dX0_relation_16 : decode cX0_relation 16 = .ok (.iconst 2, 1) := dk_5 (dk_at dksX0_relation_0 16 rfl rfl)
theorem dX0_relation_17 : decode cX0_relation 17 = .ok (.ireturn, 1) := dk_172 (dk_at dksX0_relation_0 17 rfl rfl)
theorem dX0_relation_18 : decode cX0_relation 18 = .ok (.iconst 0, 1) := dk_3 (dk_at dksX0_relation_0 18 rfl rfl)
theorem dX0_relation_19 : decode cX0_relation 19 = .ok (.ireturn, 1) := dk_172 (dk_at dksX0_relation_0 19 rfl rfl)
abbrev cX0_tell : ByteArray := method_4_code
def yX0_tell : MethodName := ⟨RX0, "tell", "(LRulehearth;II[J)I"⟩
def dkwX0_tell_1 : List UInt8 := [172, 3, 172]
abbrev dktX0_tell_1 : List UInt8 := dkwX0_tell_1 ++ []
def dkwX0_tell_0 : List UInt8 := [45, 3, 42, 27, 28, 182, 0, 17, 133, 80, 167, 0, 15, 58, 4, 4, 172, 58, 4, 5, 172, 58, 4, 6]
abbrev dktX0_tell_0 : List UInt8 := dkwX0_tell_0 ++ dktX0_tell_1
theorem dksX0_tell_0 : cX0_tell.data.toList.drop 0 = dktX0_tell_0 := by decide +kernel
theorem dksX0_tell_1 : cX0_tell.data.toList.drop 24 = dktX0_tell_1 := dk_seg dksX0_tell_0 24 rfl rfl
theorem dX0_tell_0 : decode cX0_tell 0 = .ok (.aload_n 3, 1) := dk_45 (dk_at dksX0_tell_0 0 rfl rfl)
theorem dX0_tell_1 : decode cX0_tell 1 = .ok (.iconst 0, 1) := dk_3 (dk_at dksX0_tell_0 1 rfl rfl)
theorem dX0_tell_2 : decode cX0_tell 2 = .ok (.aload_n 0, 1) := dk_42 (dk_at dksX0_tell_0 2 rfl rfl)
theorem dX0_tell_3 : decode cX0_tell 3 = .ok (.iload_n 1, 1) := dk_27 (dk_at dksX0_tell_0 3 rfl rfl)
theorem dX0_tell_4 : decode cX0_tell 4 = .ok (.iload_n 2, 1) := dk_28 (dk_at dksX0_tell_0 4 rfl rfl)
theorem dX0_tell_5 : decode cX0_tell 5 = .ok (.invokevirtual 17, 3) := dk_182 0 17 (dk_at dksX0_tell_0 5 rfl rfl)
theorem dX0_tell_8 : decode cX0_tell 8 = .ok (.i2l, 1) := dk_133 (dk_at dksX0_tell_0 8 rfl rfl)
theorem dX0_tell_9 : decode cX0_tell 9 = .ok (.lastore, 1) := dk_80 (dk_at dksX0_tell_0 9 rfl rfl)
theorem dX0_tell_10 : decode cX0_tell 10 = .ok (.goto 15, 3) := dk_167 0 15 (dk_at dksX0_tell_0 10 rfl rfl)
theorem dX0_tell_13 : decode cX0_tell 13 = .ok (.astore 4, 2) := dk_58 4 (dk_at dksX0_tell_0 13 rfl rfl)
theorem dX0_tell_15 : decode cX0_tell 15 = .ok (.iconst 1, 1) := dk_4 (dk_at dksX0_tell_0 15 rfl rfl)
theorem dX0_tell_16 : decode cX0_tell 16 = .ok (.ireturn, 1) := dk_172 (dk_at dksX0_tell_0 16 rfl rfl)
theorem dX0_tell_17 : decode cX0_tell 17 = .ok (.astore 4, 2) := dk_58 4 (dk_at dksX0_tell_0 17 rfl rfl)
theorem dX0_tell_19 : decode cX0_tell 19 = .ok (.iconst 2, 1) := dk_5 (dk_at dksX0_tell_0 19 rfl rfl)
theorem dX0_tell_20 : decode cX0_tell 20 = .ok (.ireturn, 1) := dk_172 (dk_at dksX0_tell_0 20 rfl rfl)
theorem dX0_tell_21 : decode cX0_tell 21 = .ok (.astore 4, 2) := dk_58 4 (dk_at dksX0_tell_0 21 rfl rfl)
theorem dX0_tell_23 : decode cX0_tell 23 = .ok (.iconst 3, 1) := dk_6 (dk_at dksX0_tell_0 23 rfl rfl)
theorem dX0_tell_24 : decode cX0_tell 24 = .ok (.ireturn, 1) := dk_172 (dk_at dksX0_tell_1 0 rfl rfl)
theorem dX0_tell_25 : decode cX0_tell 25 = .ok (.iconst 0, 1) := dk_3 (dk_at dksX0_tell_1 1 rfl rfl)
theorem dX0_tell_26 : decode cX0_tell 26 = .ok (.ireturn, 1) := dk_172 (dk_at dksX0_tell_1 2 rfl rfl)
abbrev cX0_take : ByteArray := method_5_code
def yX0_take : MethodName := ⟨RX0, "take", "(LRulehearth;I[J)I"⟩
def dkwX0_take_0 : List UInt8 := [44, 3, 42, 27, 182, 0, 23, 133, 80, 167, 0, 12, 78, 4, 172, 78, 5, 172, 78, 6, 172, 3, 172]
abbrev dktX0_take_0 : List UInt8 := dkwX0_take_0 ++ []
theorem dksX0_take_0 : cX0_take.data.toList.drop 0 = dktX0_take_0 := by decide +kernel
theorem dX0_take_0 : decode cX0_take 0 = .ok (.aload_n 2, 1) := dk_44 (dk_at dksX0_take_0 0 rfl rfl)
theorem dX0_take_1 : decode cX0_take 1 = .ok (.iconst 0, 1) := dk_3 (dk_at dksX0_take_0 1 rfl rfl)
theorem dX0_take_2 : decode cX0_take 2 = .ok (.aload_n 0, 1) := dk_42 (dk_at dksX0_take_0 2 rfl rfl)
theorem dX0_take_3 : decode cX0_take 3 = .ok (.iload_n 1, 1) := dk_27 (dk_at dksX0_take_0 3 rfl rfl)
theorem dX0_take_4 : decode cX0_take 4 = .ok (.invokevirtual 23, 3) := dk_182 0 23 (dk_at dksX0_take_0 4 rfl rfl)
theorem dX0_take_7 : decode cX0_take 7 = .ok (.i2l, 1) := dk_133 (dk_at dksX0_take_0 7 rfl rfl)
theorem dX0_take_8 : decode cX0_take 8 = .ok (.lastore, 1) := dk_80 (dk_at dksX0_take_0 8 rfl rfl)
theorem dX0_take_9 : decode cX0_take 9 = .ok (.goto 12, 3) := dk_167 0 12 (dk_at dksX0_take_0 9 rfl rfl)
theorem dX0_take_12 : decode cX0_take 12 = .ok (.astore_n 3, 1) := dk_78 (dk_at dksX0_take_0 12 rfl rfl)
theorem dX0_take_13 : decode cX0_take 13 = .ok (.iconst 1, 1) := dk_4 (dk_at dksX0_take_0 13 rfl rfl)
theorem dX0_take_14 : decode cX0_take 14 = .ok (.ireturn, 1) := dk_172 (dk_at dksX0_take_0 14 rfl rfl)
theorem dX0_take_15 : decode cX0_take 15 = .ok (.astore_n 3, 1) := dk_78 (dk_at dksX0_take_0 15 rfl rfl)
theorem dX0_take_16 : decode cX0_take 16 = .ok (.iconst 2, 1) := dk_5 (dk_at dksX0_take_0 16 rfl rfl)
theorem dX0_take_17 : decode cX0_take 17 = .ok (.ireturn, 1) := dk_172 (dk_at dksX0_take_0 17 rfl rfl)
theorem dX0_take_18 : decode cX0_take 18 = .ok (.astore_n 3, 1) := dk_78 (dk_at dksX0_take_0 18 rfl rfl)
theorem dX0_take_19 : decode cX0_take 19 = .ok (.iconst 3, 1) := dk_6 (dk_at dksX0_take_0 19 rfl rfl)
theorem dX0_take_20 : decode cX0_take 20 = .ok (.ireturn, 1) := dk_172 (dk_at dksX0_take_0 20 rfl rfl)
theorem dX0_take_21 : decode cX0_take 21 = .ok (.iconst 0, 1) := dk_3 (dk_at dksX0_take_0 21 rfl rfl)
theorem dX0_take_22 : decode cX0_take 22 = .ok (.ireturn, 1) := dk_172 (dk_at dksX0_take_0 22 rfl rfl)
abbrev cX0_stands : ByteArray := method_6_code
def yX0_stands : MethodName := ⟨RX0, "stands", "(LRulehearth;I[J)I"⟩
def dkwX0_stands_1 : List UInt8 := [172, 3, 172]
abbrev dktX0_stands_1 : List UInt8 := dkwX0_stands_1 ++ []
def dkwX0_stands_0 : List UInt8 := [44, 3, 42, 27, 182, 0, 26, 153, 0, 7, 10, 167, 0, 4, 9, 80, 167, 0, 9, 78, 4, 172, 78, 5]
abbrev dktX0_stands_0 : List UInt8 := dkwX0_stands_0 ++ dktX0_stands_1
theorem dksX0_stands_0 : cX0_stands.data.toList.drop 0 = dktX0_stands_0 := by decide +kernel
theorem dksX0_stands_1 : cX0_stands.data.toList.drop 24 = dktX0_stands_1 := dk_seg dksX0_stands_0 24 rfl rfl
theorem dX0_stands_0 : decode cX0_stands 0 = .ok (.aload_n 2, 1) := dk_44 (dk_at dksX0_stands_0 0 rfl rfl)
theorem dX0_stands_1 : decode cX0_stands 1 = .ok (.iconst 0, 1) := dk_3 (dk_at dksX0_stands_0 1 rfl rfl)
theorem dX0_stands_2 : decode cX0_stands 2 = .ok (.aload_n 0, 1) := dk_42 (dk_at dksX0_stands_0 2 rfl rfl)
theorem dX0_stands_3 : decode cX0_stands 3 = .ok (.iload_n 1, 1) := dk_27 (dk_at dksX0_stands_0 3 rfl rfl)
theorem dX0_stands_4 : decode cX0_stands 4 = .ok (.invokevirtual 26, 3) := dk_182 0 26 (dk_at dksX0_stands_0 4 rfl rfl)
theorem dX0_stands_7 : decode cX0_stands 7 = .ok (.ifCond .eq 7, 3) := dk_153 0 7 (dk_at dksX0_stands_0 7 rfl rfl)
theorem dX0_stands_10 : decode cX0_stands 10 = .ok (.lconst 1, 1) := dk_10 (dk_at dksX0_stands_0 10 rfl rfl)
theorem dX0_stands_11 : decode cX0_stands 11 = .ok (.goto 4, 3) := dk_167 0 4 (dk_at dksX0_stands_0 11 rfl rfl)
theorem dX0_stands_14 : decode cX0_stands 14 = .ok (.lconst 0, 1) := dk_9 (dk_at dksX0_stands_0 14 rfl rfl)
theorem dX0_stands_15 : decode cX0_stands 15 = .ok (.lastore, 1) := dk_80 (dk_at dksX0_stands_0 15 rfl rfl)
theorem dX0_stands_16 : decode cX0_stands 16 = .ok (.goto 9, 3) := dk_167 0 9 (dk_at dksX0_stands_0 16 rfl rfl)
theorem dX0_stands_19 : decode cX0_stands 19 = .ok (.astore_n 3, 1) := dk_78 (dk_at dksX0_stands_0 19 rfl rfl)
theorem dX0_stands_20 : decode cX0_stands 20 = .ok (.iconst 1, 1) := dk_4 (dk_at dksX0_stands_0 20 rfl rfl)
theorem dX0_stands_21 : decode cX0_stands 21 = .ok (.ireturn, 1) := dk_172 (dk_at dksX0_stands_0 21 rfl rfl)
theorem dX0_stands_22 : decode cX0_stands 22 = .ok (.astore_n 3, 1) := dk_78 (dk_at dksX0_stands_0 22 rfl rfl)
theorem dX0_stands_23 : decode cX0_stands 23 = .ok (.iconst 2, 1) := dk_5 (dk_at dksX0_stands_0 23 rfl rfl)
theorem dX0_stands_24 : decode cX0_stands 24 = .ok (.ireturn, 1) := dk_172 (dk_at dksX0_stands_1 0 rfl rfl)
theorem dX0_stands_25 : decode cX0_stands 25 = .ok (.iconst 0, 1) := dk_3 (dk_at dksX0_stands_1 1 rfl rfl)
theorem dX0_stands_26 : decode cX0_stands 26 = .ok (.ireturn, 1) := dk_172 (dk_at dksX0_stands_1 2 rfl rfl)
abbrev cX0_standsByRounds : ByteArray := method_7_code
def yX0_standsByRounds : MethodName := ⟨RX0, "standsByRounds", "(LRulehearth;I[J)I"⟩
def dkwX0_standsByRounds_1 : List UInt8 := [172, 3, 172]
abbrev dktX0_standsByRounds_1 : List UInt8 := dkwX0_standsByRounds_1 ++ []
def dkwX0_standsByRounds_0 : List UInt8 := [44, 3, 42, 27, 182, 0, 30, 153, 0, 7, 10, 167, 0, 4, 9, 80, 167, 0, 9, 78, 4, 172, 78, 5]
abbrev dktX0_standsByRounds_0 : List UInt8 := dkwX0_standsByRounds_0 ++ dktX0_standsByRounds_1
theorem dksX0_standsByRounds_0 : cX0_standsByRounds.data.toList.drop 0 = dktX0_standsByRounds_0 := by decide +kernel
theorem dksX0_standsByRounds_1 : cX0_standsByRounds.data.toList.drop 24 = dktX0_standsByRounds_1 := dk_seg dksX0_standsByRounds_0 24 rfl rfl
theorem dX0_standsByRounds_0 : decode cX0_standsByRounds 0 = .ok (.aload_n 2, 1) := dk_44 (dk_at dksX0_standsByRounds_0 0 rfl rfl)
theorem dX0_standsByRounds_1 : decode cX0_standsByRounds 1 = .ok (.iconst 0, 1) := dk_3 (dk_at dksX0_standsByRounds_0 1 rfl rfl)
theorem dX0_standsByRounds_2 : decode cX0_standsByRounds 2 = .ok (.aload_n 0, 1) := dk_42 (dk_at dksX0_standsByRounds_0 2 rfl rfl)
theorem dX0_standsByRounds_3 : decode cX0_standsByRounds 3 = .ok (.iload_n 1, 1) := dk_27 (dk_at dksX0_standsByRounds_0 3 rfl rfl)
theorem dX0_standsByRounds_4 : decode cX0_standsByRounds 4 = .ok (.invokevirtual 30, 3) := dk_182 0 30 (dk_at dksX0_standsByRounds_0 4 rfl rfl)
theorem dX0_standsByRounds_7 : decode cX0_standsByRounds 7 = .ok (.ifCond .eq 7, 3) := dk_153 0 7 (dk_at dksX0_standsByRounds_0 7 rfl rfl)
theorem dX0_standsByRounds_10 : decode cX0_standsByRounds 10 = .ok (.lconst 1, 1) := dk_10 (dk_at dksX0_standsByRounds_0 10 rfl rfl)
theorem dX0_standsByRounds_11 : decode cX0_standsByRounds 11 = .ok (.goto 4, 3) := dk_167 0 4 (dk_at dksX0_standsByRounds_0 11 rfl rfl)
theorem dX0_standsByRounds_14 : decode cX0_standsByRounds 14 = .ok (.lconst 0, 1) := dk_9 (dk_at dksX0_standsByRounds_0 14 rfl rfl)
theorem dX0_standsByRounds_15 : decode cX0_standsByRounds 15 = .ok (.lastore, 1) := dk_80 (dk_at dksX0_standsByRounds_0 15 rfl rfl)
theorem dX0_standsByRounds_16 : decode cX0_standsByRounds 16 = .ok (.goto 9, 3) := dk_167 0 9 (dk_at dksX0_standsByRounds_0 16 rfl rfl)
theorem dX0_standsByRounds_19 : decode cX0_standsByRounds 19 = .ok (.astore_n 3, 1) := dk_78 (dk_at dksX0_standsByRounds_0 19 rfl rfl)
theorem dX0_standsByRounds_20 : decode cX0_standsByRounds 20 = .ok (.iconst 1, 1) := dk_4 (dk_at dksX0_standsByRounds_0 20 rfl rfl)
theorem dX0_standsByRounds_21 : decode cX0_standsByRounds 21 = .ok (.ireturn, 1) := dk_172 (dk_at dksX0_standsByRounds_0 21 rfl rfl)
theorem dX0_standsByRounds_22 : decode cX0_standsByRounds 22 = .ok (.astore_n 3, 1) := dk_78 (dk_at dksX0_standsByRounds_0 22 rfl rfl)
theorem dX0_standsByRounds_23 : decode cX0_standsByRounds 23 = .ok (.iconst 2, 1) := dk_5 (dk_at dksX0_standsByRounds_0 23 rfl rfl)
theorem dX0_standsByRounds_24 : decode cX0_standsByRounds 24 = .ok (.ireturn, 1) := dk_172 (dk_at dksX0_standsByRounds_1 0 rfl rfl)
theorem dX0_standsByRounds_25 : decode cX0_standsByRounds 25 = .ok (.iconst 0, 1) := dk_3 (dk_at dksX0_standsByRounds_1 1 rfl rfl)
theorem dX0_standsByRounds_26 : decode cX0_standsByRounds 26 = .ok (.ireturn, 1) := dk_172 (dk_at dksX0_standsByRounds_1 2 rfl rfl)
abbrev cX0_endOf : ByteArray := method_8_code
def yX0_endOf : MethodName := ⟨RX0, "endOf", "(LRulehearth;I[J)I"⟩
def dkwX0_endOf_0 : List UInt8 := [44, 3, 42, 27, 182, 0, 33, 133, 80, 167, 0, 9, 78, 4, 172, 78, 5, 172, 3, 172]
abbrev dktX0_endOf_0 : List UInt8 := dkwX0_endOf_0 ++ []
theorem dksX0_endOf_0 : cX0_endOf.data.toList.drop 0 = dktX0_endOf_0 := by decide +kernel
theorem dX0_endOf_0 : decode cX0_endOf 0 = .ok (.aload_n 2, 1) := dk_44 (dk_at dksX0_endOf_0 0 rfl rfl)
theorem dX0_endOf_1 : decode cX0_endOf 1 = .ok (.iconst 0, 1) := dk_3 (dk_at dksX0_endOf_0 1 rfl rfl)
theorem dX0_endOf_2 : decode cX0_endOf 2 = .ok (.aload_n 0, 1) := dk_42 (dk_at dksX0_endOf_0 2 rfl rfl)
theorem dX0_endOf_3 : decode cX0_endOf 3 = .ok (.iload_n 1, 1) := dk_27 (dk_at dksX0_endOf_0 3 rfl rfl)
theorem dX0_endOf_4 : decode cX0_endOf 4 = .ok (.invokevirtual 33, 3) := dk_182 0 33 (dk_at dksX0_endOf_0 4 rfl rfl)
theorem dX0_endOf_7 : decode cX0_endOf 7 = .ok (.i2l, 1) := dk_133 (dk_at dksX0_endOf_0 7 rfl rfl)
theorem dX0_endOf_8 : decode cX0_endOf 8 = .ok (.lastore, 1) := dk_80 (dk_at dksX0_endOf_0 8 rfl rfl)
theorem dX0_endOf_9 : decode cX0_endOf 9 = .ok (.goto 9, 3) := dk_167 0 9 (dk_at dksX0_endOf_0 9 rfl rfl)
theorem dX0_endOf_12 : decode cX0_endOf 12 = .ok (.astore_n 3, 1) := dk_78 (dk_at dksX0_endOf_0 12 rfl rfl)
theorem dX0_endOf_13 : decode cX0_endOf 13 = .ok (.iconst 1, 1) := dk_4 (dk_at dksX0_endOf_0 13 rfl rfl)
theorem dX0_endOf_14 : decode cX0_endOf 14 = .ok (.ireturn, 1) := dk_172 (dk_at dksX0_endOf_0 14 rfl rfl)
theorem dX0_endOf_15 : decode cX0_endOf 15 = .ok (.astore_n 3, 1) := dk_78 (dk_at dksX0_endOf_0 15 rfl rfl)
theorem dX0_endOf_16 : decode cX0_endOf 16 = .ok (.iconst 2, 1) := dk_5 (dk_at dksX0_endOf_0 16 rfl rfl)
theorem dX0_endOf_17 : decode cX0_endOf 17 = .ok (.ireturn, 1) := dk_172 (dk_at dksX0_endOf_0 17 rfl rfl)
theorem dX0_endOf_18 : decode cX0_endOf 18 = .ok (.iconst 0, 1) := dk_3 (dk_at dksX0_endOf_0 18 rfl rfl)
theorem dX0_endOf_19 : decode cX0_endOf 19 = .ok (.ireturn, 1) := dk_172 (dk_at dksX0_endOf_0 19 rfl rfl)
abbrev cX0_tag : ByteArray := method_9_code
def yX0_tag : MethodName := ⟨RX0, "tag", "(LRulehearth;I[J)I"⟩
def dkwX0_tag_0 : List UInt8 := [44, 3, 42, 27, 182, 0, 36, 133, 80, 167, 0, 9, 78, 4, 172, 78, 5, 172, 3, 172]
abbrev dktX0_tag_0 : List UInt8 := dkwX0_tag_0 ++ []
theorem dksX0_tag_0 : cX0_tag.data.toList.drop 0 = dktX0_tag_0 := by decide +kernel
theorem dX0_tag_0 : decode cX0_tag 0 = .ok (.aload_n 2, 1) := dk_44 (dk_at dksX0_tag_0 0 rfl rfl)
theorem dX0_tag_1 : decode cX0_tag 1 = .ok (.iconst 0, 1) := dk_3 (dk_at dksX0_tag_0 1 rfl rfl)
theorem dX0_tag_2 : decode cX0_tag 2 = .ok (.aload_n 0, 1) := dk_42 (dk_at dksX0_tag_0 2 rfl rfl)
theorem dX0_tag_3 : decode cX0_tag 3 = .ok (.iload_n 1, 1) := dk_27 (dk_at dksX0_tag_0 3 rfl rfl)
theorem dX0_tag_4 : decode cX0_tag 4 = .ok (.invokevirtual 36, 3) := dk_182 0 36 (dk_at dksX0_tag_0 4 rfl rfl)
theorem dX0_tag_7 : decode cX0_tag 7 = .ok (.i2l, 1) := dk_133 (dk_at dksX0_tag_0 7 rfl rfl)
theorem dX0_tag_8 : decode cX0_tag 8 = .ok (.lastore, 1) := dk_80 (dk_at dksX0_tag_0 8 rfl rfl)
theorem dX0_tag_9 : decode cX0_tag 9 = .ok (.goto 9, 3) := dk_167 0 9 (dk_at dksX0_tag_0 9 rfl rfl)
theorem dX0_tag_12 : decode cX0_tag 12 = .ok (.astore_n 3, 1) := dk_78 (dk_at dksX0_tag_0 12 rfl rfl)
theorem dX0_tag_13 : decode cX0_tag 13 = .ok (.iconst 1, 1) := dk_4 (dk_at dksX0_tag_0 13 rfl rfl)
theorem dX0_tag_14 : decode cX0_tag 14 = .ok (.ireturn, 1) := dk_172 (dk_at dksX0_tag_0 14 rfl rfl)
theorem dX0_tag_15 : decode cX0_tag 15 = .ok (.astore_n 3, 1) := dk_78 (dk_at dksX0_tag_0 15 rfl rfl)
theorem dX0_tag_16 : decode cX0_tag 16 = .ok (.iconst 2, 1) := dk_5 (dk_at dksX0_tag_0 16 rfl rfl)
theorem dX0_tag_17 : decode cX0_tag 17 = .ok (.ireturn, 1) := dk_172 (dk_at dksX0_tag_0 17 rfl rfl)
theorem dX0_tag_18 : decode cX0_tag 18 = .ok (.iconst 0, 1) := dk_3 (dk_at dksX0_tag_0 18 rfl rfl)
theorem dX0_tag_19 : decode cX0_tag 19 = .ok (.ireturn, 1) := dk_172 (dk_at dksX0_tag_0 19 rfl rfl)
abbrev cX0_standingAt : ByteArray := method_10_code
def yX0_standingAt : MethodName := ⟨RX0, "standingAt", "(LRulehearth;I[J)I"⟩
def dkwX0_standingAt_0 : List UInt8 := [44, 3, 42, 27, 182, 0, 39, 133, 80, 167, 0, 6, 78, 4, 172, 3, 172]
abbrev dktX0_standingAt_0 : List UInt8 := dkwX0_standingAt_0 ++ []
theorem dksX0_standingAt_0 : cX0_standingAt.data.toList.drop 0 = dktX0_standingAt_0 := by decide +kernel
theorem dX0_standingAt_0 : decode cX0_standingAt 0 = .ok (.aload_n 2, 1) := dk_44 (dk_at dksX0_standingAt_0 0 rfl rfl)
theorem dX0_standingAt_1 : decode cX0_standingAt 1 = .ok (.iconst 0, 1) := dk_3 (dk_at dksX0_standingAt_0 1 rfl rfl)
theorem dX0_standingAt_2 : decode cX0_standingAt 2 = .ok (.aload_n 0, 1) := dk_42 (dk_at dksX0_standingAt_0 2 rfl rfl)
theorem dX0_standingAt_3 : decode cX0_standingAt 3 = .ok (.iload_n 1, 1) := dk_27 (dk_at dksX0_standingAt_0 3 rfl rfl)
theorem dX0_standingAt_4 : decode cX0_standingAt 4 = .ok (.invokevirtual 39, 3) := dk_182 0 39 (dk_at dksX0_standingAt_0 4 rfl rfl)
theorem dX0_standingAt_7 : decode cX0_standingAt 7 = .ok (.i2l, 1) := dk_133 (dk_at dksX0_standingAt_0 7 rfl rfl)
theorem dX0_standingAt_8 : decode cX0_standingAt 8 = .ok (.lastore, 1) := dk_80 (dk_at dksX0_standingAt_0 8 rfl rfl)
theorem dX0_standingAt_9 : decode cX0_standingAt 9 = .ok (.goto 6, 3) := dk_167 0 6 (dk_at dksX0_standingAt_0 9 rfl rfl)
theorem dX0_standingAt_12 : decode cX0_standingAt 12 = .ok (.astore_n 3, 1) := dk_78 (dk_at dksX0_standingAt_0 12 rfl rfl)
theorem dX0_standingAt_13 : decode cX0_standingAt 13 = .ok (.iconst 1, 1) := dk_4 (dk_at dksX0_standingAt_0 13 rfl rfl)
theorem dX0_standingAt_14 : decode cX0_standingAt 14 = .ok (.ireturn, 1) := dk_172 (dk_at dksX0_standingAt_0 14 rfl rfl)
theorem dX0_standingAt_15 : decode cX0_standingAt 15 = .ok (.iconst 0, 1) := dk_3 (dk_at dksX0_standingAt_0 15 rfl rfl)
theorem dX0_standingAt_16 : decode cX0_standingAt 16 = .ok (.ireturn, 1) := dk_172 (dk_at dksX0_standingAt_0 16 rfl rfl)
abbrev cX0_rule : ByteArray := method_11_code
def yX0_rule : MethodName := ⟨RX0, "rule", "(LRulehearth;I)I"⟩
def dkwX0_rule_0 : List UInt8 := [42, 27, 182, 0, 42, 167, 0, 9, 77, 4, 172, 77, 5, 172, 3, 172]
abbrev dktX0_rule_0 : List UInt8 := dkwX0_rule_0 ++ []
theorem dksX0_rule_0 : cX0_rule.data.toList.drop 0 = dktX0_rule_0 := by decide +kernel
theorem dX0_rule_0 : decode cX0_rule 0 = .ok (.aload_n 0, 1) := dk_42 (dk_at dksX0_rule_0 0 rfl rfl)
theorem dX0_rule_1 : decode cX0_rule 1 = .ok (.iload_n 1, 1) := dk_27 (dk_at dksX0_rule_0 1 rfl rfl)
theorem dX0_rule_2 : decode cX0_rule 2 = .ok (.invokevirtual 42, 3) := dk_182 0 42 (dk_at dksX0_rule_0 2 rfl rfl)
theorem dX0_rule_5 : decode cX0_rule 5 = .ok (.goto 9, 3) := dk_167 0 9 (dk_at dksX0_rule_0 5 rfl rfl)
theorem dX0_rule_8 : decode cX0_rule 8 = .ok (.astore_n 2, 1) := dk_77 (dk_at dksX0_rule_0 8 rfl rfl)
theorem dX0_rule_9 : decode cX0_rule 9 = .ok (.iconst 1, 1) := dk_4 (dk_at dksX0_rule_0 9 rfl rfl)
theorem dX0_rule_10 : decode cX0_rule 10 = .ok (.ireturn, 1) := dk_172 (dk_at dksX0_rule_0 10 rfl rfl)
theorem dX0_rule_11 : decode cX0_rule 11 = .ok (.astore_n 2, 1) := dk_77 (dk_at dksX0_rule_0 11 rfl rfl)
theorem dX0_rule_12 : decode cX0_rule 12 = .ok (.iconst 2, 1) := dk_5 (dk_at dksX0_rule_0 12 rfl rfl)
theorem dX0_rule_13 : decode cX0_rule 13 = .ok (.ireturn, 1) := dk_172 (dk_at dksX0_rule_0 13 rfl rfl)
theorem dX0_rule_14 : decode cX0_rule 14 = .ok (.iconst 0, 1) := dk_3 (dk_at dksX0_rule_0 14 rfl rfl)
theorem dX0_rule_15 : decode cX0_rule 15 = .ok (.ireturn, 1) := dk_172 (dk_at dksX0_rule_0 15 rfl rfl)
abbrev cX0_deed : ByteArray := method_12_code
def yX0_deed : MethodName := ⟨RX0, "deed", "(LRulehearth;IIZI)I"⟩
def dkwX0_deed_1 : List UInt8 := [3, 172]
abbrev dktX0_deed_1 : List UInt8 := dkwX0_deed_1 ++ []
def dkwX0_deed_0 : List UInt8 := [42, 27, 28, 29, 21, 4, 182, 0, 46, 167, 0, 15, 58, 5, 4, 172, 58, 5, 5, 172, 58, 5, 6, 172]
abbrev dktX0_deed_0 : List UInt8 := dkwX0_deed_0 ++ dktX0_deed_1
theorem dksX0_deed_0 : cX0_deed.data.toList.drop 0 = dktX0_deed_0 := by decide +kernel
theorem dksX0_deed_1 : cX0_deed.data.toList.drop 24 = dktX0_deed_1 := dk_seg dksX0_deed_0 24 rfl rfl
theorem dX0_deed_0 : decode cX0_deed 0 = .ok (.aload_n 0, 1) := dk_42 (dk_at dksX0_deed_0 0 rfl rfl)
theorem dX0_deed_1 : decode cX0_deed 1 = .ok (.iload_n 1, 1) := dk_27 (dk_at dksX0_deed_0 1 rfl rfl)
theorem dX0_deed_2 : decode cX0_deed 2 = .ok (.iload_n 2, 1) := dk_28 (dk_at dksX0_deed_0 2 rfl rfl)
theorem dX0_deed_3 : decode cX0_deed 3 = .ok (.iload_n 3, 1) := dk_29 (dk_at dksX0_deed_0 3 rfl rfl)
theorem dX0_deed_4 : decode cX0_deed 4 = .ok (.iload 4, 2) := dk_21 4 (dk_at dksX0_deed_0 4 rfl rfl)
theorem dX0_deed_6 : decode cX0_deed 6 = .ok (.invokevirtual 46, 3) := dk_182 0 46 (dk_at dksX0_deed_0 6 rfl rfl)
theorem dX0_deed_9 : decode cX0_deed 9 = .ok (.goto 15, 3) := dk_167 0 15 (dk_at dksX0_deed_0 9 rfl rfl)
theorem dX0_deed_12 : decode cX0_deed 12 = .ok (.astore 5, 2) := dk_58 5 (dk_at dksX0_deed_0 12 rfl rfl)
theorem dX0_deed_14 : decode cX0_deed 14 = .ok (.iconst 1, 1) := dk_4 (dk_at dksX0_deed_0 14 rfl rfl)
theorem dX0_deed_15 : decode cX0_deed 15 = .ok (.ireturn, 1) := dk_172 (dk_at dksX0_deed_0 15 rfl rfl)
theorem dX0_deed_16 : decode cX0_deed 16 = .ok (.astore 5, 2) := dk_58 5 (dk_at dksX0_deed_0 16 rfl rfl)
theorem dX0_deed_18 : decode cX0_deed 18 = .ok (.iconst 2, 1) := dk_5 (dk_at dksX0_deed_0 18 rfl rfl)
theorem dX0_deed_19 : decode cX0_deed 19 = .ok (.ireturn, 1) := dk_172 (dk_at dksX0_deed_0 19 rfl rfl)
theorem dX0_deed_20 : decode cX0_deed 20 = .ok (.astore 5, 2) := dk_58 5 (dk_at dksX0_deed_0 20 rfl rfl)
theorem dX0_deed_22 : decode cX0_deed 22 = .ok (.iconst 3, 1) := dk_6 (dk_at dksX0_deed_0 22 rfl rfl)
theorem dX0_deed_23 : decode cX0_deed 23 = .ok (.ireturn, 1) := dk_172 (dk_at dksX0_deed_0 23 rfl rfl)
theorem dX0_deed_24 : decode cX0_deed 24 = .ok (.iconst 0, 1) := dk_3 (dk_at dksX0_deed_1 0 rfl rfl)
theorem dX0_deed_25 : decode cX0_deed 25 = .ok (.ireturn, 1) := dk_172 (dk_at dksX0_deed_1 1 rfl rfl)
abbrev cX0_variable : ByteArray := method_13_code
def yX0_variable : MethodName := ⟨RX0, "variable", "(LRulehearth;I)I"⟩
def dkwX0_variable_0 : List UInt8 := [42, 27, 182, 0, 50, 167, 0, 9, 77, 4, 172, 77, 5, 172, 3, 172]
abbrev dktX0_variable_0 : List UInt8 := dkwX0_variable_0 ++ []
theorem dksX0_variable_0 : cX0_variable.data.toList.drop 0 = dktX0_variable_0 := by decide +kernel
theorem dX0_variable_0 : decode cX0_variable 0 = .ok (.aload_n 0, 1) := dk_42 (dk_at dksX0_variable_0 0 rfl rfl)
theorem dX0_variable_1 : decode cX0_variable 1 = .ok (.iload_n 1, 1) := dk_27 (dk_at dksX0_variable_0 1 rfl rfl)
theorem dX0_variable_2 : decode cX0_variable 2 = .ok (.invokevirtual 50, 3) := dk_182 0 50 (dk_at dksX0_variable_0 2 rfl rfl)
theorem dX0_variable_5 : decode cX0_variable 5 = .ok (.goto 9, 3) := dk_167 0 9 (dk_at dksX0_variable_0 5 rfl rfl)
theorem dX0_variable_8 : decode cX0_variable 8 = .ok (.astore_n 2, 1) := dk_77 (dk_at dksX0_variable_0 8 rfl rfl)
theorem dX0_variable_9 : decode cX0_variable 9 = .ok (.iconst 1, 1) := dk_4 (dk_at dksX0_variable_0 9 rfl rfl)
theorem dX0_variable_10 : decode cX0_variable 10 = .ok (.ireturn, 1) := dk_172 (dk_at dksX0_variable_0 10 rfl rfl)
theorem dX0_variable_11 : decode cX0_variable 11 = .ok (.astore_n 2, 1) := dk_77 (dk_at dksX0_variable_0 11 rfl rfl)
theorem dX0_variable_12 : decode cX0_variable 12 = .ok (.iconst 2, 1) := dk_5 (dk_at dksX0_variable_0 12 rfl rfl)
theorem dX0_variable_13 : decode cX0_variable 13 = .ok (.ireturn, 1) := dk_172 (dk_at dksX0_variable_0 13 rfl rfl)
theorem dX0_variable_14 : decode cX0_variable 14 = .ok (.iconst 0, 1) := dk_3 (dk_at dksX0_variable_0 14 rfl rfl)
theorem dX0_variable_15 : decode cX0_variable 15 = .ok (.ireturn, 1) := dk_172 (dk_at dksX0_variable_0 15 rfl rfl)
abbrev cX0_value : ByteArray := method_14_code
def yX0_value : MethodName := ⟨RX0, "value", "(LRulehearth;I)I"⟩
def dkwX0_value_0 : List UInt8 := [42, 27, 182, 0, 53, 167, 0, 9, 77, 4, 172, 77, 5, 172, 3, 172]
abbrev dktX0_value_0 : List UInt8 := dkwX0_value_0 ++ []
theorem dksX0_value_0 : cX0_value.data.toList.drop 0 = dktX0_value_0 := by decide +kernel
theorem dX0_value_0 : decode cX0_value 0 = .ok (.aload_n 0, 1) := dk_42 (dk_at dksX0_value_0 0 rfl rfl)
theorem dX0_value_1 : decode cX0_value 1 = .ok (.iload_n 1, 1) := dk_27 (dk_at dksX0_value_0 1 rfl rfl)
theorem dX0_value_2 : decode cX0_value 2 = .ok (.invokevirtual 53, 3) := dk_182 0 53 (dk_at dksX0_value_0 2 rfl rfl)
theorem dX0_value_5 : decode cX0_value 5 = .ok (.goto 9, 3) := dk_167 0 9 (dk_at dksX0_value_0 5 rfl rfl)
theorem dX0_value_8 : decode cX0_value 8 = .ok (.astore_n 2, 1) := dk_77 (dk_at dksX0_value_0 8 rfl rfl)
theorem dX0_value_9 : decode cX0_value 9 = .ok (.iconst 1, 1) := dk_4 (dk_at dksX0_value_0 9 rfl rfl)
theorem dX0_value_10 : decode cX0_value 10 = .ok (.ireturn, 1) := dk_172 (dk_at dksX0_value_0 10 rfl rfl)
theorem dX0_value_11 : decode cX0_value 11 = .ok (.astore_n 2, 1) := dk_77 (dk_at dksX0_value_0 11 rfl rfl)
theorem dX0_value_12 : decode cX0_value 12 = .ok (.iconst 2, 1) := dk_5 (dk_at dksX0_value_0 12 rfl rfl)
theorem dX0_value_13 : decode cX0_value 13 = .ok (.ireturn, 1) := dk_172 (dk_at dksX0_value_0 13 rfl rfl)
theorem dX0_value_14 : decode cX0_value 14 = .ok (.iconst 0, 1) := dk_3 (dk_at dksX0_value_0 14 rfl rfl)
theorem dX0_value_15 : decode cX0_value 15 = .ok (.ireturn, 1) := dk_172 (dk_at dksX0_value_0 15 rfl rfl)
abbrev cX0_gather : ByteArray := method_15_code
def yX0_gather : MethodName := ⟨RX0, "gather", "(LRulehearth;II)I"⟩
def dkwX0_gather_0 : List UInt8 := [42, 27, 28, 182, 0, 56, 167, 0, 9, 78, 4, 172, 78, 5, 172, 3, 172]
abbrev dktX0_gather_0 : List UInt8 := dkwX0_gather_0 ++ []
theorem dksX0_gather_0 : cX0_gather.data.toList.drop 0 = dktX0_gather_0 := by decide +kernel
theorem dX0_gather_0 : decode cX0_gather 0 = .ok (.aload_n 0, 1) := dk_42 (dk_at dksX0_gather_0 0 rfl rfl)
theorem dX0_gather_1 : decode cX0_gather 1 = .ok (.iload_n 1, 1) := dk_27 (dk_at dksX0_gather_0 1 rfl rfl)
theorem dX0_gather_2 : decode cX0_gather 2 = .ok (.iload_n 2, 1) := dk_28 (dk_at dksX0_gather_0 2 rfl rfl)
theorem dX0_gather_3 : decode cX0_gather 3 = .ok (.invokevirtual 56, 3) := dk_182 0 56 (dk_at dksX0_gather_0 3 rfl rfl)
theorem dX0_gather_6 : decode cX0_gather 6 = .ok (.goto 9, 3) := dk_167 0 9 (dk_at dksX0_gather_0 6 rfl rfl)
theorem dX0_gather_9 : decode cX0_gather 9 = .ok (.astore_n 3, 1) := dk_78 (dk_at dksX0_gather_0 9 rfl rfl)
theorem dX0_gather_10 : decode cX0_gather 10 = .ok (.iconst 1, 1) := dk_4 (dk_at dksX0_gather_0 10 rfl rfl)
theorem dX0_gather_11 : decode cX0_gather 11 = .ok (.ireturn, 1) := dk_172 (dk_at dksX0_gather_0 11 rfl rfl)
theorem dX0_gather_12 : decode cX0_gather 12 = .ok (.astore_n 3, 1) := dk_78 (dk_at dksX0_gather_0 12 rfl rfl)
theorem dX0_gather_13 : decode cX0_gather 13 = .ok (.iconst 2, 1) := dk_5 (dk_at dksX0_gather_0 13 rfl rfl)
theorem dX0_gather_14 : decode cX0_gather 14 = .ok (.ireturn, 1) := dk_172 (dk_at dksX0_gather_0 14 rfl rfl)
theorem dX0_gather_15 : decode cX0_gather 15 = .ok (.iconst 0, 1) := dk_3 (dk_at dksX0_gather_0 15 rfl rfl)
theorem dX0_gather_16 : decode cX0_gather 16 = .ok (.ireturn, 1) := dk_172 (dk_at dksX0_gather_0 16 rfl rfl)
abbrev cX0_atom : ByteArray := method_16_code
def yX0_atom : MethodName := ⟨RX0, "atom", "(LRulehearth;I)I"⟩
def dkwX0_atom_0 : List UInt8 := [42, 27, 182, 0, 60, 167, 0, 9, 77, 4, 172, 77, 5, 172, 3, 172]
abbrev dktX0_atom_0 : List UInt8 := dkwX0_atom_0 ++ []
theorem dksX0_atom_0 : cX0_atom.data.toList.drop 0 = dktX0_atom_0 := by decide +kernel
theorem dX0_atom_0 : decode cX0_atom 0 = .ok (.aload_n 0, 1) := dk_42 (dk_at dksX0_atom_0 0 rfl rfl)
theorem dX0_atom_1 : decode cX0_atom 1 = .ok (.iload_n 1, 1) := dk_27 (dk_at dksX0_atom_0 1 rfl rfl)
theorem dX0_atom_2 : decode cX0_atom 2 = .ok (.invokevirtual 60, 3) := dk_182 0 60 (dk_at dksX0_atom_0 2 rfl rfl)
theorem dX0_atom_5 : decode cX0_atom 5 = .ok (.goto 9, 3) := dk_167 0 9 (dk_at dksX0_atom_0 5 rfl rfl)
theorem dX0_atom_8 : decode cX0_atom 8 = .ok (.astore_n 2, 1) := dk_77 (dk_at dksX0_atom_0 8 rfl rfl)
theorem dX0_atom_9 : decode cX0_atom 9 = .ok (.iconst 1, 1) := dk_4 (dk_at dksX0_atom_0 9 rfl rfl)
theorem dX0_atom_10 : decode cX0_atom 10 = .ok (.ireturn, 1) := dk_172 (dk_at dksX0_atom_0 10 rfl rfl)
theorem dX0_atom_11 : decode cX0_atom 11 = .ok (.astore_n 2, 1) := dk_77 (dk_at dksX0_atom_0 11 rfl rfl)
theorem dX0_atom_12 : decode cX0_atom 12 = .ok (.iconst 2, 1) := dk_5 (dk_at dksX0_atom_0 12 rfl rfl)
theorem dX0_atom_13 : decode cX0_atom 13 = .ok (.ireturn, 1) := dk_172 (dk_at dksX0_atom_0 13 rfl rfl)
theorem dX0_atom_14 : decode cX0_atom 14 = .ok (.iconst 0, 1) := dk_3 (dk_at dksX0_atom_0 14 rfl rfl)
theorem dX0_atom_15 : decode cX0_atom 15 = .ok (.ireturn, 1) := dk_172 (dk_at dksX0_atom_0 15 rfl rfl)
abbrev cX0_not : ByteArray := method_17_code
def yX0_not : MethodName := ⟨RX0, "not", "(LRulehearth;I)I"⟩
def dkwX0_not_0 : List UInt8 := [42, 27, 182, 0, 63, 167, 0, 9, 77, 4, 172, 77, 5, 172, 3, 172]
abbrev dktX0_not_0 : List UInt8 := dkwX0_not_0 ++ []
theorem dksX0_not_0 : cX0_not.data.toList.drop 0 = dktX0_not_0 := by decide +kernel
theorem dX0_not_0 : decode cX0_not 0 = .ok (.aload_n 0, 1) := dk_42 (dk_at dksX0_not_0 0 rfl rfl)
theorem dX0_not_1 : decode cX0_not 1 = .ok (.iload_n 1, 1) := dk_27 (dk_at dksX0_not_0 1 rfl rfl)
theorem dX0_not_2 : decode cX0_not 2 = .ok (.invokevirtual 63, 3) := dk_182 0 63 (dk_at dksX0_not_0 2 rfl rfl)
theorem dX0_not_5 : decode cX0_not 5 = .ok (.goto 9, 3) := dk_167 0 9 (dk_at dksX0_not_0 5 rfl rfl)
theorem dX0_not_8 : decode cX0_not 8 = .ok (.astore_n 2, 1) := dk_77 (dk_at dksX0_not_0 8 rfl rfl)
theorem dX0_not_9 : decode cX0_not 9 = .ok (.iconst 1, 1) := dk_4 (dk_at dksX0_not_0 9 rfl rfl)
theorem dX0_not_10 : decode cX0_not 10 = .ok (.ireturn, 1) := dk_172 (dk_at dksX0_not_0 10 rfl rfl)
theorem dX0_not_11 : decode cX0_not 11 = .ok (.astore_n 2, 1) := dk_77 (dk_at dksX0_not_0 11 rfl rfl)
theorem dX0_not_12 : decode cX0_not 12 = .ok (.iconst 2, 1) := dk_5 (dk_at dksX0_not_0 12 rfl rfl)
theorem dX0_not_13 : decode cX0_not 13 = .ok (.ireturn, 1) := dk_172 (dk_at dksX0_not_0 13 rfl rfl)
theorem dX0_not_14 : decode cX0_not 14 = .ok (.iconst 0, 1) := dk_3 (dk_at dksX0_not_0 14 rfl rfl)
theorem dX0_not_15 : decode cX0_not 15 = .ok (.ireturn, 1) := dk_172 (dk_at dksX0_not_0 15 rfl rfl)
abbrev cX0_test : ByteArray := method_18_code
def yX0_test : MethodName := ⟨RX0, "test", "(LRulehearth;I)I"⟩
def dkwX0_test_0 : List UInt8 := [42, 27, 182, 0, 66, 167, 0, 9, 77, 4, 172, 77, 5, 172, 3, 172]
abbrev dktX0_test_0 : List UInt8 := dkwX0_test_0 ++ []
theorem dksX0_test_0 : cX0_test.data.toList.drop 0 = dktX0_test_0 := by decide +kernel
theorem dX0_test_0 : decode cX0_test 0 = .ok (.aload_n 0, 1) := dk_42 (dk_at dksX0_test_0 0 rfl rfl)
theorem dX0_test_1 : decode cX0_test 1 = .ok (.iload_n 1, 1) := dk_27 (dk_at dksX0_test_0 1 rfl rfl)
theorem dX0_test_2 : decode cX0_test 2 = .ok (.invokevirtual 66, 3) := dk_182 0 66 (dk_at dksX0_test_0 2 rfl rfl)
theorem dX0_test_5 : decode cX0_test 5 = .ok (.goto 9, 3) := dk_167 0 9 (dk_at dksX0_test_0 5 rfl rfl)
theorem dX0_test_8 : decode cX0_test 8 = .ok (.astore_n 2, 1) := dk_77 (dk_at dksX0_test_0 8 rfl rfl)
theorem dX0_test_9 : decode cX0_test 9 = .ok (.iconst 1, 1) := dk_4 (dk_at dksX0_test_0 9 rfl rfl)
theorem dX0_test_10 : decode cX0_test 10 = .ok (.ireturn, 1) := dk_172 (dk_at dksX0_test_0 10 rfl rfl)
theorem dX0_test_11 : decode cX0_test 11 = .ok (.astore_n 2, 1) := dk_77 (dk_at dksX0_test_0 11 rfl rfl)
theorem dX0_test_12 : decode cX0_test 12 = .ok (.iconst 2, 1) := dk_5 (dk_at dksX0_test_0 12 rfl rfl)
theorem dX0_test_13 : decode cX0_test 13 = .ok (.ireturn, 1) := dk_172 (dk_at dksX0_test_0 13 rfl rfl)
theorem dX0_test_14 : decode cX0_test 14 = .ok (.iconst 0, 1) := dk_3 (dk_at dksX0_test_0 14 rfl rfl)
theorem dX0_test_15 : decode cX0_test 15 = .ok (.ireturn, 1) := dk_172 (dk_at dksX0_test_0 15 rfl rfl)
abbrev cX0_plus : ByteArray := method_19_code
def yX0_plus : MethodName := ⟨RX0, "plus", "(LRulehearth;)I"⟩
def dkwX0_plus_0 : List UInt8 := [42, 182, 0, 69, 167, 0, 6, 76, 4, 172, 3, 172]
abbrev dktX0_plus_0 : List UInt8 := dkwX0_plus_0 ++ []
theorem dksX0_plus_0 : cX0_plus.data.toList.drop 0 = dktX0_plus_0 := by decide +kernel
theorem dX0_plus_0 : decode cX0_plus 0 = .ok (.aload_n 0, 1) := dk_42 (dk_at dksX0_plus_0 0 rfl rfl)
theorem dX0_plus_1 : decode cX0_plus 1 = .ok (.invokevirtual 69, 3) := dk_182 0 69 (dk_at dksX0_plus_0 1 rfl rfl)
theorem dX0_plus_4 : decode cX0_plus 4 = .ok (.goto 6, 3) := dk_167 0 6 (dk_at dksX0_plus_0 4 rfl rfl)
theorem dX0_plus_7 : decode cX0_plus 7 = .ok (.astore_n 1, 1) := dk_76 (dk_at dksX0_plus_0 7 rfl rfl)
theorem dX0_plus_8 : decode cX0_plus 8 = .ok (.iconst 1, 1) := dk_4 (dk_at dksX0_plus_0 8 rfl rfl)
theorem dX0_plus_9 : decode cX0_plus 9 = .ok (.ireturn, 1) := dk_172 (dk_at dksX0_plus_0 9 rfl rfl)
theorem dX0_plus_10 : decode cX0_plus 10 = .ok (.iconst 0, 1) := dk_3 (dk_at dksX0_plus_0 10 rfl rfl)
theorem dX0_plus_11 : decode cX0_plus 11 = .ok (.ireturn, 1) := dk_172 (dk_at dksX0_plus_0 11 rfl rfl)
abbrev cX0_done : ByteArray := method_20_code
def yX0_done : MethodName := ⟨RX0, "done", "(LRulehearth;[J)I"⟩
def dkwX0_done_0 : List UInt8 := [43, 3, 42, 182, 0, 72, 133, 80, 167, 0, 6, 77, 4, 172, 3, 172]
abbrev dktX0_done_0 : List UInt8 := dkwX0_done_0 ++ []
theorem dksX0_done_0 : cX0_done.data.toList.drop 0 = dktX0_done_0 := by decide +kernel
theorem dX0_done_0 : decode cX0_done 0 = .ok (.aload_n 1, 1) := dk_43 (dk_at dksX0_done_0 0 rfl rfl)
theorem dX0_done_1 : decode cX0_done 1 = .ok (.iconst 0, 1) := dk_3 (dk_at dksX0_done_0 1 rfl rfl)
theorem dX0_done_2 : decode cX0_done 2 = .ok (.aload_n 0, 1) := dk_42 (dk_at dksX0_done_0 2 rfl rfl)
theorem dX0_done_3 : decode cX0_done 3 = .ok (.invokevirtual 72, 3) := dk_182 0 72 (dk_at dksX0_done_0 3 rfl rfl)
theorem dX0_done_6 : decode cX0_done 6 = .ok (.i2l, 1) := dk_133 (dk_at dksX0_done_0 6 rfl rfl)
theorem dX0_done_7 : decode cX0_done 7 = .ok (.lastore, 1) := dk_80 (dk_at dksX0_done_0 7 rfl rfl)
theorem dX0_done_8 : decode cX0_done 8 = .ok (.goto 6, 3) := dk_167 0 6 (dk_at dksX0_done_0 8 rfl rfl)
theorem dX0_done_11 : decode cX0_done 11 = .ok (.astore_n 2, 1) := dk_77 (dk_at dksX0_done_0 11 rfl rfl)
theorem dX0_done_12 : decode cX0_done 12 = .ok (.iconst 1, 1) := dk_4 (dk_at dksX0_done_0 12 rfl rfl)
theorem dX0_done_13 : decode cX0_done 13 = .ok (.ireturn, 1) := dk_172 (dk_at dksX0_done_0 13 rfl rfl)
theorem dX0_done_14 : decode cX0_done 14 = .ok (.iconst 0, 1) := dk_3 (dk_at dksX0_done_0 14 rfl rfl)
theorem dX0_done_15 : decode cX0_done 15 = .ok (.ireturn, 1) := dk_172 (dk_at dksX0_done_0 15 rfl rfl)
abbrev cX0_drop : ByteArray := method_21_code
def yX0_drop : MethodName := ⟨RX0, "drop", "(LRulehearth;I[J)I"⟩
def dkwX0_drop_0 : List UInt8 := [44, 3, 42, 27, 182, 0, 76, 133, 80, 167, 0, 9, 78, 4, 172, 78, 5, 172, 3, 172]
abbrev dktX0_drop_0 : List UInt8 := dkwX0_drop_0 ++ []
theorem dksX0_drop_0 : cX0_drop.data.toList.drop 0 = dktX0_drop_0 := by decide +kernel
theorem dX0_drop_0 : decode cX0_drop 0 = .ok (.aload_n 2, 1) := dk_44 (dk_at dksX0_drop_0 0 rfl rfl)
theorem dX0_drop_1 : decode cX0_drop 1 = .ok (.iconst 0, 1) := dk_3 (dk_at dksX0_drop_0 1 rfl rfl)
theorem dX0_drop_2 : decode cX0_drop 2 = .ok (.aload_n 0, 1) := dk_42 (dk_at dksX0_drop_0 2 rfl rfl)
theorem dX0_drop_3 : decode cX0_drop 3 = .ok (.iload_n 1, 1) := dk_27 (dk_at dksX0_drop_0 3 rfl rfl)
theorem dX0_drop_4 : decode cX0_drop 4 = .ok (.invokevirtual 76, 3) := dk_182 0 76 (dk_at dksX0_drop_0 4 rfl rfl)
theorem dX0_drop_7 : decode cX0_drop 7 = .ok (.i2l, 1) := dk_133 (dk_at dksX0_drop_0 7 rfl rfl)
theorem dX0_drop_8 : decode cX0_drop 8 = .ok (.lastore, 1) := dk_80 (dk_at dksX0_drop_0 8 rfl rfl)
theorem dX0_drop_9 : decode cX0_drop 9 = .ok (.goto 9, 3) := dk_167 0 9 (dk_at dksX0_drop_0 9 rfl rfl)
theorem dX0_drop_12 : decode cX0_drop 12 = .ok (.astore_n 3, 1) := dk_78 (dk_at dksX0_drop_0 12 rfl rfl)
theorem dX0_drop_13 : decode cX0_drop 13 = .ok (.iconst 1, 1) := dk_4 (dk_at dksX0_drop_0 13 rfl rfl)
theorem dX0_drop_14 : decode cX0_drop 14 = .ok (.ireturn, 1) := dk_172 (dk_at dksX0_drop_0 14 rfl rfl)
theorem dX0_drop_15 : decode cX0_drop 15 = .ok (.astore_n 3, 1) := dk_78 (dk_at dksX0_drop_0 15 rfl rfl)
theorem dX0_drop_16 : decode cX0_drop 16 = .ok (.iconst 2, 1) := dk_5 (dk_at dksX0_drop_0 16 rfl rfl)
theorem dX0_drop_17 : decode cX0_drop 17 = .ok (.ireturn, 1) := dk_172 (dk_at dksX0_drop_0 17 rfl rfl)
theorem dX0_drop_18 : decode cX0_drop 18 = .ok (.iconst 0, 1) := dk_3 (dk_at dksX0_drop_0 18 rfl rfl)
theorem dX0_drop_19 : decode cX0_drop 19 = .ok (.ireturn, 1) := dk_172 (dk_at dksX0_drop_0 19 rfl rfl)
abbrev cX0_dropDeed : ByteArray := method_22_code
def yX0_dropDeed : MethodName := ⟨RX0, "dropDeed", "(LRulehearth;I[J)I"⟩
def dkwX0_dropDeed_0 : List UInt8 := [44, 3, 42, 27, 182, 0, 79, 133, 80, 167, 0, 6, 78, 4, 172, 3, 172]
abbrev dktX0_dropDeed_0 : List UInt8 := dkwX0_dropDeed_0 ++ []
theorem dksX0_dropDeed_0 : cX0_dropDeed.data.toList.drop 0 = dktX0_dropDeed_0 := by decide +kernel
theorem dX0_dropDeed_0 : decode cX0_dropDeed 0 = .ok (.aload_n 2, 1) := dk_44 (dk_at dksX0_dropDeed_0 0 rfl rfl)
theorem dX0_dropDeed_1 : decode cX0_dropDeed 1 = .ok (.iconst 0, 1) := dk_3 (dk_at dksX0_dropDeed_0 1 rfl rfl)
theorem dX0_dropDeed_2 : decode cX0_dropDeed 2 = .ok (.aload_n 0, 1) := dk_42 (dk_at dksX0_dropDeed_0 2 rfl rfl)
theorem dX0_dropDeed_3 : decode cX0_dropDeed 3 = .ok (.iload_n 1, 1) := dk_27 (dk_at dksX0_dropDeed_0 3 rfl rfl)
theorem dX0_dropDeed_4 : decode cX0_dropDeed 4 = .ok (.invokevirtual 79, 3) := dk_182 0 79 (dk_at dksX0_dropDeed_0 4 rfl rfl)
theorem dX0_dropDeed_7 : decode cX0_dropDeed 7 = .ok (.i2l, 1) := dk_133 (dk_at dksX0_dropDeed_0 7 rfl rfl)
theorem dX0_dropDeed_8 : decode cX0_dropDeed 8 = .ok (.lastore, 1) := dk_80 (dk_at dksX0_dropDeed_0 8 rfl rfl)
theorem dX0_dropDeed_9 : decode cX0_dropDeed 9 = .ok (.goto 6, 3) := dk_167 0 6 (dk_at dksX0_dropDeed_0 9 rfl rfl)
theorem dX0_dropDeed_12 : decode cX0_dropDeed 12 = .ok (.astore_n 3, 1) := dk_78 (dk_at dksX0_dropDeed_0 12 rfl rfl)
theorem dX0_dropDeed_13 : decode cX0_dropDeed 13 = .ok (.iconst 1, 1) := dk_4 (dk_at dksX0_dropDeed_0 13 rfl rfl)
theorem dX0_dropDeed_14 : decode cX0_dropDeed 14 = .ok (.ireturn, 1) := dk_172 (dk_at dksX0_dropDeed_0 14 rfl rfl)
theorem dX0_dropDeed_15 : decode cX0_dropDeed 15 = .ok (.iconst 0, 1) := dk_3 (dk_at dksX0_dropDeed_0 15 rfl rfl)
theorem dX0_dropDeed_16 : decode cX0_dropDeed 16 = .ok (.ireturn, 1) := dk_172 (dk_at dksX0_dropDeed_0 16 rfl rfl)
abbrev cX0_stratum : ByteArray := method_23_code
def yX0_stratum : MethodName := ⟨RX0, "stratum", "(LRulehearth;I[J)I"⟩
def dkwX0_stratum_0 : List UInt8 := [44, 3, 42, 27, 182, 0, 82, 133, 80, 167, 0, 6, 78, 4, 172, 3, 172]
abbrev dktX0_stratum_0 : List UInt8 := dkwX0_stratum_0 ++ []
theorem dksX0_stratum_0 : cX0_stratum.data.toList.drop 0 = dktX0_stratum_0 := by decide +kernel
theorem dX0_stratum_0 : decode cX0_stratum 0 = .ok (.aload_n 2, 1) := dk_44 (dk_at dksX0_stratum_0 0 rfl rfl)
theorem dX0_stratum_1 : decode cX0_stratum 1 = .ok (.iconst 0, 1) := dk_3 (dk_at dksX0_stratum_0 1 rfl rfl)
theorem dX0_stratum_2 : decode cX0_stratum 2 = .ok (.aload_n 0, 1) := dk_42 (dk_at dksX0_stratum_0 2 rfl rfl)
theorem dX0_stratum_3 : decode cX0_stratum 3 = .ok (.iload_n 1, 1) := dk_27 (dk_at dksX0_stratum_0 3 rfl rfl)
theorem dX0_stratum_4 : decode cX0_stratum 4 = .ok (.invokevirtual 82, 3) := dk_182 0 82 (dk_at dksX0_stratum_0 4 rfl rfl)
theorem dX0_stratum_7 : decode cX0_stratum 7 = .ok (.i2l, 1) := dk_133 (dk_at dksX0_stratum_0 7 rfl rfl)
theorem dX0_stratum_8 : decode cX0_stratum 8 = .ok (.lastore, 1) := dk_80 (dk_at dksX0_stratum_0 8 rfl rfl)
theorem dX0_stratum_9 : decode cX0_stratum 9 = .ok (.goto 6, 3) := dk_167 0 6 (dk_at dksX0_stratum_0 9 rfl rfl)
theorem dX0_stratum_12 : decode cX0_stratum 12 = .ok (.astore_n 3, 1) := dk_78 (dk_at dksX0_stratum_0 12 rfl rfl)
theorem dX0_stratum_13 : decode cX0_stratum 13 = .ok (.iconst 1, 1) := dk_4 (dk_at dksX0_stratum_0 13 rfl rfl)
theorem dX0_stratum_14 : decode cX0_stratum 14 = .ok (.ireturn, 1) := dk_172 (dk_at dksX0_stratum_0 14 rfl rfl)
theorem dX0_stratum_15 : decode cX0_stratum 15 = .ok (.iconst 0, 1) := dk_3 (dk_at dksX0_stratum_0 15 rfl rfl)
theorem dX0_stratum_16 : decode cX0_stratum 16 = .ok (.ireturn, 1) := dk_172 (dk_at dksX0_stratum_0 16 rfl rfl)
abbrev cX0_depth : ByteArray := method_24_code
def yX0_depth : MethodName := ⟨RX0, "depth", "(LRulehearth;I[J)I"⟩
def dkwX0_depth_0 : List UInt8 := [44, 3, 42, 27, 182, 0, 85, 133, 80, 167, 0, 9, 78, 4, 172, 78, 5, 172, 3, 172]
abbrev dktX0_depth_0 : List UInt8 := dkwX0_depth_0 ++ []
theorem dksX0_depth_0 : cX0_depth.data.toList.drop 0 = dktX0_depth_0 := by decide +kernel
theorem dX0_depth_0 : decode cX0_depth 0 = .ok (.aload_n 2, 1) := dk_44 (dk_at dksX0_depth_0 0 rfl rfl)
theorem dX0_depth_1 : decode cX0_depth 1 = .ok (.iconst 0, 1) := dk_3 (dk_at dksX0_depth_0 1 rfl rfl)
theorem dX0_depth_2 : decode cX0_depth 2 = .ok (.aload_n 0, 1) := dk_42 (dk_at dksX0_depth_0 2 rfl rfl)
theorem dX0_depth_3 : decode cX0_depth 3 = .ok (.iload_n 1, 1) := dk_27 (dk_at dksX0_depth_0 3 rfl rfl)
theorem dX0_depth_4 : decode cX0_depth 4 = .ok (.invokevirtual 85, 3) := dk_182 0 85 (dk_at dksX0_depth_0 4 rfl rfl)
theorem dX0_depth_7 : decode cX0_depth 7 = .ok (.i2l, 1) := dk_133 (dk_at dksX0_depth_0 7 rfl rfl)
theorem dX0_depth_8 : decode cX0_depth 8 = .ok (.lastore, 1) := dk_80 (dk_at dksX0_depth_0 8 rfl rfl)
theorem dX0_depth_9 : decode cX0_depth 9 = .ok (.goto 9, 3) := dk_167 0 9 (dk_at dksX0_depth_0 9 rfl rfl)
theorem dX0_depth_12 : decode cX0_depth 12 = .ok (.astore_n 3, 1) := dk_78 (dk_at dksX0_depth_0 12 rfl rfl)
theorem dX0_depth_13 : decode cX0_depth 13 = .ok (.iconst 1, 1) := dk_4 (dk_at dksX0_depth_0 13 rfl rfl)
theorem dX0_depth_14 : decode cX0_depth 14 = .ok (.ireturn, 1) := dk_172 (dk_at dksX0_depth_0 14 rfl rfl)
theorem dX0_depth_15 : decode cX0_depth 15 = .ok (.astore_n 3, 1) := dk_78 (dk_at dksX0_depth_0 15 rfl rfl)
theorem dX0_depth_16 : decode cX0_depth 16 = .ok (.iconst 2, 1) := dk_5 (dk_at dksX0_depth_0 16 rfl rfl)
theorem dX0_depth_17 : decode cX0_depth 17 = .ok (.ireturn, 1) := dk_172 (dk_at dksX0_depth_0 17 rfl rfl)
theorem dX0_depth_18 : decode cX0_depth 18 = .ok (.iconst 0, 1) := dk_3 (dk_at dksX0_depth_0 18 rfl rfl)
theorem dX0_depth_19 : decode cX0_depth 19 = .ok (.ireturn, 1) := dk_172 (dk_at dksX0_depth_0 19 rfl rfl)
abbrev cX0_why : ByteArray := method_25_code
def yX0_why : MethodName := ⟨RX0, "why", "(LRulehearth;I[J)I"⟩
def dkwX0_why_0 : List UInt8 := [44, 3, 42, 27, 182, 0, 88, 133, 80, 167, 0, 9, 78, 4, 172, 78, 5, 172, 3, 172]
abbrev dktX0_why_0 : List UInt8 := dkwX0_why_0 ++ []
theorem dksX0_why_0 : cX0_why.data.toList.drop 0 = dktX0_why_0 := by decide +kernel
theorem dX0_why_0 : decode cX0_why 0 = .ok (.aload_n 2, 1) := dk_44 (dk_at dksX0_why_0 0 rfl rfl)
theorem dX0_why_1 : decode cX0_why 1 = .ok (.iconst 0, 1) := dk_3 (dk_at dksX0_why_0 1 rfl rfl)
theorem dX0_why_2 : decode cX0_why 2 = .ok (.aload_n 0, 1) := dk_42 (dk_at dksX0_why_0 2 rfl rfl)
theorem dX0_why_3 : decode cX0_why 3 = .ok (.iload_n 1, 1) := dk_27 (dk_at dksX0_why_0 3 rfl rfl)
theorem dX0_why_4 : decode cX0_why 4 = .ok (.invokevirtual 88, 3) := dk_182 0 88 (dk_at dksX0_why_0 4 rfl rfl)
theorem dX0_why_7 : decode cX0_why 7 = .ok (.i2l, 1) := dk_133 (dk_at dksX0_why_0 7 rfl rfl)
theorem dX0_why_8 : decode cX0_why 8 = .ok (.lastore, 1) := dk_80 (dk_at dksX0_why_0 8 rfl rfl)
theorem dX0_why_9 : decode cX0_why 9 = .ok (.goto 9, 3) := dk_167 0 9 (dk_at dksX0_why_0 9 rfl rfl)
theorem dX0_why_12 : decode cX0_why 12 = .ok (.astore_n 3, 1) := dk_78 (dk_at dksX0_why_0 12 rfl rfl)
theorem dX0_why_13 : decode cX0_why 13 = .ok (.iconst 1, 1) := dk_4 (dk_at dksX0_why_0 13 rfl rfl)
theorem dX0_why_14 : decode cX0_why 14 = .ok (.ireturn, 1) := dk_172 (dk_at dksX0_why_0 14 rfl rfl)
theorem dX0_why_15 : decode cX0_why 15 = .ok (.astore_n 3, 1) := dk_78 (dk_at dksX0_why_0 15 rfl rfl)
theorem dX0_why_16 : decode cX0_why 16 = .ok (.iconst 2, 1) := dk_5 (dk_at dksX0_why_0 16 rfl rfl)
theorem dX0_why_17 : decode cX0_why 17 = .ok (.ireturn, 1) := dk_172 (dk_at dksX0_why_0 17 rfl rfl)
theorem dX0_why_18 : decode cX0_why 18 = .ok (.iconst 0, 1) := dk_3 (dk_at dksX0_why_0 18 rfl rfl)
theorem dX0_why_19 : decode cX0_why 19 = .ok (.ireturn, 1) := dk_172 (dk_at dksX0_why_0 19 rfl rfl)
abbrev cX0_reasons : ByteArray := method_26_code
def yX0_reasons : MethodName := ⟨RX0, "reasons", "(LRulehearth;I[J)I"⟩
def dkwX0_reasons_0 : List UInt8 := [44, 3, 42, 27, 182, 0, 91, 133, 80, 167, 0, 9, 78, 4, 172, 78, 5, 172, 3, 172]
abbrev dktX0_reasons_0 : List UInt8 := dkwX0_reasons_0 ++ []
theorem dksX0_reasons_0 : cX0_reasons.data.toList.drop 0 = dktX0_reasons_0 := by decide +kernel
theorem dX0_reasons_0 : decode cX0_reasons 0 = .ok (.aload_n 2, 1) := dk_44 (dk_at dksX0_reasons_0 0 rfl rfl)
theorem dX0_reasons_1 : decode cX0_reasons 1 = .ok (.iconst 0, 1) := dk_3 (dk_at dksX0_reasons_0 1 rfl rfl)
theorem dX0_reasons_2 : decode cX0_reasons 2 = .ok (.aload_n 0, 1) := dk_42 (dk_at dksX0_reasons_0 2 rfl rfl)
theorem dX0_reasons_3 : decode cX0_reasons 3 = .ok (.iload_n 1, 1) := dk_27 (dk_at dksX0_reasons_0 3 rfl rfl)
theorem dX0_reasons_4 : decode cX0_reasons 4 = .ok (.invokevirtual 91, 3) := dk_182 0 91 (dk_at dksX0_reasons_0 4 rfl rfl)
theorem dX0_reasons_7 : decode cX0_reasons 7 = .ok (.i2l, 1) := dk_133 (dk_at dksX0_reasons_0 7 rfl rfl)
theorem dX0_reasons_8 : decode cX0_reasons 8 = .ok (.lastore, 1) := dk_80 (dk_at dksX0_reasons_0 8 rfl rfl)
theorem dX0_reasons_9 : decode cX0_reasons 9 = .ok (.goto 9, 3) := dk_167 0 9 (dk_at dksX0_reasons_0 9 rfl rfl)
theorem dX0_reasons_12 : decode cX0_reasons 12 = .ok (.astore_n 3, 1) := dk_78 (dk_at dksX0_reasons_0 12 rfl rfl)
theorem dX0_reasons_13 : decode cX0_reasons 13 = .ok (.iconst 1, 1) := dk_4 (dk_at dksX0_reasons_0 13 rfl rfl)
theorem dX0_reasons_14 : decode cX0_reasons 14 = .ok (.ireturn, 1) := dk_172 (dk_at dksX0_reasons_0 14 rfl rfl)
theorem dX0_reasons_15 : decode cX0_reasons 15 = .ok (.astore_n 3, 1) := dk_78 (dk_at dksX0_reasons_0 15 rfl rfl)
theorem dX0_reasons_16 : decode cX0_reasons 16 = .ok (.iconst 2, 1) := dk_5 (dk_at dksX0_reasons_0 16 rfl rfl)
theorem dX0_reasons_17 : decode cX0_reasons 17 = .ok (.ireturn, 1) := dk_172 (dk_at dksX0_reasons_0 17 rfl rfl)
theorem dX0_reasons_18 : decode cX0_reasons 18 = .ok (.iconst 0, 1) := dk_3 (dk_at dksX0_reasons_0 18 rfl rfl)
theorem dX0_reasons_19 : decode cX0_reasons 19 = .ok (.ireturn, 1) := dk_172 (dk_at dksX0_reasons_0 19 rfl rfl)
abbrev cX0_reasonAt : ByteArray := method_27_code
def yX0_reasonAt : MethodName := ⟨RX0, "reasonAt", "(LRulehearth;II[J)I"⟩
def dkwX0_reasonAt_0 : List UInt8 := [45, 3, 42, 27, 28, 182, 0, 94, 133, 80, 167, 0, 11, 58, 4, 4, 172, 58, 4, 5, 172, 3, 172]
abbrev dktX0_reasonAt_0 : List UInt8 := dkwX0_reasonAt_0 ++ []
theorem dksX0_reasonAt_0 : cX0_reasonAt.data.toList.drop 0 = dktX0_reasonAt_0 := by decide +kernel
theorem dX0_reasonAt_0 : decode cX0_reasonAt 0 = .ok (.aload_n 3, 1) := dk_45 (dk_at dksX0_reasonAt_0 0 rfl rfl)
theorem dX0_reasonAt_1 : decode cX0_reasonAt 1 = .ok (.iconst 0, 1) := dk_3 (dk_at dksX0_reasonAt_0 1 rfl rfl)
theorem dX0_reasonAt_2 : decode cX0_reasonAt 2 = .ok (.aload_n 0, 1) := dk_42 (dk_at dksX0_reasonAt_0 2 rfl rfl)
theorem dX0_reasonAt_3 : decode cX0_reasonAt 3 = .ok (.iload_n 1, 1) := dk_27 (dk_at dksX0_reasonAt_0 3 rfl rfl)
theorem dX0_reasonAt_4 : decode cX0_reasonAt 4 = .ok (.iload_n 2, 1) := dk_28 (dk_at dksX0_reasonAt_0 4 rfl rfl)
theorem dX0_reasonAt_5 : decode cX0_reasonAt 5 = .ok (.invokevirtual 94, 3) := dk_182 0 94 (dk_at dksX0_reasonAt_0 5 rfl rfl)
theorem dX0_reasonAt_8 : decode cX0_reasonAt 8 = .ok (.i2l, 1) := dk_133 (dk_at dksX0_reasonAt_0 8 rfl rfl)
theorem dX0_reasonAt_9 : decode cX0_reasonAt 9 = .ok (.lastore, 1) := dk_80 (dk_at dksX0_reasonAt_0 9 rfl rfl)
theorem dX0_reasonAt_10 : decode cX0_reasonAt 10 = .ok (.goto 11, 3) := dk_167 0 11 (dk_at dksX0_reasonAt_0 10 rfl rfl)
theorem dX0_reasonAt_13 : decode cX0_reasonAt 13 = .ok (.astore 4, 2) := dk_58 4 (dk_at dksX0_reasonAt_0 13 rfl rfl)
theorem dX0_reasonAt_15 : decode cX0_reasonAt 15 = .ok (.iconst 1, 1) := dk_4 (dk_at dksX0_reasonAt_0 15 rfl rfl)
theorem dX0_reasonAt_16 : decode cX0_reasonAt 16 = .ok (.ireturn, 1) := dk_172 (dk_at dksX0_reasonAt_0 16 rfl rfl)
theorem dX0_reasonAt_17 : decode cX0_reasonAt 17 = .ok (.astore 4, 2) := dk_58 4 (dk_at dksX0_reasonAt_0 17 rfl rfl)
theorem dX0_reasonAt_19 : decode cX0_reasonAt 19 = .ok (.iconst 2, 1) := dk_5 (dk_at dksX0_reasonAt_0 19 rfl rfl)
theorem dX0_reasonAt_20 : decode cX0_reasonAt 20 = .ok (.ireturn, 1) := dk_172 (dk_at dksX0_reasonAt_0 20 rfl rfl)
theorem dX0_reasonAt_21 : decode cX0_reasonAt 21 = .ok (.iconst 0, 1) := dk_3 (dk_at dksX0_reasonAt_0 21 rfl rfl)
theorem dX0_reasonAt_22 : decode cX0_reasonAt 22 = .ok (.ireturn, 1) := dk_172 (dk_at dksX0_reasonAt_0 22 rfl rfl)
abbrev cX0_dependsOn : ByteArray := method_28_code
def yX0_dependsOn : MethodName := ⟨RX0, "dependsOn", "(LRulehearth;II[J)I"⟩
def dkwX0_dependsOn_1 : List UInt8 := [58, 4, 5, 172, 3, 172]
abbrev dktX0_dependsOn_1 : List UInt8 := dkwX0_dependsOn_1 ++ []
def dkwX0_dependsOn_0 : List UInt8 := [45, 3, 42, 27, 28, 182, 0, 97, 153, 0, 7, 10, 167, 0, 4, 9, 80, 167, 0, 11, 58, 4, 4, 172]
abbrev dktX0_dependsOn_0 : List UInt8 := dkwX0_dependsOn_0 ++ dktX0_dependsOn_1
theorem dksX0_dependsOn_0 : cX0_dependsOn.data.toList.drop 0 = dktX0_dependsOn_0 := by decide +kernel
theorem dksX0_dependsOn_1 : cX0_dependsOn.data.toList.drop 24 = dktX0_dependsOn_1 := dk_seg dksX0_dependsOn_0 24 rfl rfl
theorem dX0_dependsOn_0 : decode cX0_dependsOn 0 = .ok (.aload_n 3, 1) := dk_45 (dk_at dksX0_dependsOn_0 0 rfl rfl)
theorem dX0_dependsOn_1 : decode cX0_dependsOn 1 = .ok (.iconst 0, 1) := dk_3 (dk_at dksX0_dependsOn_0 1 rfl rfl)
theorem dX0_dependsOn_2 : decode cX0_dependsOn 2 = .ok (.aload_n 0, 1) := dk_42 (dk_at dksX0_dependsOn_0 2 rfl rfl)
theorem dX0_dependsOn_3 : decode cX0_dependsOn 3 = .ok (.iload_n 1, 1) := dk_27 (dk_at dksX0_dependsOn_0 3 rfl rfl)
theorem dX0_dependsOn_4 : decode cX0_dependsOn 4 = .ok (.iload_n 2, 1) := dk_28 (dk_at dksX0_dependsOn_0 4 rfl rfl)
theorem dX0_dependsOn_5 : decode cX0_dependsOn 5 = .ok (.invokevirtual 97, 3) := dk_182 0 97 (dk_at dksX0_dependsOn_0 5 rfl rfl)
theorem dX0_dependsOn_8 : decode cX0_dependsOn 8 = .ok (.ifCond .eq 7, 3) := dk_153 0 7 (dk_at dksX0_dependsOn_0 8 rfl rfl)
theorem dX0_dependsOn_11 : decode cX0_dependsOn 11 = .ok (.lconst 1, 1) := dk_10 (dk_at dksX0_dependsOn_0 11 rfl rfl)
theorem dX0_dependsOn_12 : decode cX0_dependsOn 12 = .ok (.goto 4, 3) := dk_167 0 4 (dk_at dksX0_dependsOn_0 12 rfl rfl)
theorem dX0_dependsOn_15 : decode cX0_dependsOn 15 = .ok (.lconst 0, 1) := dk_9 (dk_at dksX0_dependsOn_0 15 rfl rfl)
theorem dX0_dependsOn_16 : decode cX0_dependsOn 16 = .ok (.lastore, 1) := dk_80 (dk_at dksX0_dependsOn_0 16 rfl rfl)
theorem dX0_dependsOn_17 : decode cX0_dependsOn 17 = .ok (.goto 11, 3) := dk_167 0 11 (dk_at dksX0_dependsOn_0 17 rfl rfl)
theorem dX0_dependsOn_20 : decode cX0_dependsOn 20 = .ok (.astore 4, 2) := dk_58 4 (dk_at dksX0_dependsOn_0 20 rfl rfl)
theorem dX0_dependsOn_22 : decode cX0_dependsOn 22 = .ok (.iconst 1, 1) := dk_4 (dk_at dksX0_dependsOn_0 22 rfl rfl)
theorem dX0_dependsOn_23 : decode cX0_dependsOn 23 = .ok (.ireturn, 1) := dk_172 (dk_at dksX0_dependsOn_0 23 rfl rfl)
theorem dX0_dependsOn_24 : decode cX0_dependsOn 24 = .ok (.astore 4, 2) := dk_58 4 (dk_at dksX0_dependsOn_1 0 rfl rfl)
theorem dX0_dependsOn_26 : decode cX0_dependsOn 26 = .ok (.iconst 2, 1) := dk_5 (dk_at dksX0_dependsOn_1 2 rfl rfl)
theorem dX0_dependsOn_27 : decode cX0_dependsOn 27 = .ok (.ireturn, 1) := dk_172 (dk_at dksX0_dependsOn_1 3 rfl rfl)
theorem dX0_dependsOn_28 : decode cX0_dependsOn 28 = .ok (.iconst 0, 1) := dk_3 (dk_at dksX0_dependsOn_1 4 rfl rfl)
theorem dX0_dependsOn_29 : decode cX0_dependsOn 29 = .ok (.ireturn, 1) := dk_172 (dk_at dksX0_dependsOn_1 5 rfl rfl)
abbrev cX0_whyNot : ByteArray := method_29_code
def yX0_whyNot : MethodName := ⟨RX0, "whyNot", "(LRulehearth;II[J)I"⟩
def dkwX0_whyNot_0 : List UInt8 := [45, 3, 42, 27, 28, 182, 0, 101, 133, 80, 167, 0, 11, 58, 4, 4, 172, 58, 4, 5, 172, 3, 172]
abbrev dktX0_whyNot_0 : List UInt8 := dkwX0_whyNot_0 ++ []
theorem dksX0_whyNot_0 : cX0_whyNot.data.toList.drop 0 = dktX0_whyNot_0 := by decide +kernel
theorem dX0_whyNot_0 : decode cX0_whyNot 0 = .ok (.aload_n 3, 1) := dk_45 (dk_at dksX0_whyNot_0 0 rfl rfl)
theorem dX0_whyNot_1 : decode cX0_whyNot 1 = .ok (.iconst 0, 1) := dk_3 (dk_at dksX0_whyNot_0 1 rfl rfl)
theorem dX0_whyNot_2 : decode cX0_whyNot 2 = .ok (.aload_n 0, 1) := dk_42 (dk_at dksX0_whyNot_0 2 rfl rfl)
theorem dX0_whyNot_3 : decode cX0_whyNot 3 = .ok (.iload_n 1, 1) := dk_27 (dk_at dksX0_whyNot_0 3 rfl rfl)
theorem dX0_whyNot_4 : decode cX0_whyNot 4 = .ok (.iload_n 2, 1) := dk_28 (dk_at dksX0_whyNot_0 4 rfl rfl)
theorem dX0_whyNot_5 : decode cX0_whyNot 5 = .ok (.invokevirtual 101, 3) := dk_182 0 101 (dk_at dksX0_whyNot_0 5 rfl rfl)
theorem dX0_whyNot_8 : decode cX0_whyNot 8 = .ok (.i2l, 1) := dk_133 (dk_at dksX0_whyNot_0 8 rfl rfl)
theorem dX0_whyNot_9 : decode cX0_whyNot 9 = .ok (.lastore, 1) := dk_80 (dk_at dksX0_whyNot_0 9 rfl rfl)
theorem dX0_whyNot_10 : decode cX0_whyNot 10 = .ok (.goto 11, 3) := dk_167 0 11 (dk_at dksX0_whyNot_0 10 rfl rfl)
theorem dX0_whyNot_13 : decode cX0_whyNot 13 = .ok (.astore 4, 2) := dk_58 4 (dk_at dksX0_whyNot_0 13 rfl rfl)
theorem dX0_whyNot_15 : decode cX0_whyNot 15 = .ok (.iconst 1, 1) := dk_4 (dk_at dksX0_whyNot_0 15 rfl rfl)
theorem dX0_whyNot_16 : decode cX0_whyNot 16 = .ok (.ireturn, 1) := dk_172 (dk_at dksX0_whyNot_0 16 rfl rfl)
theorem dX0_whyNot_17 : decode cX0_whyNot 17 = .ok (.astore 4, 2) := dk_58 4 (dk_at dksX0_whyNot_0 17 rfl rfl)
theorem dX0_whyNot_19 : decode cX0_whyNot 19 = .ok (.iconst 2, 1) := dk_5 (dk_at dksX0_whyNot_0 19 rfl rfl)
theorem dX0_whyNot_20 : decode cX0_whyNot 20 = .ok (.ireturn, 1) := dk_172 (dk_at dksX0_whyNot_0 20 rfl rfl)
theorem dX0_whyNot_21 : decode cX0_whyNot 21 = .ok (.iconst 0, 1) := dk_3 (dk_at dksX0_whyNot_0 21 rfl rfl)
theorem dX0_whyNot_22 : decode cX0_whyNot 22 = .ok (.ireturn, 1) := dk_172 (dk_at dksX0_whyNot_0 22 rfl rfl)
abbrev cX0_answers : ByteArray := method_30_code
def yX0_answers : MethodName := ⟨RX0, "answers", "(LRulehearth;IIII[J)I"⟩
def dkwX0_answers_1 : List UInt8 := [172, 3, 172]
abbrev dktX0_answers_1 : List UInt8 := dkwX0_answers_1 ++ []
def dkwX0_answers_0 : List UInt8 := [25, 5, 3, 42, 27, 28, 29, 21, 4, 182, 0, 104, 133, 80, 167, 0, 11, 58, 6, 4, 172, 58, 6, 5]
abbrev dktX0_answers_0 : List UInt8 := dkwX0_answers_0 ++ dktX0_answers_1
theorem dksX0_answers_0 : cX0_answers.data.toList.drop 0 = dktX0_answers_0 := by decide +kernel
theorem dksX0_answers_1 : cX0_answers.data.toList.drop 24 = dktX0_answers_1 := dk_seg dksX0_answers_0 24 rfl rfl
theorem dX0_answers_0 : decode cX0_answers 0 = .ok (.aload 5, 2) := dk_25 5 (dk_at dksX0_answers_0 0 rfl rfl)
theorem dX0_answers_2 : decode cX0_answers 2 = .ok (.iconst 0, 1) := dk_3 (dk_at dksX0_answers_0 2 rfl rfl)
theorem dX0_answers_3 : decode cX0_answers 3 = .ok (.aload_n 0, 1) := dk_42 (dk_at dksX0_answers_0 3 rfl rfl)
theorem dX0_answers_4 : decode cX0_answers 4 = .ok (.iload_n 1, 1) := dk_27 (dk_at dksX0_answers_0 4 rfl rfl)
theorem dX0_answers_5 : decode cX0_answers 5 = .ok (.iload_n 2, 1) := dk_28 (dk_at dksX0_answers_0 5 rfl rfl)
theorem dX0_answers_6 : decode cX0_answers 6 = .ok (.iload_n 3, 1) := dk_29 (dk_at dksX0_answers_0 6 rfl rfl)
theorem dX0_answers_7 : decode cX0_answers 7 = .ok (.iload 4, 2) := dk_21 4 (dk_at dksX0_answers_0 7 rfl rfl)
theorem dX0_answers_9 : decode cX0_answers 9 = .ok (.invokevirtual 104, 3) := dk_182 0 104 (dk_at dksX0_answers_0 9 rfl rfl)
theorem dX0_answers_12 : decode cX0_answers 12 = .ok (.i2l, 1) := dk_133 (dk_at dksX0_answers_0 12 rfl rfl)
theorem dX0_answers_13 : decode cX0_answers 13 = .ok (.lastore, 1) := dk_80 (dk_at dksX0_answers_0 13 rfl rfl)
theorem dX0_answers_14 : decode cX0_answers 14 = .ok (.goto 11, 3) := dk_167 0 11 (dk_at dksX0_answers_0 14 rfl rfl)
theorem dX0_answers_17 : decode cX0_answers 17 = .ok (.astore 6, 2) := dk_58 6 (dk_at dksX0_answers_0 17 rfl rfl)
theorem dX0_answers_19 : decode cX0_answers 19 = .ok (.iconst 1, 1) := dk_4 (dk_at dksX0_answers_0 19 rfl rfl)
theorem dX0_answers_20 : decode cX0_answers 20 = .ok (.ireturn, 1) := dk_172 (dk_at dksX0_answers_0 20 rfl rfl)
theorem dX0_answers_21 : decode cX0_answers 21 = .ok (.astore 6, 2) := dk_58 6 (dk_at dksX0_answers_0 21 rfl rfl)
theorem dX0_answers_23 : decode cX0_answers 23 = .ok (.iconst 2, 1) := dk_5 (dk_at dksX0_answers_0 23 rfl rfl)
theorem dX0_answers_24 : decode cX0_answers 24 = .ok (.ireturn, 1) := dk_172 (dk_at dksX0_answers_1 0 rfl rfl)
theorem dX0_answers_25 : decode cX0_answers 25 = .ok (.iconst 0, 1) := dk_3 (dk_at dksX0_answers_1 1 rfl rfl)
theorem dX0_answers_26 : decode cX0_answers 26 = .ok (.ireturn, 1) := dk_172 (dk_at dksX0_answers_1 2 rfl rfl)
abbrev cX0_goals : ByteArray := method_31_code
def yX0_goals : MethodName := ⟨RX0, "goals", "(LRulehearth;IIII[J)I"⟩
def dkwX0_goals_1 : List UInt8 := [172, 3, 172]
abbrev dktX0_goals_1 : List UInt8 := dkwX0_goals_1 ++ []
def dkwX0_goals_0 : List UInt8 := [25, 5, 3, 42, 27, 28, 29, 21, 4, 182, 0, 108, 133, 80, 167, 0, 11, 58, 6, 4, 172, 58, 6, 5]
abbrev dktX0_goals_0 : List UInt8 := dkwX0_goals_0 ++ dktX0_goals_1
theorem dksX0_goals_0 : cX0_goals.data.toList.drop 0 = dktX0_goals_0 := by decide +kernel
theorem dksX0_goals_1 : cX0_goals.data.toList.drop 24 = dktX0_goals_1 := dk_seg dksX0_goals_0 24 rfl rfl
theorem dX0_goals_0 : decode cX0_goals 0 = .ok (.aload 5, 2) := dk_25 5 (dk_at dksX0_goals_0 0 rfl rfl)
theorem dX0_goals_2 : decode cX0_goals 2 = .ok (.iconst 0, 1) := dk_3 (dk_at dksX0_goals_0 2 rfl rfl)
theorem dX0_goals_3 : decode cX0_goals 3 = .ok (.aload_n 0, 1) := dk_42 (dk_at dksX0_goals_0 3 rfl rfl)
theorem dX0_goals_4 : decode cX0_goals 4 = .ok (.iload_n 1, 1) := dk_27 (dk_at dksX0_goals_0 4 rfl rfl)
theorem dX0_goals_5 : decode cX0_goals 5 = .ok (.iload_n 2, 1) := dk_28 (dk_at dksX0_goals_0 5 rfl rfl)
theorem dX0_goals_6 : decode cX0_goals 6 = .ok (.iload_n 3, 1) := dk_29 (dk_at dksX0_goals_0 6 rfl rfl)
theorem dX0_goals_7 : decode cX0_goals 7 = .ok (.iload 4, 2) := dk_21 4 (dk_at dksX0_goals_0 7 rfl rfl)
theorem dX0_goals_9 : decode cX0_goals 9 = .ok (.invokevirtual 108, 3) := dk_182 0 108 (dk_at dksX0_goals_0 9 rfl rfl)
theorem dX0_goals_12 : decode cX0_goals 12 = .ok (.i2l, 1) := dk_133 (dk_at dksX0_goals_0 12 rfl rfl)
theorem dX0_goals_13 : decode cX0_goals 13 = .ok (.lastore, 1) := dk_80 (dk_at dksX0_goals_0 13 rfl rfl)
theorem dX0_goals_14 : decode cX0_goals 14 = .ok (.goto 11, 3) := dk_167 0 11 (dk_at dksX0_goals_0 14 rfl rfl)
theorem dX0_goals_17 : decode cX0_goals 17 = .ok (.astore 6, 2) := dk_58 6 (dk_at dksX0_goals_0 17 rfl rfl)
theorem dX0_goals_19 : decode cX0_goals 19 = .ok (.iconst 1, 1) := dk_4 (dk_at dksX0_goals_0 19 rfl rfl)
theorem dX0_goals_20 : decode cX0_goals 20 = .ok (.ireturn, 1) := dk_172 (dk_at dksX0_goals_0 20 rfl rfl)
theorem dX0_goals_21 : decode cX0_goals 21 = .ok (.astore 6, 2) := dk_58 6 (dk_at dksX0_goals_0 21 rfl rfl)
theorem dX0_goals_23 : decode cX0_goals 23 = .ok (.iconst 2, 1) := dk_5 (dk_at dksX0_goals_0 23 rfl rfl)
theorem dX0_goals_24 : decode cX0_goals 24 = .ok (.ireturn, 1) := dk_172 (dk_at dksX0_goals_1 0 rfl rfl)
theorem dX0_goals_25 : decode cX0_goals 25 = .ok (.iconst 0, 1) := dk_3 (dk_at dksX0_goals_1 1 rfl rfl)
theorem dX0_goals_26 : decode cX0_goals 26 = .ok (.ireturn, 1) := dk_172 (dk_at dksX0_goals_1 2 rfl rfl)
abbrev cX0_matches : ByteArray := method_32_code
def yX0_matches : MethodName := ⟨RX0, "matches", "(LRulehearth;II[J)I"⟩
def dkwX0_matches_0 : List UInt8 := [45, 3, 42, 27, 28, 182, 0, 111, 133, 80, 167, 0, 11, 58, 4, 4, 172, 58, 4, 5, 172, 3, 172]
abbrev dktX0_matches_0 : List UInt8 := dkwX0_matches_0 ++ []
theorem dksX0_matches_0 : cX0_matches.data.toList.drop 0 = dktX0_matches_0 := by decide +kernel
theorem dX0_matches_0 : decode cX0_matches 0 = .ok (.aload_n 3, 1) := dk_45 (dk_at dksX0_matches_0 0 rfl rfl)
theorem dX0_matches_1 : decode cX0_matches 1 = .ok (.iconst 0, 1) := dk_3 (dk_at dksX0_matches_0 1 rfl rfl)
theorem dX0_matches_2 : decode cX0_matches 2 = .ok (.aload_n 0, 1) := dk_42 (dk_at dksX0_matches_0 2 rfl rfl)
theorem dX0_matches_3 : decode cX0_matches 3 = .ok (.iload_n 1, 1) := dk_27 (dk_at dksX0_matches_0 3 rfl rfl)
theorem dX0_matches_4 : decode cX0_matches 4 = .ok (.iload_n 2, 1) := dk_28 (dk_at dksX0_matches_0 4 rfl rfl)
theorem dX0_matches_5 : decode cX0_matches 5 = .ok (.invokevirtual 111, 3) := dk_182 0 111 (dk_at dksX0_matches_0 5 rfl rfl)
theorem dX0_matches_8 : decode cX0_matches 8 = .ok (.i2l, 1) := dk_133 (dk_at dksX0_matches_0 8 rfl rfl)
theorem dX0_matches_9 : decode cX0_matches 9 = .ok (.lastore, 1) := dk_80 (dk_at dksX0_matches_0 9 rfl rfl)
theorem dX0_matches_10 : decode cX0_matches 10 = .ok (.goto 11, 3) := dk_167 0 11 (dk_at dksX0_matches_0 10 rfl rfl)
theorem dX0_matches_13 : decode cX0_matches 13 = .ok (.astore 4, 2) := dk_58 4 (dk_at dksX0_matches_0 13 rfl rfl)
theorem dX0_matches_15 : decode cX0_matches 15 = .ok (.iconst 1, 1) := dk_4 (dk_at dksX0_matches_0 15 rfl rfl)
theorem dX0_matches_16 : decode cX0_matches 16 = .ok (.ireturn, 1) := dk_172 (dk_at dksX0_matches_0 16 rfl rfl)
theorem dX0_matches_17 : decode cX0_matches 17 = .ok (.astore 4, 2) := dk_58 4 (dk_at dksX0_matches_0 17 rfl rfl)
theorem dX0_matches_19 : decode cX0_matches 19 = .ok (.iconst 2, 1) := dk_5 (dk_at dksX0_matches_0 19 rfl rfl)
theorem dX0_matches_20 : decode cX0_matches 20 = .ok (.ireturn, 1) := dk_172 (dk_at dksX0_matches_0 20 rfl rfl)
theorem dX0_matches_21 : decode cX0_matches 21 = .ok (.iconst 0, 1) := dk_3 (dk_at dksX0_matches_0 21 rfl rfl)
theorem dX0_matches_22 : decode cX0_matches 22 = .ok (.ireturn, 1) := dk_172 (dk_at dksX0_matches_0 22 rfl rfl)
abbrev cX0_planAt : ByteArray := method_33_code
def yX0_planAt : MethodName := ⟨RX0, "planAt", "(LRulehearth;II[J)I"⟩
def dkwX0_planAt_0 : List UInt8 := [45, 3, 42, 27, 28, 182, 0, 114, 133, 80, 167, 0, 7, 58, 4, 4, 172, 3, 172]
abbrev dktX0_planAt_0 : List UInt8 := dkwX0_planAt_0 ++ []
theorem dksX0_planAt_0 : cX0_planAt.data.toList.drop 0 = dktX0_planAt_0 := by decide +kernel
theorem dX0_planAt_0 : decode cX0_planAt 0 = .ok (.aload_n 3, 1) := dk_45 (dk_at dksX0_planAt_0 0 rfl rfl)
theorem dX0_planAt_1 : decode cX0_planAt 1 = .ok (.iconst 0, 1) := dk_3 (dk_at dksX0_planAt_0 1 rfl rfl)
theorem dX0_planAt_2 : decode cX0_planAt 2 = .ok (.aload_n 0, 1) := dk_42 (dk_at dksX0_planAt_0 2 rfl rfl)
theorem dX0_planAt_3 : decode cX0_planAt 3 = .ok (.iload_n 1, 1) := dk_27 (dk_at dksX0_planAt_0 3 rfl rfl)
theorem dX0_planAt_4 : decode cX0_planAt 4 = .ok (.iload_n 2, 1) := dk_28 (dk_at dksX0_planAt_0 4 rfl rfl)
theorem dX0_planAt_5 : decode cX0_planAt 5 = .ok (.invokevirtual 114, 3) := dk_182 0 114 (dk_at dksX0_planAt_0 5 rfl rfl)
theorem dX0_planAt_8 : decode cX0_planAt 8 = .ok (.i2l, 1) := dk_133 (dk_at dksX0_planAt_0 8 rfl rfl)
theorem dX0_planAt_9 : decode cX0_planAt 9 = .ok (.lastore, 1) := dk_80 (dk_at dksX0_planAt_0 9 rfl rfl)
theorem dX0_planAt_10 : decode cX0_planAt 10 = .ok (.goto 7, 3) := dk_167 0 7 (dk_at dksX0_planAt_0 10 rfl rfl)
theorem dX0_planAt_13 : decode cX0_planAt 13 = .ok (.astore 4, 2) := dk_58 4 (dk_at dksX0_planAt_0 13 rfl rfl)
theorem dX0_planAt_15 : decode cX0_planAt 15 = .ok (.iconst 1, 1) := dk_4 (dk_at dksX0_planAt_0 15 rfl rfl)
theorem dX0_planAt_16 : decode cX0_planAt 16 = .ok (.ireturn, 1) := dk_172 (dk_at dksX0_planAt_0 16 rfl rfl)
theorem dX0_planAt_17 : decode cX0_planAt 17 = .ok (.iconst 0, 1) := dk_3 (dk_at dksX0_planAt_0 17 rfl rfl)
theorem dX0_planAt_18 : decode cX0_planAt 18 = .ok (.ireturn, 1) := dk_172 (dk_at dksX0_planAt_0 18 rfl rfl)
abbrev cX0_work : ByteArray := method_34_code
def yX0_work : MethodName := ⟨RX0, "work", "(LRulehearth;IZ[J)I"⟩
def dkwX0_work_0 : List UInt8 := [45, 3, 42, 27, 28, 182, 0, 117, 133, 80, 167, 0, 7, 58, 4, 4, 172, 3, 172]
abbrev dktX0_work_0 : List UInt8 := dkwX0_work_0 ++ []
theorem dksX0_work_0 : cX0_work.data.toList.drop 0 = dktX0_work_0 := by decide +kernel
theorem dX0_work_0 : decode cX0_work 0 = .ok (.aload_n 3, 1) := dk_45 (dk_at dksX0_work_0 0 rfl rfl)
theorem dX0_work_1 : decode cX0_work 1 = .ok (.iconst 0, 1) := dk_3 (dk_at dksX0_work_0 1 rfl rfl)
theorem dX0_work_2 : decode cX0_work 2 = .ok (.aload_n 0, 1) := dk_42 (dk_at dksX0_work_0 2 rfl rfl)
theorem dX0_work_3 : decode cX0_work 3 = .ok (.iload_n 1, 1) := dk_27 (dk_at dksX0_work_0 3 rfl rfl)
theorem dX0_work_4 : decode cX0_work 4 = .ok (.iload_n 2, 1) := dk_28 (dk_at dksX0_work_0 4 rfl rfl)
theorem dX0_work_5 : decode cX0_work 5 = .ok (.invokevirtual 117, 3) := dk_182 0 117 (dk_at dksX0_work_0 5 rfl rfl)
theorem dX0_work_8 : decode cX0_work 8 = .ok (.i2l, 1) := dk_133 (dk_at dksX0_work_0 8 rfl rfl)
theorem dX0_work_9 : decode cX0_work 9 = .ok (.lastore, 1) := dk_80 (dk_at dksX0_work_0 9 rfl rfl)
theorem dX0_work_10 : decode cX0_work 10 = .ok (.goto 7, 3) := dk_167 0 7 (dk_at dksX0_work_0 10 rfl rfl)
theorem dX0_work_13 : decode cX0_work 13 = .ok (.astore 4, 2) := dk_58 4 (dk_at dksX0_work_0 13 rfl rfl)
theorem dX0_work_15 : decode cX0_work 15 = .ok (.iconst 1, 1) := dk_4 (dk_at dksX0_work_0 15 rfl rfl)
theorem dX0_work_16 : decode cX0_work 16 = .ok (.ireturn, 1) := dk_172 (dk_at dksX0_work_0 16 rfl rfl)
theorem dX0_work_17 : decode cX0_work 17 = .ok (.iconst 0, 1) := dk_3 (dk_at dksX0_work_0 17 rfl rfl)
theorem dX0_work_18 : decode cX0_work 18 = .ok (.ireturn, 1) := dk_172 (dk_at dksX0_work_0 18 rfl rfl)
abbrev cX0_agenda : ByteArray := method_35_code
def yX0_agenda : MethodName := ⟨RX0, "agenda", "(LRulehearth;I[J)I"⟩
def dkwX0_agenda_0 : List UInt8 := [44, 3, 42, 27, 182, 0, 121, 133, 80, 167, 0, 6, 78, 4, 172, 3, 172]
abbrev dktX0_agenda_0 : List UInt8 := dkwX0_agenda_0 ++ []
theorem dksX0_agenda_0 : cX0_agenda.data.toList.drop 0 = dktX0_agenda_0 := by decide +kernel
theorem dX0_agenda_0 : decode cX0_agenda 0 = .ok (.aload_n 2, 1) := dk_44 (dk_at dksX0_agenda_0 0 rfl rfl)
theorem dX0_agenda_1 : decode cX0_agenda 1 = .ok (.iconst 0, 1) := dk_3 (dk_at dksX0_agenda_0 1 rfl rfl)
theorem dX0_agenda_2 : decode cX0_agenda 2 = .ok (.aload_n 0, 1) := dk_42 (dk_at dksX0_agenda_0 2 rfl rfl)
theorem dX0_agenda_3 : decode cX0_agenda 3 = .ok (.iload_n 1, 1) := dk_27 (dk_at dksX0_agenda_0 3 rfl rfl)
theorem dX0_agenda_4 : decode cX0_agenda 4 = .ok (.invokevirtual 121, 3) := dk_182 0 121 (dk_at dksX0_agenda_0 4 rfl rfl)
theorem dX0_agenda_7 : decode cX0_agenda 7 = .ok (.i2l, 1) := dk_133 (dk_at dksX0_agenda_0 7 rfl rfl)
theorem dX0_agenda_8 : decode cX0_agenda 8 = .ok (.lastore, 1) := dk_80 (dk_at dksX0_agenda_0 8 rfl rfl)
theorem dX0_agenda_9 : decode cX0_agenda 9 = .ok (.goto 6, 3) := dk_167 0 6 (dk_at dksX0_agenda_0 9 rfl rfl)
theorem dX0_agenda_12 : decode cX0_agenda 12 = .ok (.astore_n 3, 1) := dk_78 (dk_at dksX0_agenda_0 12 rfl rfl)
theorem dX0_agenda_13 : decode cX0_agenda 13 = .ok (.iconst 1, 1) := dk_4 (dk_at dksX0_agenda_0 13 rfl rfl)
theorem dX0_agenda_14 : decode cX0_agenda 14 = .ok (.ireturn, 1) := dk_172 (dk_at dksX0_agenda_0 14 rfl rfl)
theorem dX0_agenda_15 : decode cX0_agenda 15 = .ok (.iconst 0, 1) := dk_3 (dk_at dksX0_agenda_0 15 rfl rfl)
theorem dX0_agenda_16 : decode cX0_agenda 16 = .ok (.ireturn, 1) := dk_172 (dk_at dksX0_agenda_0 16 rfl rfl)
abbrev cX0_fire : ByteArray := method_36_code
def yX0_fire : MethodName := ⟨RX0, "fire", "(LRulehearth;[J)I"⟩
def dkwX0_fire_0 : List UInt8 := [43, 3, 42, 182, 0, 124, 133, 80, 167, 0, 6, 77, 4, 172, 3, 172]
abbrev dktX0_fire_0 : List UInt8 := dkwX0_fire_0 ++ []
theorem dksX0_fire_0 : cX0_fire.data.toList.drop 0 = dktX0_fire_0 := by decide +kernel
theorem dX0_fire_0 : decode cX0_fire 0 = .ok (.aload_n 1, 1) := dk_43 (dk_at dksX0_fire_0 0 rfl rfl)
theorem dX0_fire_1 : decode cX0_fire 1 = .ok (.iconst 0, 1) := dk_3 (dk_at dksX0_fire_0 1 rfl rfl)
theorem dX0_fire_2 : decode cX0_fire 2 = .ok (.aload_n 0, 1) := dk_42 (dk_at dksX0_fire_0 2 rfl rfl)
theorem dX0_fire_3 : decode cX0_fire 3 = .ok (.invokevirtual 124, 3) := dk_182 0 124 (dk_at dksX0_fire_0 3 rfl rfl)
theorem dX0_fire_6 : decode cX0_fire 6 = .ok (.i2l, 1) := dk_133 (dk_at dksX0_fire_0 6 rfl rfl)
theorem dX0_fire_7 : decode cX0_fire 7 = .ok (.lastore, 1) := dk_80 (dk_at dksX0_fire_0 7 rfl rfl)
theorem dX0_fire_8 : decode cX0_fire 8 = .ok (.goto 6, 3) := dk_167 0 6 (dk_at dksX0_fire_0 8 rfl rfl)
theorem dX0_fire_11 : decode cX0_fire 11 = .ok (.astore_n 2, 1) := dk_77 (dk_at dksX0_fire_0 11 rfl rfl)
theorem dX0_fire_12 : decode cX0_fire 12 = .ok (.iconst 1, 1) := dk_4 (dk_at dksX0_fire_0 12 rfl rfl)
theorem dX0_fire_13 : decode cX0_fire 13 = .ok (.ireturn, 1) := dk_172 (dk_at dksX0_fire_0 13 rfl rfl)
theorem dX0_fire_14 : decode cX0_fire 14 = .ok (.iconst 0, 1) := dk_3 (dk_at dksX0_fire_0 14 rfl rfl)
theorem dX0_fire_15 : decode cX0_fire 15 = .ok (.ireturn, 1) := dk_172 (dk_at dksX0_fire_0 15 rfl rfl)
abbrev cX0_run : ByteArray := method_37_code
def yX0_run : MethodName := ⟨RX0, "run", "(LRulehearth;I[J)I"⟩
def dkwX0_run_0 : List UInt8 := [44, 3, 42, 27, 182, 0, 127, 133, 80, 167, 0, 6, 78, 4, 172, 3, 172]
abbrev dktX0_run_0 : List UInt8 := dkwX0_run_0 ++ []
theorem dksX0_run_0 : cX0_run.data.toList.drop 0 = dktX0_run_0 := by decide +kernel
theorem dX0_run_0 : decode cX0_run 0 = .ok (.aload_n 2, 1) := dk_44 (dk_at dksX0_run_0 0 rfl rfl)
theorem dX0_run_1 : decode cX0_run 1 = .ok (.iconst 0, 1) := dk_3 (dk_at dksX0_run_0 1 rfl rfl)
theorem dX0_run_2 : decode cX0_run 2 = .ok (.aload_n 0, 1) := dk_42 (dk_at dksX0_run_0 2 rfl rfl)
theorem dX0_run_3 : decode cX0_run 3 = .ok (.iload_n 1, 1) := dk_27 (dk_at dksX0_run_0 3 rfl rfl)
theorem dX0_run_4 : decode cX0_run 4 = .ok (.invokevirtual 127, 3) := dk_182 0 127 (dk_at dksX0_run_0 4 rfl rfl)
theorem dX0_run_7 : decode cX0_run 7 = .ok (.i2l, 1) := dk_133 (dk_at dksX0_run_0 7 rfl rfl)
theorem dX0_run_8 : decode cX0_run 8 = .ok (.lastore, 1) := dk_80 (dk_at dksX0_run_0 8 rfl rfl)
theorem dX0_run_9 : decode cX0_run 9 = .ok (.goto 6, 3) := dk_167 0 6 (dk_at dksX0_run_0 9 rfl rfl)
theorem dX0_run_12 : decode cX0_run 12 = .ok (.astore_n 3, 1) := dk_78 (dk_at dksX0_run_0 12 rfl rfl)
theorem dX0_run_13 : decode cX0_run 13 = .ok (.iconst 1, 1) := dk_4 (dk_at dksX0_run_0 13 rfl rfl)
theorem dX0_run_14 : decode cX0_run 14 = .ok (.ireturn, 1) := dk_172 (dk_at dksX0_run_0 14 rfl rfl)
theorem dX0_run_15 : decode cX0_run 15 = .ok (.iconst 0, 1) := dk_3 (dk_at dksX0_run_0 15 rfl rfl)
theorem dX0_run_16 : decode cX0_run 16 = .ok (.ireturn, 1) := dk_172 (dk_at dksX0_run_0 16 rfl rfl)
abbrev cX0_focus : ByteArray := method_38_code
def yX0_focus : MethodName := ⟨RX0, "focus", "(LRulehearth;I[J)I"⟩
def dkwX0_focus_0 : List UInt8 := [44, 3, 42, 27, 182, 0, 130, 133, 80, 167, 0, 9, 78, 4, 172, 78, 5, 172, 3, 172]
abbrev dktX0_focus_0 : List UInt8 := dkwX0_focus_0 ++ []
theorem dksX0_focus_0 : cX0_focus.data.toList.drop 0 = dktX0_focus_0 := by decide +kernel
theorem dX0_focus_0 : decode cX0_focus 0 = .ok (.aload_n 2, 1) := dk_44 (dk_at dksX0_focus_0 0 rfl rfl)
theorem dX0_focus_1 : decode cX0_focus 1 = .ok (.iconst 0, 1) := dk_3 (dk_at dksX0_focus_0 1 rfl rfl)
theorem dX0_focus_2 : decode cX0_focus 2 = .ok (.aload_n 0, 1) := dk_42 (dk_at dksX0_focus_0 2 rfl rfl)
theorem dX0_focus_3 : decode cX0_focus 3 = .ok (.iload_n 1, 1) := dk_27 (dk_at dksX0_focus_0 3 rfl rfl)
theorem dX0_focus_4 : decode cX0_focus 4 = .ok (.invokevirtual 130, 3) := dk_182 0 130 (dk_at dksX0_focus_0 4 rfl rfl)
theorem dX0_focus_7 : decode cX0_focus 7 = .ok (.i2l, 1) := dk_133 (dk_at dksX0_focus_0 7 rfl rfl)
theorem dX0_focus_8 : decode cX0_focus 8 = .ok (.lastore, 1) := dk_80 (dk_at dksX0_focus_0 8 rfl rfl)
theorem dX0_focus_9 : decode cX0_focus 9 = .ok (.goto 9, 3) := dk_167 0 9 (dk_at dksX0_focus_0 9 rfl rfl)
theorem dX0_focus_12 : decode cX0_focus 12 = .ok (.astore_n 3, 1) := dk_78 (dk_at dksX0_focus_0 12 rfl rfl)
theorem dX0_focus_13 : decode cX0_focus 13 = .ok (.iconst 1, 1) := dk_4 (dk_at dksX0_focus_0 13 rfl rfl)
theorem dX0_focus_14 : decode cX0_focus 14 = .ok (.ireturn, 1) := dk_172 (dk_at dksX0_focus_0 14 rfl rfl)
theorem dX0_focus_15 : decode cX0_focus 15 = .ok (.astore_n 3, 1) := dk_78 (dk_at dksX0_focus_0 15 rfl rfl)
theorem dX0_focus_16 : decode cX0_focus 16 = .ok (.iconst 2, 1) := dk_5 (dk_at dksX0_focus_0 16 rfl rfl)
theorem dX0_focus_17 : decode cX0_focus 17 = .ok (.ireturn, 1) := dk_172 (dk_at dksX0_focus_0 17 rfl rfl)
theorem dX0_focus_18 : decode cX0_focus 18 = .ok (.iconst 0, 1) := dk_3 (dk_at dksX0_focus_0 18 rfl rfl)
theorem dX0_focus_19 : decode cX0_focus 19 = .ok (.ireturn, 1) := dk_172 (dk_at dksX0_focus_0 19 rfl rfl)
abbrev cX0_tick : ByteArray := method_39_code
def yX0_tick : MethodName := ⟨RX0, "tick", "(LRulehearth;I[J)I"⟩
def dkwX0_tick_0 : List UInt8 := [44, 3, 42, 27, 182, 0, 133, 133, 80, 167, 0, 9, 78, 4, 172, 78, 5, 172, 3, 172]
abbrev dktX0_tick_0 : List UInt8 := dkwX0_tick_0 ++ []
theorem dksX0_tick_0 : cX0_tick.data.toList.drop 0 = dktX0_tick_0 := by decide +kernel
theorem dX0_tick_0 : decode cX0_tick 0 = .ok (.aload_n 2, 1) := dk_44 (dk_at dksX0_tick_0 0 rfl rfl)
theorem dX0_tick_1 : decode cX0_tick 1 = .ok (.iconst 0, 1) := dk_3 (dk_at dksX0_tick_0 1 rfl rfl)
theorem dX0_tick_2 : decode cX0_tick 2 = .ok (.aload_n 0, 1) := dk_42 (dk_at dksX0_tick_0 2 rfl rfl)
theorem dX0_tick_3 : decode cX0_tick 3 = .ok (.iload_n 1, 1) := dk_27 (dk_at dksX0_tick_0 3 rfl rfl)
theorem dX0_tick_4 : decode cX0_tick 4 = .ok (.invokevirtual 133, 3) := dk_182 0 133 (dk_at dksX0_tick_0 4 rfl rfl)
theorem dX0_tick_7 : decode cX0_tick 7 = .ok (.i2l, 1) := dk_133 (dk_at dksX0_tick_0 7 rfl rfl)
theorem dX0_tick_8 : decode cX0_tick 8 = .ok (.lastore, 1) := dk_80 (dk_at dksX0_tick_0 8 rfl rfl)
theorem dX0_tick_9 : decode cX0_tick 9 = .ok (.goto 9, 3) := dk_167 0 9 (dk_at dksX0_tick_0 9 rfl rfl)
theorem dX0_tick_12 : decode cX0_tick 12 = .ok (.astore_n 3, 1) := dk_78 (dk_at dksX0_tick_0 12 rfl rfl)
theorem dX0_tick_13 : decode cX0_tick 13 = .ok (.iconst 1, 1) := dk_4 (dk_at dksX0_tick_0 13 rfl rfl)
theorem dX0_tick_14 : decode cX0_tick 14 = .ok (.ireturn, 1) := dk_172 (dk_at dksX0_tick_0 14 rfl rfl)
theorem dX0_tick_15 : decode cX0_tick 15 = .ok (.astore_n 3, 1) := dk_78 (dk_at dksX0_tick_0 15 rfl rfl)
theorem dX0_tick_16 : decode cX0_tick 16 = .ok (.iconst 2, 1) := dk_5 (dk_at dksX0_tick_0 16 rfl rfl)
theorem dX0_tick_17 : decode cX0_tick 17 = .ok (.ireturn, 1) := dk_172 (dk_at dksX0_tick_0 17 rfl rfl)
theorem dX0_tick_18 : decode cX0_tick 18 = .ok (.iconst 0, 1) := dk_3 (dk_at dksX0_tick_0 18 rfl rfl)
theorem dX0_tick_19 : decode cX0_tick 19 = .ok (.ireturn, 1) := dk_172 (dk_at dksX0_tick_0 19 rfl rfl)
abbrev cX0_begin : ByteArray := method_40_code
def yX0_begin : MethodName := ⟨RX0, "begin", "(LRulehearth;[J)I"⟩
def dkwX0_begin_0 : List UInt8 := [43, 3, 42, 182, 0, 136, 133, 80, 167, 0, 6, 77, 4, 172, 3, 172]
abbrev dktX0_begin_0 : List UInt8 := dkwX0_begin_0 ++ []
theorem dksX0_begin_0 : cX0_begin.data.toList.drop 0 = dktX0_begin_0 := by decide +kernel
theorem dX0_begin_0 : decode cX0_begin 0 = .ok (.aload_n 1, 1) := dk_43 (dk_at dksX0_begin_0 0 rfl rfl)
theorem dX0_begin_1 : decode cX0_begin 1 = .ok (.iconst 0, 1) := dk_3 (dk_at dksX0_begin_0 1 rfl rfl)
theorem dX0_begin_2 : decode cX0_begin 2 = .ok (.aload_n 0, 1) := dk_42 (dk_at dksX0_begin_0 2 rfl rfl)
theorem dX0_begin_3 : decode cX0_begin 3 = .ok (.invokevirtual 136, 3) := dk_182 0 136 (dk_at dksX0_begin_0 3 rfl rfl)
theorem dX0_begin_6 : decode cX0_begin 6 = .ok (.i2l, 1) := dk_133 (dk_at dksX0_begin_0 6 rfl rfl)
theorem dX0_begin_7 : decode cX0_begin 7 = .ok (.lastore, 1) := dk_80 (dk_at dksX0_begin_0 7 rfl rfl)
theorem dX0_begin_8 : decode cX0_begin 8 = .ok (.goto 6, 3) := dk_167 0 6 (dk_at dksX0_begin_0 8 rfl rfl)
theorem dX0_begin_11 : decode cX0_begin 11 = .ok (.astore_n 2, 1) := dk_77 (dk_at dksX0_begin_0 11 rfl rfl)
theorem dX0_begin_12 : decode cX0_begin 12 = .ok (.iconst 1, 1) := dk_4 (dk_at dksX0_begin_0 12 rfl rfl)
theorem dX0_begin_13 : decode cX0_begin 13 = .ok (.ireturn, 1) := dk_172 (dk_at dksX0_begin_0 13 rfl rfl)
theorem dX0_begin_14 : decode cX0_begin 14 = .ok (.iconst 0, 1) := dk_3 (dk_at dksX0_begin_0 14 rfl rfl)
theorem dX0_begin_15 : decode cX0_begin 15 = .ok (.ireturn, 1) := dk_172 (dk_at dksX0_begin_0 15 rfl rfl)
abbrev cX0_commit : ByteArray := method_41_code
def yX0_commit : MethodName := ⟨RX0, "commit", "(LRulehearth;[J)I"⟩
def dkwX0_commit_0 : List UInt8 := [43, 3, 42, 182, 0, 139, 133, 80, 167, 0, 6, 77, 4, 172, 3, 172]
abbrev dktX0_commit_0 : List UInt8 := dkwX0_commit_0 ++ []
theorem dksX0_commit_0 : cX0_commit.data.toList.drop 0 = dktX0_commit_0 := by decide +kernel
theorem dX0_commit_0 : decode cX0_commit 0 = .ok (.aload_n 1, 1) := dk_43 (dk_at dksX0_commit_0 0 rfl rfl)
theorem dX0_commit_1 : decode cX0_commit 1 = .ok (.iconst 0, 1) := dk_3 (dk_at dksX0_commit_0 1 rfl rfl)
theorem dX0_commit_2 : decode cX0_commit 2 = .ok (.aload_n 0, 1) := dk_42 (dk_at dksX0_commit_0 2 rfl rfl)
theorem dX0_commit_3 : decode cX0_commit 3 = .ok (.invokevirtual 139, 3) := dk_182 0 139 (dk_at dksX0_commit_0 3 rfl rfl)
theorem dX0_commit_6 : decode cX0_commit 6 = .ok (.i2l, 1) := dk_133 (dk_at dksX0_commit_0 6 rfl rfl)
theorem dX0_commit_7 : decode cX0_commit 7 = .ok (.lastore, 1) := dk_80 (dk_at dksX0_commit_0 7 rfl rfl)
theorem dX0_commit_8 : decode cX0_commit 8 = .ok (.goto 6, 3) := dk_167 0 6 (dk_at dksX0_commit_0 8 rfl rfl)
theorem dX0_commit_11 : decode cX0_commit 11 = .ok (.astore_n 2, 1) := dk_77 (dk_at dksX0_commit_0 11 rfl rfl)
theorem dX0_commit_12 : decode cX0_commit 12 = .ok (.iconst 1, 1) := dk_4 (dk_at dksX0_commit_0 12 rfl rfl)
theorem dX0_commit_13 : decode cX0_commit 13 = .ok (.ireturn, 1) := dk_172 (dk_at dksX0_commit_0 13 rfl rfl)
theorem dX0_commit_14 : decode cX0_commit 14 = .ok (.iconst 0, 1) := dk_3 (dk_at dksX0_commit_0 14 rfl rfl)
theorem dX0_commit_15 : decode cX0_commit 15 = .ok (.ireturn, 1) := dk_172 (dk_at dksX0_commit_0 15 rfl rfl)
abbrev cX0_rollBack : ByteArray := method_42_code
def yX0_rollBack : MethodName := ⟨RX0, "rollBack", "(LRulehearth;[J)I"⟩
def dkwX0_rollBack_0 : List UInt8 := [43, 3, 42, 182, 0, 142, 133, 80, 167, 0, 6, 77, 4, 172, 3, 172]
abbrev dktX0_rollBack_0 : List UInt8 := dkwX0_rollBack_0 ++ []
theorem dksX0_rollBack_0 : cX0_rollBack.data.toList.drop 0 = dktX0_rollBack_0 := by decide +kernel
theorem dX0_rollBack_0 : decode cX0_rollBack 0 = .ok (.aload_n 1, 1) := dk_43 (dk_at dksX0_rollBack_0 0 rfl rfl)
theorem dX0_rollBack_1 : decode cX0_rollBack 1 = .ok (.iconst 0, 1) := dk_3 (dk_at dksX0_rollBack_0 1 rfl rfl)
theorem dX0_rollBack_2 : decode cX0_rollBack 2 = .ok (.aload_n 0, 1) := dk_42 (dk_at dksX0_rollBack_0 2 rfl rfl)
theorem dX0_rollBack_3 : decode cX0_rollBack 3 = .ok (.invokevirtual 142, 3) := dk_182 0 142 (dk_at dksX0_rollBack_0 3 rfl rfl)
theorem dX0_rollBack_6 : decode cX0_rollBack 6 = .ok (.i2l, 1) := dk_133 (dk_at dksX0_rollBack_0 6 rfl rfl)
theorem dX0_rollBack_7 : decode cX0_rollBack 7 = .ok (.lastore, 1) := dk_80 (dk_at dksX0_rollBack_0 7 rfl rfl)
theorem dX0_rollBack_8 : decode cX0_rollBack 8 = .ok (.goto 6, 3) := dk_167 0 6 (dk_at dksX0_rollBack_0 8 rfl rfl)
theorem dX0_rollBack_11 : decode cX0_rollBack 11 = .ok (.astore_n 2, 1) := dk_77 (dk_at dksX0_rollBack_0 11 rfl rfl)
theorem dX0_rollBack_12 : decode cX0_rollBack 12 = .ok (.iconst 1, 1) := dk_4 (dk_at dksX0_rollBack_0 12 rfl rfl)
theorem dX0_rollBack_13 : decode cX0_rollBack 13 = .ok (.ireturn, 1) := dk_172 (dk_at dksX0_rollBack_0 13 rfl rfl)
theorem dX0_rollBack_14 : decode cX0_rollBack 14 = .ok (.iconst 0, 1) := dk_3 (dk_at dksX0_rollBack_0 14 rfl rfl)
theorem dX0_rollBack_15 : decode cX0_rollBack 15 = .ok (.ireturn, 1) := dk_172 (dk_at dksX0_rollBack_0 15 rfl rfl)

abbrev cX1_init : ByteArray := prog_1_method_7_code
def yX1_init : MethodName := ⟨RX1, "<init>", "()V"⟩
def dkwX1_init_1 : List UInt8 := [181, 0, 30, 42, 180, 0, 21, 180, 0, 34, 3, 184, 0, 37, 182, 0, 42, 87, 177]
abbrev dktX1_init_1 : List UInt8 := dkwX1_init_1 ++ []
def dkwX1_init_0 : List UInt8 := [42, 183, 0, 12, 42, 187, 0, 18, 89, 183, 0, 20, 181, 0, 21, 42, 187, 0, 25, 89, 6, 183, 0, 27]
abbrev dktX1_init_0 : List UInt8 := dkwX1_init_0 ++ dktX1_init_1
theorem dksX1_init_0 : cX1_init.data.toList.drop 0 = dktX1_init_0 := by decide +kernel
theorem dksX1_init_1 : cX1_init.data.toList.drop 24 = dktX1_init_1 := dk_seg dksX1_init_0 24 rfl rfl
theorem dX1_init_0 : decode cX1_init 0 = .ok (.aload_n 0, 1) := dk_42 (dk_at dksX1_init_0 0 rfl rfl)
theorem dX1_init_1 : decode cX1_init 1 = .ok (.invokespecial 12, 3) := dk_183 0 12 (dk_at dksX1_init_0 1 rfl rfl)
theorem dX1_init_4 : decode cX1_init 4 = .ok (.aload_n 0, 1) := dk_42 (dk_at dksX1_init_0 4 rfl rfl)
theorem dX1_init_5 : decode cX1_init 5 = .ok (.new 18, 3) := dk_187 0 18 (dk_at dksX1_init_0 5 rfl rfl)
theorem dX1_init_8 : decode cX1_init 8 = .ok (.dup, 1) := dk_89 (dk_at dksX1_init_0 8 rfl rfl)
theorem dX1_init_9 : decode cX1_init 9 = .ok (.invokespecial 20, 3) := dk_183 0 20 (dk_at dksX1_init_0 9 rfl rfl)
theorem dX1_init_12 : decode cX1_init 12 = .ok (.putfield 21, 3) := dk_181 0 21 (dk_at dksX1_init_0 12 rfl rfl)
theorem dX1_init_15 : decode cX1_init 15 = .ok (.aload_n 0, 1) := dk_42 (dk_at dksX1_init_0 15 rfl rfl)
theorem dX1_init_16 : decode cX1_init 16 = .ok (.new 25, 3) := dk_187 0 25 (dk_at dksX1_init_0 16 rfl rfl)
theorem dX1_init_19 : decode cX1_init 19 = .ok (.dup, 1) := dk_89 (dk_at dksX1_init_0 19 rfl rfl)
theorem dX1_init_20 : decode cX1_init 20 = .ok (.iconst 3, 1) := dk_6 (dk_at dksX1_init_0 20 rfl rfl)
theorem dX1_init_21 : decode cX1_init 21 = .ok (.invokespecial 27, 3) := dk_183 0 27 (dk_at dksX1_init_0 21 rfl rfl)
theorem dX1_init_24 : decode cX1_init 24 = .ok (.putfield 30, 3) := dk_181 0 30 (dk_at dksX1_init_1 0 rfl rfl)
theorem dX1_init_27 : decode cX1_init 27 = .ok (.aload_n 0, 1) := dk_42 (dk_at dksX1_init_1 3 rfl rfl)
theorem dX1_init_28 : decode cX1_init 28 = .ok (.getfield 21, 3) := dk_180 0 21 (dk_at dksX1_init_1 4 rfl rfl)
theorem dX1_init_31 : decode cX1_init 31 = .ok (.getfield 34, 3) := dk_180 0 34 (dk_at dksX1_init_1 7 rfl rfl)
theorem dX1_init_34 : decode cX1_init 34 = .ok (.iconst 0, 1) := dk_3 (dk_at dksX1_init_1 10 rfl rfl)
theorem dX1_init_35 : decode cX1_init 35 = .ok (.invokestatic 37, 3) := dk_184 0 37 (dk_at dksX1_init_1 11 rfl rfl)
theorem dX1_init_38 : decode cX1_init 38 = .ok (.invokevirtual 42, 3) := dk_182 0 42 (dk_at dksX1_init_1 14 rfl rfl)
theorem dX1_init_41 : decode cX1_init 41 = .ok (.pop, 1) := dk_87 (dk_at dksX1_init_1 17 rfl rfl)
theorem dX1_init_42 : decode cX1_init 42 = .ok (.return_, 1) := dk_177 (dk_at dksX1_init_1 18 rfl rfl)
abbrev cX1_standing : ByteArray := prog_1_method_23_code
def yX1_standing : MethodName := ⟨RX1, "standing", "()I"⟩
def dkwX1_standing_0 : List UInt8 := [42, 180, 0, 21, 180, 0, 105, 180, 0, 109, 172]
abbrev dktX1_standing_0 : List UInt8 := dkwX1_standing_0 ++ []
theorem dksX1_standing_0 : cX1_standing.data.toList.drop 0 = dktX1_standing_0 := by decide +kernel
theorem dX1_standing_0 : decode cX1_standing 0 = .ok (.aload_n 0, 1) := dk_42 (dk_at dksX1_standing_0 0 rfl rfl)
theorem dX1_standing_1 : decode cX1_standing 1 = .ok (.getfield 21, 3) := dk_180 0 21 (dk_at dksX1_standing_0 1 rfl rfl)
theorem dX1_standing_4 : decode cX1_standing 4 = .ok (.getfield 105, 3) := dk_180 0 105 (dk_at dksX1_standing_0 4 rfl rfl)
theorem dX1_standing_7 : decode cX1_standing 7 = .ok (.getfield 109, 3) := dk_180 0 109 (dk_at dksX1_standing_0 7 rfl rfl)
theorem dX1_standing_10 : decode cX1_standing 10 = .ok (.ireturn, 1) := dk_172 (dk_at dksX1_standing_0 10 rfl rfl)
abbrev cX1_cancel : ByteArray := prog_1_method_43_code
def yX1_cancel : MethodName := ⟨RX1, "cancel", "()Z"⟩
def dkwX1_cancel_0 : List UInt8 := [42, 180, 0, 162, 198, 0, 7, 4, 167, 0, 4, 3, 60, 42, 1, 181, 0, 162, 27, 172]
abbrev dktX1_cancel_0 : List UInt8 := dkwX1_cancel_0 ++ []
theorem dksX1_cancel_0 : cX1_cancel.data.toList.drop 0 = dktX1_cancel_0 := by decide +kernel
theorem dX1_cancel_0 : decode cX1_cancel 0 = .ok (.aload_n 0, 1) := dk_42 (dk_at dksX1_cancel_0 0 rfl rfl)
theorem dX1_cancel_1 : decode cX1_cancel 1 = .ok (.getfield 162, 3) := dk_180 0 162 (dk_at dksX1_cancel_0 1 rfl rfl)
theorem dX1_cancel_4 : decode cX1_cancel 4 = .ok (.ifnull 7, 3) := dk_198 0 7 (dk_at dksX1_cancel_0 4 rfl rfl)
theorem dX1_cancel_7 : decode cX1_cancel 7 = .ok (.iconst 1, 1) := dk_4 (dk_at dksX1_cancel_0 7 rfl rfl)
theorem dX1_cancel_8 : decode cX1_cancel 8 = .ok (.goto 4, 3) := dk_167 0 4 (dk_at dksX1_cancel_0 8 rfl rfl)
theorem dX1_cancel_11 : decode cX1_cancel 11 = .ok (.iconst 0, 1) := dk_3 (dk_at dksX1_cancel_0 11 rfl rfl)
theorem dX1_cancel_12 : decode cX1_cancel 12 = .ok (.istore_n 1, 1) := dk_60 (dk_at dksX1_cancel_0 12 rfl rfl)
theorem dX1_cancel_13 : decode cX1_cancel 13 = .ok (.aload_n 0, 1) := dk_42 (dk_at dksX1_cancel_0 13 rfl rfl)
theorem dX1_cancel_14 : decode cX1_cancel 14 = .ok (.aconst_null, 1) := dk_1 (dk_at dksX1_cancel_0 14 rfl rfl)
theorem dX1_cancel_15 : decode cX1_cancel 15 = .ok (.putfield 162, 3) := dk_181 0 162 (dk_at dksX1_cancel_0 15 rfl rfl)
theorem dX1_cancel_18 : decode cX1_cancel 18 = .ok (.iload_n 1, 1) := dk_27 (dk_at dksX1_cancel_0 18 rfl rfl)
theorem dX1_cancel_19 : decode cX1_cancel 19 = .ok (.ireturn, 1) := dk_172 (dk_at dksX1_cancel_0 19 rfl rfl)
abbrev cX1_beginnings : ByteArray := prog_1_method_64_code
def yX1_beginnings : MethodName := ⟨RX1, "beginnings", "()I"⟩
def dkwX1_beginnings_1 : List UInt8 := [180, 1, 12, 43, 184, 1, 160, 43, 182, 0, 58, 172]
abbrev dktX1_beginnings_1 : List UInt8 := dkwX1_beginnings_1 ++ []
def dkwX1_beginnings_0 : List UInt8 := [187, 0, 25, 89, 183, 1, 159, 76, 42, 180, 0, 21, 180, 1, 18, 43, 184, 1, 160, 42, 180, 0, 21]
abbrev dktX1_beginnings_0 : List UInt8 := dkwX1_beginnings_0 ++ dktX1_beginnings_1
theorem dksX1_beginnings_0 : cX1_beginnings.data.toList.drop 0 = dktX1_beginnings_0 := by decide +kernel
theorem dksX1_beginnings_1 : cX1_beginnings.data.toList.drop 23 = dktX1_beginnings_1 := dk_seg dksX1_beginnings_0 23 rfl rfl
theorem dX1_beginnings_0 : decode cX1_beginnings 0 = .ok (.new 25, 3) := dk_187 0 25 (dk_at dksX1_beginnings_0 0 rfl rfl)
theorem dX1_beginnings_3 : decode cX1_beginnings 3 = .ok (.dup, 1) := dk_89 (dk_at dksX1_beginnings_0 3 rfl rfl)
theorem dX1_beginnings_4 : decode cX1_beginnings 4 = .ok (.invokespecial 415, 3) := dk_183 1 159 (dk_at dksX1_beginnings_0 4 rfl rfl)
theorem dX1_beginnings_7 : decode cX1_beginnings 7 = .ok (.astore_n 1, 1) := dk_76 (dk_at dksX1_beginnings_0 7 rfl rfl)
theorem dX1_beginnings_8 : decode cX1_beginnings 8 = .ok (.aload_n 0, 1) := dk_42 (dk_at dksX1_beginnings_0 8 rfl rfl)
theorem dX1_beginnings_9 : decode cX1_beginnings 9 = .ok (.getfield 21, 3) := dk_180 0 21 (dk_at dksX1_beginnings_0 9 rfl rfl)
theorem dX1_beginnings_12 : decode cX1_beginnings 12 = .ok (.getfield 274, 3) := dk_180 1 18 (dk_at dksX1_beginnings_0 12 rfl rfl)
theorem dX1_beginnings_15 : decode cX1_beginnings 15 = .ok (.aload_n 1, 1) := dk_43 (dk_at dksX1_beginnings_0 15 rfl rfl)
theorem dX1_beginnings_16 : decode cX1_beginnings 16 = .ok (.invokestatic 416, 3) := dk_184 1 160 (dk_at dksX1_beginnings_0 16 rfl rfl)
theorem dX1_beginnings_19 : decode cX1_beginnings 19 = .ok (.aload_n 0, 1) := dk_42 (dk_at dksX1_beginnings_0 19 rfl rfl)
theorem dX1_beginnings_20 : decode cX1_beginnings 20 = .ok (.getfield 21, 3) := dk_180 0 21 (dk_at dksX1_beginnings_0 20 rfl rfl)
theorem dX1_beginnings_23 : decode cX1_beginnings 23 = .ok (.getfield 268, 3) := dk_180 1 12 (dk_at dksX1_beginnings_1 0 rfl rfl)
theorem dX1_beginnings_26 : decode cX1_beginnings 26 = .ok (.aload_n 1, 1) := dk_43 (dk_at dksX1_beginnings_1 3 rfl rfl)
theorem dX1_beginnings_27 : decode cX1_beginnings 27 = .ok (.invokestatic 416, 3) := dk_184 1 160 (dk_at dksX1_beginnings_1 4 rfl rfl)
theorem dX1_beginnings_30 : decode cX1_beginnings 30 = .ok (.aload_n 1, 1) := dk_43 (dk_at dksX1_beginnings_1 7 rfl rfl)
theorem dX1_beginnings_31 : decode cX1_beginnings 31 = .ok (.invokevirtual 58, 3) := dk_182 0 58 (dk_at dksX1_beginnings_1 8 rfl rfl)
theorem dX1_beginnings_34 : decode cX1_beginnings 34 = .ok (.ireturn, 1) := dk_172 (dk_at dksX1_beginnings_1 11 rfl rfl)
abbrev cX1_addBeginnings : ByteArray := prog_1_method_63_code
def yX1_addBeginnings : MethodName := ⟨RX1, "addBeginnings", "(Ljava/util/ArrayList;Ljava/util/ArrayList;)V"⟩
def dkwX1_addBeginnings_3 : List UInt8 := [167, 255, 189, 177]
abbrev dktX1_addBeginnings_3 : List UInt8 := dkwX1_addBeginnings_3 ++ []
def dkwX1_addBeginnings_2 : List UInt8 := [182, 1, 156, 154, 0, 10, 43, 25, 4, 182, 0, 42, 87, 132, 3, 1, 167, 255, 205, 132, 2, 1]
abbrev dktX1_addBeginnings_2 : List UInt8 := dkwX1_addBeginnings_2 ++ dktX1_addBeginnings_3
def dkwX1_addBeginnings_1 : List UInt8 := [182, 0, 58, 163, 0, 39, 42, 28, 182, 0, 70, 192, 0, 89, 29, 184, 1, 152, 58, 4, 43, 25, 4]
abbrev dktX1_addBeginnings_1 : List UInt8 := dkwX1_addBeginnings_1 ++ dktX1_addBeginnings_2
def dkwX1_addBeginnings_0 : List UInt8 := [3, 61, 28, 42, 182, 0, 58, 162, 0, 65, 4, 62, 29, 42, 28, 182, 0, 70, 192, 0, 89, 180, 0, 217]
abbrev dktX1_addBeginnings_0 : List UInt8 := dkwX1_addBeginnings_0 ++ dktX1_addBeginnings_1
theorem dksX1_addBeginnings_0 : cX1_addBeginnings.data.toList.drop 0 = dktX1_addBeginnings_0 := by decide +kernel
theorem dksX1_addBeginnings_1 : cX1_addBeginnings.data.toList.drop 24 = dktX1_addBeginnings_1 := dk_seg dksX1_addBeginnings_0 24 rfl rfl
theorem dksX1_addBeginnings_2 : cX1_addBeginnings.data.toList.drop 47 = dktX1_addBeginnings_2 := dk_seg dksX1_addBeginnings_1 23 rfl rfl
theorem dksX1_addBeginnings_3 : cX1_addBeginnings.data.toList.drop 69 = dktX1_addBeginnings_3 := dk_seg dksX1_addBeginnings_2 22 rfl rfl
theorem dX1_addBeginnings_0 : decode cX1_addBeginnings 0 = .ok (.iconst 0, 1) := dk_3 (dk_at dksX1_addBeginnings_0 0 rfl rfl)
theorem dX1_addBeginnings_1 : decode cX1_addBeginnings 1 = .ok (.istore_n 2, 1) := dk_61 (dk_at dksX1_addBeginnings_0 1 rfl rfl)
theorem dX1_addBeginnings_2 : decode cX1_addBeginnings 2 = .ok (.iload_n 2, 1) := dk_28 (dk_at dksX1_addBeginnings_0 2 rfl rfl)
theorem dX1_addBeginnings_3 : decode cX1_addBeginnings 3 = .ok (.aload_n 0, 1) := dk_42 (dk_at dksX1_addBeginnings_0 3 rfl rfl)
theorem dX1_addBeginnings_4 : decode cX1_addBeginnings 4 = .ok (.invokevirtual 58, 3) := dk_182 0 58 (dk_at dksX1_addBeginnings_0 4 rfl rfl)
theorem dX1_addBeginnings_7 : decode cX1_addBeginnings 7 = .ok (.if_icmp .ge 65, 3) := dk_162 0 65 (dk_at dksX1_addBeginnings_0 7 rfl rfl)
theorem dX1_addBeginnings_10 : decode cX1_addBeginnings 10 = .ok (.iconst 1, 1) := dk_4 (dk_at dksX1_addBeginnings_0 10 rfl rfl)
theorem dX1_addBeginnings_11 : decode cX1_addBeginnings 11 = .ok (.istore_n 3, 1) := dk_62 (dk_at dksX1_addBeginnings_0 11 rfl rfl)
theorem dX1_addBeginnings_12 : decode cX1_addBeginnings 12 = .ok (.iload_n 3, 1) := dk_29 (dk_at dksX1_addBeginnings_0 12 rfl rfl)
theorem dX1_addBeginnings_13 : decode cX1_addBeginnings 13 = .ok (.aload_n 0, 1) := dk_42 (dk_at dksX1_addBeginnings_0 13 rfl rfl)
theorem dX1_addBeginnings_14 : decode cX1_addBeginnings 14 = .ok (.iload_n 2, 1) := dk_28 (dk_at dksX1_addBeginnings_0 14 rfl rfl)
theorem dX1_addBeginnings_15 : decode cX1_addBeginnings 15 = .ok (.invokevirtual 70, 3) := dk_182 0 70 (dk_at dksX1_addBeginnings_0 15 rfl rfl)
theorem dX1_addBeginnings_18 : decode cX1_addBeginnings 18 = .ok (.checkcast 89, 3) := dk_192 0 89 (dk_at dksX1_addBeginnings_0 18 rfl rfl)
theorem dX1_addBeginnings_21 : decode cX1_addBeginnings 21 = .ok (.getfield 217, 3) := dk_180 0 217 (dk_at dksX1_addBeginnings_0 21 rfl rfl)
theorem dX1_addBeginnings_24 : decode cX1_addBeginnings 24 = .ok (.invokevirtual 58, 3) := dk_182 0 58 (dk_at dksX1_addBeginnings_1 0 rfl rfl)
theorem dX1_addBeginnings_27 : decode cX1_addBeginnings 27 = .ok (.if_icmp .gt 39, 3) := dk_163 0 39 (dk_at dksX1_addBeginnings_1 3 rfl rfl)
theorem dX1_addBeginnings_30 : decode cX1_addBeginnings 30 = .ok (.aload_n 0, 1) := dk_42 (dk_at dksX1_addBeginnings_1 6 rfl rfl)
theorem dX1_addBeginnings_31 : decode cX1_addBeginnings 31 = .ok (.iload_n 2, 1) := dk_28 (dk_at dksX1_addBeginnings_1 7 rfl rfl)
theorem dX1_addBeginnings_32 : decode cX1_addBeginnings 32 = .ok (.invokevirtual 70, 3) := dk_182 0 70 (dk_at dksX1_addBeginnings_1 8 rfl rfl)
theorem dX1_addBeginnings_35 : decode cX1_addBeginnings 35 = .ok (.checkcast 89, 3) := dk_192 0 89 (dk_at dksX1_addBeginnings_1 11 rfl rfl)
theorem dX1_addBeginnings_38 : decode cX1_addBeginnings 38 = .ok (.iload_n 3, 1) := dk_29 (dk_at dksX1_addBeginnings_1 14 rfl rfl)
theorem dX1_addBeginnings_39 : decode cX1_addBeginnings 39 = .ok (.invokestatic 408, 3) := dk_184 1 152 (dk_at dksX1_addBeginnings_1 15 rfl rfl)
theorem dX1_addBeginnings_42 : decode cX1_addBeginnings 42 = .ok (.astore 4, 2) := dk_58 4 (dk_at dksX1_addBeginnings_1 18 rfl rfl)
theorem dX1_addBeginnings_44 : decode cX1_addBeginnings 44 = .ok (.aload_n 1, 1) := dk_43 (dk_at dksX1_addBeginnings_1 20 rfl rfl)
theorem dX1_addBeginnings_45 : decode cX1_addBeginnings 45 = .ok (.aload 4, 2) := dk_25 4 (dk_at dksX1_addBeginnings_1 21 rfl rfl)
theorem dX1_addBeginnings_47 : decode cX1_addBeginnings 47 = .ok (.invokevirtual 412, 3) := dk_182 1 156 (dk_at dksX1_addBeginnings_2 0 rfl rfl)
theorem dX1_addBeginnings_50 : decode cX1_addBeginnings 50 = .ok (.ifCond .ne 10, 3) := dk_154 0 10 (dk_at dksX1_addBeginnings_2 3 rfl rfl)
theorem dX1_addBeginnings_53 : decode cX1_addBeginnings 53 = .ok (.aload_n 1, 1) := dk_43 (dk_at dksX1_addBeginnings_2 6 rfl rfl)
theorem dX1_addBeginnings_54 : decode cX1_addBeginnings 54 = .ok (.aload 4, 2) := dk_25 4 (dk_at dksX1_addBeginnings_2 7 rfl rfl)
theorem dX1_addBeginnings_56 : decode cX1_addBeginnings 56 = .ok (.invokevirtual 42, 3) := dk_182 0 42 (dk_at dksX1_addBeginnings_2 9 rfl rfl)
theorem dX1_addBeginnings_59 : decode cX1_addBeginnings 59 = .ok (.pop, 1) := dk_87 (dk_at dksX1_addBeginnings_2 12 rfl rfl)
theorem dX1_addBeginnings_60 : decode cX1_addBeginnings 60 = .ok (.iinc 3 1, 3) := dk_132 3 1 (dk_at dksX1_addBeginnings_2 13 rfl rfl)
theorem dX1_addBeginnings_63 : decode cX1_addBeginnings 63 = .ok (.goto (-51), 3) := dk_167 255 205 (dk_at dksX1_addBeginnings_2 16 rfl rfl)
theorem dX1_addBeginnings_66 : decode cX1_addBeginnings 66 = .ok (.iinc 2 1, 3) := dk_132 2 1 (dk_at dksX1_addBeginnings_2 19 rfl rfl)
theorem dX1_addBeginnings_69 : decode cX1_addBeginnings 69 = .ok (.goto (-67), 3) := dk_167 255 189 (dk_at dksX1_addBeginnings_3 0 rfl rfl)
theorem dX1_addBeginnings_72 : decode cX1_addBeginnings 72 = .ok (.return_, 1) := dk_177 (dk_at dksX1_addBeginnings_3 3 rfl rfl)
abbrev cX1_beginning : ByteArray := prog_1_method_62_code
def yX1_beginning : MethodName := ⟨RX1, "beginning", "(LRulehearth$Clause;I)Ljava/lang/String;"⟩
def dkwX1_beginning_7 : List UInt8 := [44, 182, 0, 254, 176]
abbrev dktX1_beginning_7 : List UInt8 := dkwX1_beginning_7 ++ []
def dkwX1_beginning_6 : List UInt8 := [96, 182, 0, 251, 87, 132, 7, 1, 167, 255, 170, 44, 16, 59, 182, 1, 146, 87, 132, 5, 1, 167, 255, 111]
abbrev dktX1_beginning_6 : List UInt8 := dkwX1_beginning_6 ++ dktX1_beginning_7
def dkwX1_beginning_5 : List UInt8 := [182, 1, 146, 21, 8, 16, 100, 162, 0, 8, 21, 8, 167, 0, 13, 16, 100, 45, 21, 8, 16, 100, 100, 46]
abbrev dktX1_beginning_5 : List UInt8 := dkwX1_beginning_5 ++ dktX1_beginning_6
def dkwX1_beginning_4 : List UInt8 := [16, 100, 100, 46, 2, 160, 0, 15, 45, 21, 8, 16, 100, 100, 21, 4, 79, 132, 4, 1, 44, 16, 44]
abbrev dktX1_beginning_4 : List UInt8 := dkwX1_beginning_4 ++ dktX1_beginning_5
def dkwX1_beginning_3 : List UInt8 := [190, 162, 0, 81, 25, 6, 180, 0, 193, 21, 7, 46, 54, 8, 21, 8, 16, 100, 161, 0, 26, 45, 21, 8]
abbrev dktX1_beginning_3 : List UInt8 := dkwX1_beginning_3 ++ dktX1_beginning_4
def dkwX1_beginning_2 : List UInt8 := [16, 58, 182, 1, 146, 25, 6, 180, 1, 149, 182, 0, 251, 87, 3, 54, 7, 21, 7, 25, 6, 180, 0, 193]
abbrev dktX1_beginning_2 : List UInt8 := dkwX1_beginning_2 ++ dktX1_beginning_3
def dkwX1_beginning_1 : List UInt8 := [42, 180, 0, 217, 21, 5, 182, 0, 70, 192, 0, 169, 58, 6, 44, 25, 6, 180, 0, 220, 182, 0, 251]
abbrev dktX1_beginning_1 : List UInt8 := dkwX1_beginning_1 ++ dktX1_beginning_2
def dkwX1_beginning_0 : List UInt8 := [187, 0, 242, 89, 183, 0, 244, 77, 184, 1, 96, 78, 3, 54, 4, 3, 54, 5, 21, 5, 27, 162, 0, 145]
abbrev dktX1_beginning_0 : List UInt8 := dkwX1_beginning_0 ++ dktX1_beginning_1
theorem dksX1_beginning_0 : cX1_beginning.data.toList.drop 0 = dktX1_beginning_0 := by decide +kernel
theorem dksX1_beginning_1 : cX1_beginning.data.toList.drop 24 = dktX1_beginning_1 := dk_seg dksX1_beginning_0 24 rfl rfl
theorem dksX1_beginning_2 : cX1_beginning.data.toList.drop 47 = dktX1_beginning_2 := dk_seg dksX1_beginning_1 23 rfl rfl
theorem dksX1_beginning_3 : cX1_beginning.data.toList.drop 71 = dktX1_beginning_3 := dk_seg dksX1_beginning_2 24 rfl rfl
theorem dksX1_beginning_4 : cX1_beginning.data.toList.drop 95 = dktX1_beginning_4 := dk_seg dksX1_beginning_3 24 rfl rfl
theorem dksX1_beginning_5 : cX1_beginning.data.toList.drop 118 = dktX1_beginning_5 := dk_seg dksX1_beginning_4 23 rfl rfl
theorem dksX1_beginning_6 : cX1_beginning.data.toList.drop 142 = dktX1_beginning_6 := dk_seg dksX1_beginning_5 24 rfl rfl
theorem dksX1_beginning_7 : cX1_beginning.data.toList.drop 166 = dktX1_beginning_7 := dk_seg dksX1_beginning_6 24 rfl rfl
theorem dX1_beginning_0 : decode cX1_beginning 0 = .ok (.new 242, 3) := dk_187 0 242 (dk_at dksX1_beginning_0 0 rfl rfl)
theorem dX1_beginning_3 : decode cX1_beginning 3 = .ok (.dup, 1) := dk_89 (dk_at dksX1_beginning_0 3 rfl rfl)
theorem dX1_beginning_4 : decode cX1_beginning 4 = .ok (.invokespecial 244, 3) := dk_183 0 244 (dk_at dksX1_beginning_0 4 rfl rfl)
theorem dX1_beginning_7 : decode cX1_beginning 7 = .ok (.astore_n 2, 1) := dk_77 (dk_at dksX1_beginning_0 7 rfl rfl)
theorem dX1_beginning_8 : decode cX1_beginning 8 = .ok (.invokestatic 352, 3) := dk_184 1 96 (dk_at dksX1_beginning_0 8 rfl rfl)
theorem dX1_beginning_11 : decode cX1_beginning 11 = .ok (.astore_n 3, 1) := dk_78 (dk_at dksX1_beginning_0 11 rfl rfl)
theorem dX1_beginning_12 : decode cX1_beginning 12 = .ok (.iconst 0, 1) := dk_3 (dk_at dksX1_beginning_0 12 rfl rfl)
theorem dX1_beginning_13 : decode cX1_beginning 13 = .ok (.istore 4, 2) := dk_54 4 (dk_at dksX1_beginning_0 13 rfl rfl)
theorem dX1_beginning_15 : decode cX1_beginning 15 = .ok (.iconst 0, 1) := dk_3 (dk_at dksX1_beginning_0 15 rfl rfl)
theorem dX1_beginning_16 : decode cX1_beginning 16 = .ok (.istore 5, 2) := dk_54 5 (dk_at dksX1_beginning_0 16 rfl rfl)
theorem dX1_beginning_18 : decode cX1_beginning 18 = .ok (.iload 5, 2) := dk_21 5 (dk_at dksX1_beginning_0 18 rfl rfl)
theorem dX1_beginning_20 : decode cX1_beginning 20 = .ok (.iload_n 1, 1) := dk_27 (dk_at dksX1_beginning_0 20 rfl rfl)
theorem dX1_beginning_21 : decode cX1_beginning 21 = .ok (.if_icmp .ge 145, 3) := dk_162 0 145 (dk_at dksX1_beginning_0 21 rfl rfl)
theorem dX1_beginning_24 : decode cX1_beginning 24 = .ok (.aload_n 0, 1) := dk_42 (dk_at dksX1_beginning_1 0 rfl rfl)
theorem dX1_beginning_25 : decode cX1_beginning 25 = .ok (.getfield 217, 3) := dk_180 0 217 (dk_at dksX1_beginning_1 1 rfl rfl)
theorem dX1_beginning_28 : decode cX1_beginning 28 = .ok (.iload 5, 2) := dk_21 5 (dk_at dksX1_beginning_1 4 rfl rfl)
theorem dX1_beginning_30 : decode cX1_beginning 30 = .ok (.invokevirtual 70, 3) := dk_182 0 70 (dk_at dksX1_beginning_1 6 rfl rfl)
theorem dX1_beginning_33 : decode cX1_beginning 33 = .ok (.checkcast 169, 3) := dk_192 0 169 (dk_at dksX1_beginning_1 9 rfl rfl)
theorem dX1_beginning_36 : decode cX1_beginning 36 = .ok (.astore 6, 2) := dk_58 6 (dk_at dksX1_beginning_1 12 rfl rfl)
theorem dX1_beginning_38 : decode cX1_beginning 38 = .ok (.aload_n 2, 1) := dk_44 (dk_at dksX1_beginning_1 14 rfl rfl)
theorem dX1_beginning_39 : decode cX1_beginning 39 = .ok (.aload 6, 2) := dk_25 6 (dk_at dksX1_beginning_1 15 rfl rfl)
theorem dX1_beginning_41 : decode cX1_beginning 41 = .ok (.getfield 220, 3) := dk_180 0 220 (dk_at dksX1_beginning_1 17 rfl rfl)
theorem dX1_beginning_44 : decode cX1_beginning 44 = .ok (.invokevirtual 251, 3) := dk_182 0 251 (dk_at dksX1_beginning_1 20 rfl rfl)
theorem dX1_beginning_47 : decode cX1_beginning 47 = .ok (.bipush 58, 2) := dk_16 58 (dk_at dksX1_beginning_2 0 rfl rfl)
theorem dX1_beginning_49 : decode cX1_beginning 49 = .ok (.invokevirtual 402, 3) := dk_182 1 146 (dk_at dksX1_beginning_2 2 rfl rfl)
theorem dX1_beginning_52 : decode cX1_beginning 52 = .ok (.aload 6, 2) := dk_25 6 (dk_at dksX1_beginning_2 5 rfl rfl)
theorem dX1_beginning_54 : decode cX1_beginning 54 = .ok (.getfield 405, 3) := dk_180 1 149 (dk_at dksX1_beginning_2 7 rfl rfl)
theorem dX1_beginning_57 : decode cX1_beginning 57 = .ok (.invokevirtual 251, 3) := dk_182 0 251 (dk_at dksX1_beginning_2 10 rfl rfl)
theorem dX1_beginning_60 : decode cX1_beginning 60 = .ok (.pop, 1) := dk_87 (dk_at dksX1_beginning_2 13 rfl rfl)
theorem dX1_beginning_61 : decode cX1_beginning 61 = .ok (.iconst 0, 1) := dk_3 (dk_at dksX1_beginning_2 14 rfl rfl)
theorem dX1_beginning_62 : decode cX1_beginning 62 = .ok (.istore 7, 2) := dk_54 7 (dk_at dksX1_beginning_2 15 rfl rfl)
theorem dX1_beginning_64 : decode cX1_beginning 64 = .ok (.iload 7, 2) := dk_21 7 (dk_at dksX1_beginning_2 17 rfl rfl)
theorem dX1_beginning_66 : decode cX1_beginning 66 = .ok (.aload 6, 2) := dk_25 6 (dk_at dksX1_beginning_2 19 rfl rfl)
theorem dX1_beginning_68 : decode cX1_beginning 68 = .ok (.getfield 193, 3) := dk_180 0 193 (dk_at dksX1_beginning_2 21 rfl rfl)
theorem dX1_beginning_71 : decode cX1_beginning 71 = .ok (.arraylength, 1) := dk_190 (dk_at dksX1_beginning_3 0 rfl rfl)
theorem dX1_beginning_72 : decode cX1_beginning 72 = .ok (.if_icmp .ge 81, 3) := dk_162 0 81 (dk_at dksX1_beginning_3 1 rfl rfl)
theorem dX1_beginning_75 : decode cX1_beginning 75 = .ok (.aload 6, 2) := dk_25 6 (dk_at dksX1_beginning_3 4 rfl rfl)
theorem dX1_beginning_77 : decode cX1_beginning 77 = .ok (.getfield 193, 3) := dk_180 0 193 (dk_at dksX1_beginning_3 6 rfl rfl)
theorem dX1_beginning_80 : decode cX1_beginning 80 = .ok (.iload 7, 2) := dk_21 7 (dk_at dksX1_beginning_3 9 rfl rfl)
theorem dX1_beginning_82 : decode cX1_beginning 82 = .ok (.iaload, 1) := dk_46 (dk_at dksX1_beginning_3 11 rfl rfl)
theorem dX1_beginning_83 : decode cX1_beginning 83 = .ok (.istore 8, 2) := dk_54 8 (dk_at dksX1_beginning_3 12 rfl rfl)
theorem dX1_beginning_85 : decode cX1_beginning 85 = .ok (.iload 8, 2) := dk_21 8 (dk_at dksX1_beginning_3 14 rfl rfl)
theorem dX1_beginning_87 : decode cX1_beginning 87 = .ok (.bipush 100, 2) := dk_16 100 (dk_at dksX1_beginning_3 16 rfl rfl)
theorem dX1_beginning_89 : decode cX1_beginning 89 = .ok (.if_icmp .lt 26, 3) := dk_161 0 26 (dk_at dksX1_beginning_3 18 rfl rfl)
theorem dX1_beginning_92 : decode cX1_beginning 92 = .ok (.aload_n 3, 1) := dk_45 (dk_at dksX1_beginning_3 21 rfl rfl)
theorem dX1_beginning_93 : decode cX1_beginning 93 = .ok (.iload 8, 2) := dk_21 8 (dk_at dksX1_beginning_3 22 rfl rfl)
theorem dX1_beginning_95 : decode cX1_beginning 95 = .ok (.bipush 100, 2) := dk_16 100 (dk_at dksX1_beginning_4 0 rfl rfl)
theorem dX1_beginning_97 : decode cX1_beginning 97 = .ok (.isub, 1) := dk_100 (dk_at dksX1_beginning_4 2 rfl rfl)
theorem dX1_beginning_98 : decode cX1_beginning 98 = .ok (.iaload, 1) := dk_46 (dk_at dksX1_beginning_4 3 rfl rfl)
theorem dX1_beginning_99 : decode cX1_beginning 99 = .ok (.iconst (-1), 1) := dk_2 (dk_at dksX1_beginning_4 4 rfl rfl)
theorem dX1_beginning_100 : decode cX1_beginning 100 = .ok (.if_icmp .ne 15, 3) := dk_160 0 15 (dk_at dksX1_beginning_4 5 rfl rfl)
theorem dX1_beginning_103 : decode cX1_beginning 103 = .ok (.aload_n 3, 1) := dk_45 (dk_at dksX1_beginning_4 8 rfl rfl)
theorem dX1_beginning_104 : decode cX1_beginning 104 = .ok (.iload 8, 2) := dk_21 8 (dk_at dksX1_beginning_4 9 rfl rfl)
theorem dX1_beginning_106 : decode cX1_beginning 106 = .ok (.bipush 100, 2) := dk_16 100 (dk_at dksX1_beginning_4 11 rfl rfl)
theorem dX1_beginning_108 : decode cX1_beginning 108 = .ok (.isub, 1) := dk_100 (dk_at dksX1_beginning_4 13 rfl rfl)
theorem dX1_beginning_109 : decode cX1_beginning 109 = .ok (.iload 4, 2) := dk_21 4 (dk_at dksX1_beginning_4 14 rfl rfl)
theorem dX1_beginning_111 : decode cX1_beginning 111 = .ok (.iastore, 1) := dk_79 (dk_at dksX1_beginning_4 16 rfl rfl)
theorem dX1_beginning_112 : decode cX1_beginning 112 = .ok (.iinc 4 1, 3) := dk_132 4 1 (dk_at dksX1_beginning_4 17 rfl rfl)
theorem dX1_beginning_115 : decode cX1_beginning 115 = .ok (.aload_n 2, 1) := dk_44 (dk_at dksX1_beginning_4 20 rfl rfl)
theorem dX1_beginning_116 : decode cX1_beginning 116 = .ok (.bipush 44, 2) := dk_16 44 (dk_at dksX1_beginning_4 21 rfl rfl)
theorem dX1_beginning_118 : decode cX1_beginning 118 = .ok (.invokevirtual 402, 3) := dk_182 1 146 (dk_at dksX1_beginning_5 0 rfl rfl)
theorem dX1_beginning_121 : decode cX1_beginning 121 = .ok (.iload 8, 2) := dk_21 8 (dk_at dksX1_beginning_5 3 rfl rfl)
theorem dX1_beginning_123 : decode cX1_beginning 123 = .ok (.bipush 100, 2) := dk_16 100 (dk_at dksX1_beginning_5 5 rfl rfl)
theorem dX1_beginning_125 : decode cX1_beginning 125 = .ok (.if_icmp .ge 8, 3) := dk_162 0 8 (dk_at dksX1_beginning_5 7 rfl rfl)
theorem dX1_beginning_128 : decode cX1_beginning 128 = .ok (.iload 8, 2) := dk_21 8 (dk_at dksX1_beginning_5 10 rfl rfl)
theorem dX1_beginning_130 : decode cX1_beginning 130 = .ok (.goto 13, 3) := dk_167 0 13 (dk_at dksX1_beginning_5 12 rfl rfl)
theorem dX1_beginning_133 : decode cX1_beginning 133 = .ok (.bipush 100, 2) := dk_16 100 (dk_at dksX1_beginning_5 15 rfl rfl)
theorem dX1_beginning_135 : decode cX1_beginning 135 = .ok (.aload_n 3, 1) := dk_45 (dk_at dksX1_beginning_5 17 rfl rfl)
theorem dX1_beginning_136 : decode cX1_beginning 136 = .ok (.iload 8, 2) := dk_21 8 (dk_at dksX1_beginning_5 18 rfl rfl)
theorem dX1_beginning_138 : decode cX1_beginning 138 = .ok (.bipush 100, 2) := dk_16 100 (dk_at dksX1_beginning_5 20 rfl rfl)
theorem dX1_beginning_140 : decode cX1_beginning 140 = .ok (.isub, 1) := dk_100 (dk_at dksX1_beginning_5 22 rfl rfl)
theorem dX1_beginning_141 : decode cX1_beginning 141 = .ok (.iaload, 1) := dk_46 (dk_at dksX1_beginning_5 23 rfl rfl)
theorem dX1_beginning_142 : decode cX1_beginning 142 = .ok (.iadd, 1) := dk_96 (dk_at dksX1_beginning_6 0 rfl rfl)
theorem dX1_beginning_143 : decode cX1_beginning 143 = .ok (.invokevirtual 251, 3) := dk_182 0 251 (dk_at dksX1_beginning_6 1 rfl rfl)
theorem dX1_beginning_146 : decode cX1_beginning 146 = .ok (.pop, 1) := dk_87 (dk_at dksX1_beginning_6 4 rfl rfl)
theorem dX1_beginning_147 : decode cX1_beginning 147 = .ok (.iinc 7 1, 3) := dk_132 7 1 (dk_at dksX1_beginning_6 5 rfl rfl)
theorem dX1_beginning_150 : decode cX1_beginning 150 = .ok (.goto (-86), 3) := dk_167 255 170 (dk_at dksX1_beginning_6 8 rfl rfl)
theorem dX1_beginning_153 : decode cX1_beginning 153 = .ok (.aload_n 2, 1) := dk_44 (dk_at dksX1_beginning_6 11 rfl rfl)
theorem dX1_beginning_154 : decode cX1_beginning 154 = .ok (.bipush 59, 2) := dk_16 59 (dk_at dksX1_beginning_6 12 rfl rfl)
theorem dX1_beginning_156 : decode cX1_beginning 156 = .ok (.invokevirtual 402, 3) := dk_182 1 146 (dk_at dksX1_beginning_6 14 rfl rfl)
theorem dX1_beginning_159 : decode cX1_beginning 159 = .ok (.pop, 1) := dk_87 (dk_at dksX1_beginning_6 17 rfl rfl)
theorem dX1_beginning_160 : decode cX1_beginning 160 = .ok (.iinc 5 1, 3) := dk_132 5 1 (dk_at dksX1_beginning_6 18 rfl rfl)
theorem dX1_beginning_163 : decode cX1_beginning 163 = .ok (.goto (-145), 3) := dk_167 255 111 (dk_at dksX1_beginning_6 21 rfl rfl)
theorem dX1_beginning_166 : decode cX1_beginning 166 = .ok (.aload_n 2, 1) := dk_44 (dk_at dksX1_beginning_7 0 rfl rfl)
theorem dX1_beginning_167 : decode cX1_beginning 167 = .ok (.invokevirtual 254, 3) := dk_182 0 254 (dk_at dksX1_beginning_7 1 rfl rfl)
theorem dX1_beginning_170 : decode cX1_beginning 170 = .ok (.areturn, 1) := dk_176 (dk_at dksX1_beginning_7 4 rfl rfl)
abbrev cX1_unknown : ByteArray := prog_1_method_5_code
def yX1_unknown : MethodName := ⟨RX1, "unknown", "()[I"⟩
def dkwX1_unknown_0 : List UInt8 := [16, 8, 188, 10, 75, 42, 184, 0, 8, 42, 176]
abbrev dktX1_unknown_0 : List UInt8 := dkwX1_unknown_0 ++ []
theorem dksX1_unknown_0 : cX1_unknown.data.toList.drop 0 = dktX1_unknown_0 := by decide +kernel
theorem dX1_unknown_0 : decode cX1_unknown 0 = .ok (.bipush 8, 2) := dk_16 8 (dk_at dksX1_unknown_0 0 rfl rfl)
theorem dX1_unknown_2 : decode cX1_unknown 2 = .ok (.newarray .int, 2) := dk_188_10 (dk_at dksX1_unknown_0 2 rfl rfl)
theorem dX1_unknown_4 : decode cX1_unknown 4 = .ok (.astore_n 0, 1) := dk_75 (dk_at dksX1_unknown_0 4 rfl rfl)
theorem dX1_unknown_5 : decode cX1_unknown 5 = .ok (.aload_n 0, 1) := dk_42 (dk_at dksX1_unknown_0 5 rfl rfl)
theorem dX1_unknown_6 : decode cX1_unknown 6 = .ok (.invokestatic 8, 3) := dk_184 0 8 (dk_at dksX1_unknown_0 6 rfl rfl)
theorem dX1_unknown_9 : decode cX1_unknown 9 = .ok (.aload_n 0, 1) := dk_42 (dk_at dksX1_unknown_0 9 rfl rfl)
theorem dX1_unknown_10 : decode cX1_unknown 10 = .ok (.areturn, 1) := dk_176 (dk_at dksX1_unknown_0 10 rfl rfl)
abbrev cX1_forget : ByteArray := prog_1_method_6_code
def yX1_forget : MethodName := ⟨RX1, "forget", "([I)V"⟩
def dkwX1_forget_0 : List UInt8 := [3, 60, 27, 16, 8, 162, 0, 13, 42, 27, 2, 79, 132, 1, 1, 167, 255, 243, 177]
abbrev dktX1_forget_0 : List UInt8 := dkwX1_forget_0 ++ []
theorem dksX1_forget_0 : cX1_forget.data.toList.drop 0 = dktX1_forget_0 := by decide +kernel
theorem dX1_forget_0 : decode cX1_forget 0 = .ok (.iconst 0, 1) := dk_3 (dk_at dksX1_forget_0 0 rfl rfl)
theorem dX1_forget_1 : decode cX1_forget 1 = .ok (.istore_n 1, 1) := dk_60 (dk_at dksX1_forget_0 1 rfl rfl)
theorem dX1_forget_2 : decode cX1_forget 2 = .ok (.iload_n 1, 1) := dk_27 (dk_at dksX1_forget_0 2 rfl rfl)
theorem dX1_forget_3 : decode cX1_forget 3 = .ok (.bipush 8, 2) := dk_16 8 (dk_at dksX1_forget_0 3 rfl rfl)
theorem dX1_forget_5 : decode cX1_forget 5 = .ok (.if_icmp .ge 13, 3) := dk_162 0 13 (dk_at dksX1_forget_0 5 rfl rfl)
theorem dX1_forget_8 : decode cX1_forget 8 = .ok (.aload_n 0, 1) := dk_42 (dk_at dksX1_forget_0 8 rfl rfl)
theorem dX1_forget_9 : decode cX1_forget 9 = .ok (.iload_n 1, 1) := dk_27 (dk_at dksX1_forget_0 9 rfl rfl)
theorem dX1_forget_10 : decode cX1_forget 10 = .ok (.iconst (-1), 1) := dk_2 (dk_at dksX1_forget_0 10 rfl rfl)
theorem dX1_forget_11 : decode cX1_forget 11 = .ok (.iastore, 1) := dk_79 (dk_at dksX1_forget_0 11 rfl rfl)
theorem dX1_forget_12 : decode cX1_forget 12 = .ok (.iinc 1 1, 3) := dk_132 1 1 (dk_at dksX1_forget_0 12 rfl rfl)
theorem dX1_forget_15 : decode cX1_forget 15 = .ok (.goto (-13), 3) := dk_167 255 243 (dk_at dksX1_forget_0 15 rfl rfl)
theorem dX1_forget_18 : decode cX1_forget 18 = .ok (.return_, 1) := dk_177 (dk_at dksX1_forget_0 18 rfl rfl)
abbrev cX1_next : ByteArray := prog_1_method_74_code
def yX1_next : MethodName := ⟨RX1, "next", "()I"⟩
def dkwX1_next_1 : List UInt8 := [199, 0, 7, 2, 167, 0, 10, 43, 180, 1, 206, 180, 0, 91, 172]
abbrev dktX1_next_1 : List UInt8 := dkwX1_next_1 ++ []
def dkwX1_next_0 : List UInt8 := [42, 180, 0, 21, 42, 180, 0, 21, 180, 0, 34, 182, 0, 58, 4, 100, 184, 1, 202, 76, 43, 180, 1, 206]
abbrev dktX1_next_0 : List UInt8 := dkwX1_next_0 ++ dktX1_next_1
theorem dksX1_next_0 : cX1_next.data.toList.drop 0 = dktX1_next_0 := by decide +kernel
theorem dksX1_next_1 : cX1_next.data.toList.drop 24 = dktX1_next_1 := dk_seg dksX1_next_0 24 rfl rfl
theorem dX1_next_0 : decode cX1_next 0 = .ok (.aload_n 0, 1) := dk_42 (dk_at dksX1_next_0 0 rfl rfl)
theorem dX1_next_1 : decode cX1_next 1 = .ok (.getfield 21, 3) := dk_180 0 21 (dk_at dksX1_next_0 1 rfl rfl)
theorem dX1_next_4 : decode cX1_next 4 = .ok (.aload_n 0, 1) := dk_42 (dk_at dksX1_next_0 4 rfl rfl)
theorem dX1_next_5 : decode cX1_next 5 = .ok (.getfield 21, 3) := dk_180 0 21 (dk_at dksX1_next_0 5 rfl rfl)
theorem dX1_next_8 : decode cX1_next 8 = .ok (.getfield 34, 3) := dk_180 0 34 (dk_at dksX1_next_0 8 rfl rfl)
theorem dX1_next_11 : decode cX1_next 11 = .ok (.invokevirtual 58, 3) := dk_182 0 58 (dk_at dksX1_next_0 11 rfl rfl)
theorem dX1_next_14 : decode cX1_next 14 = .ok (.iconst 1, 1) := dk_4 (dk_at dksX1_next_0 14 rfl rfl)
theorem dX1_next_15 : decode cX1_next 15 = .ok (.isub, 1) := dk_100 (dk_at dksX1_next_0 15 rfl rfl)
theorem dX1_next_16 : decode cX1_next 16 = .ok (.invokestatic 458, 3) := dk_184 1 202 (dk_at dksX1_next_0 16 rfl rfl)
theorem dX1_next_19 : decode cX1_next 19 = .ok (.astore_n 1, 1) := dk_76 (dk_at dksX1_next_0 19 rfl rfl)
theorem dX1_next_20 : decode cX1_next 20 = .ok (.aload_n 1, 1) := dk_43 (dk_at dksX1_next_0 20 rfl rfl)
theorem dX1_next_21 : decode cX1_next 21 = .ok (.getfield 462, 3) := dk_180 1 206 (dk_at dksX1_next_0 21 rfl rfl)
theorem dX1_next_24 : decode cX1_next 24 = .ok (.ifnonnull 7, 3) := dk_199 0 7 (dk_at dksX1_next_1 0 rfl rfl)
theorem dX1_next_27 : decode cX1_next 27 = .ok (.iconst (-1), 1) := dk_2 (dk_at dksX1_next_1 3 rfl rfl)
theorem dX1_next_28 : decode cX1_next 28 = .ok (.goto 10, 3) := dk_167 0 10 (dk_at dksX1_next_1 4 rfl rfl)
theorem dX1_next_31 : decode cX1_next 31 = .ok (.aload_n 1, 1) := dk_43 (dk_at dksX1_next_1 7 rfl rfl)
theorem dX1_next_32 : decode cX1_next 32 = .ok (.getfield 462, 3) := dk_180 1 206 (dk_at dksX1_next_1 8 rfl rfl)
theorem dX1_next_35 : decode cX1_next 35 = .ok (.getfield 91, 3) := dk_180 0 91 (dk_at dksX1_next_1 11 rfl rfl)
theorem dX1_next_38 : decode cX1_next 38 = .ok (.ireturn, 1) := dk_172 (dk_at dksX1_next_1 14 rfl rfl)
abbrev cX1_ahead : ByteArray := prog_1_method_73_code
def yX1_ahead : MethodName := ⟨RX1, "ahead", "(LRulehearth$World;I)LRulehearth$Agenda;"⟩
def dkwX1_ahead_2 : List UInt8 := [184, 1, 202, 176]
abbrev dktX1_ahead_2 : List UInt8 := dkwX1_ahead_2 ++ []
def dkwX1_ahead_1 : List UInt8 := [182, 1, 195, 77, 44, 180, 1, 199, 157, 0, 7, 27, 154, 0, 7, 44, 167, 0, 10, 42, 27, 4, 100]
abbrev dktX1_ahead_1 : List UInt8 := dkwX1_ahead_1 ++ dktX1_ahead_2
def dkwX1_ahead_0 : List UInt8 := [187, 1, 190, 89, 42, 42, 180, 0, 34, 27, 182, 0, 70, 192, 0, 38, 182, 0, 74, 183, 1, 192]
abbrev dktX1_ahead_0 : List UInt8 := dkwX1_ahead_0 ++ dktX1_ahead_1
theorem dksX1_ahead_0 : cX1_ahead.data.toList.drop 0 = dktX1_ahead_0 := by decide +kernel
theorem dksX1_ahead_1 : cX1_ahead.data.toList.drop 22 = dktX1_ahead_1 := dk_seg dksX1_ahead_0 22 rfl rfl
theorem dksX1_ahead_2 : cX1_ahead.data.toList.drop 45 = dktX1_ahead_2 := dk_seg dksX1_ahead_1 23 rfl rfl
theorem dX1_ahead_0 : decode cX1_ahead 0 = .ok (.new 446, 3) := dk_187 1 190 (dk_at dksX1_ahead_0 0 rfl rfl)
theorem dX1_ahead_3 : decode cX1_ahead 3 = .ok (.dup, 1) := dk_89 (dk_at dksX1_ahead_0 3 rfl rfl)
theorem dX1_ahead_4 : decode cX1_ahead 4 = .ok (.aload_n 0, 1) := dk_42 (dk_at dksX1_ahead_0 4 rfl rfl)
theorem dX1_ahead_5 : decode cX1_ahead 5 = .ok (.aload_n 0, 1) := dk_42 (dk_at dksX1_ahead_0 5 rfl rfl)
theorem dX1_ahead_6 : decode cX1_ahead 6 = .ok (.getfield 34, 3) := dk_180 0 34 (dk_at dksX1_ahead_0 6 rfl rfl)
theorem dX1_ahead_9 : decode cX1_ahead 9 = .ok (.iload_n 1, 1) := dk_27 (dk_at dksX1_ahead_0 9 rfl rfl)
theorem dX1_ahead_10 : decode cX1_ahead 10 = .ok (.invokevirtual 70, 3) := dk_182 0 70 (dk_at dksX1_ahead_0 10 rfl rfl)
theorem dX1_ahead_13 : decode cX1_ahead 13 = .ok (.checkcast 38, 3) := dk_192 0 38 (dk_at dksX1_ahead_0 13 rfl rfl)
theorem dX1_ahead_16 : decode cX1_ahead 16 = .ok (.invokevirtual 74, 3) := dk_182 0 74 (dk_at dksX1_ahead_0 16 rfl rfl)
theorem dX1_ahead_19 : decode cX1_ahead 19 = .ok (.invokespecial 448, 3) := dk_183 1 192 (dk_at dksX1_ahead_0 19 rfl rfl)
theorem dX1_ahead_22 : decode cX1_ahead 22 = .ok (.invokevirtual 451, 3) := dk_182 1 195 (dk_at dksX1_ahead_1 0 rfl rfl)
theorem dX1_ahead_25 : decode cX1_ahead 25 = .ok (.astore_n 2, 1) := dk_77 (dk_at dksX1_ahead_1 3 rfl rfl)
theorem dX1_ahead_26 : decode cX1_ahead 26 = .ok (.aload_n 2, 1) := dk_44 (dk_at dksX1_ahead_1 4 rfl rfl)
theorem dX1_ahead_27 : decode cX1_ahead 27 = .ok (.getfield 455, 3) := dk_180 1 199 (dk_at dksX1_ahead_1 5 rfl rfl)
theorem dX1_ahead_30 : decode cX1_ahead 30 = .ok (.ifCond .gt 7, 3) := dk_157 0 7 (dk_at dksX1_ahead_1 8 rfl rfl)
theorem dX1_ahead_33 : decode cX1_ahead 33 = .ok (.iload_n 1, 1) := dk_27 (dk_at dksX1_ahead_1 11 rfl rfl)
theorem dX1_ahead_34 : decode cX1_ahead 34 = .ok (.ifCond .ne 7, 3) := dk_154 0 7 (dk_at dksX1_ahead_1 12 rfl rfl)
theorem dX1_ahead_37 : decode cX1_ahead 37 = .ok (.aload_n 2, 1) := dk_44 (dk_at dksX1_ahead_1 15 rfl rfl)
theorem dX1_ahead_38 : decode cX1_ahead 38 = .ok (.goto 10, 3) := dk_167 0 10 (dk_at dksX1_ahead_1 16 rfl rfl)
theorem dX1_ahead_41 : decode cX1_ahead 41 = .ok (.aload_n 0, 1) := dk_42 (dk_at dksX1_ahead_1 19 rfl rfl)
theorem dX1_ahead_42 : decode cX1_ahead 42 = .ok (.iload_n 1, 1) := dk_27 (dk_at dksX1_ahead_1 20 rfl rfl)
theorem dX1_ahead_43 : decode cX1_ahead 43 = .ok (.iconst 1, 1) := dk_4 (dk_at dksX1_ahead_1 21 rfl rfl)
theorem dX1_ahead_44 : decode cX1_ahead 44 = .ok (.isub, 1) := dk_100 (dk_at dksX1_ahead_1 22 rfl rfl)
theorem dX1_ahead_45 : decode cX1_ahead 45 = .ok (.invokestatic 458, 3) := dk_184 1 202 (dk_at dksX1_ahead_2 0 rfl rfl)
theorem dX1_ahead_48 : decode cX1_ahead 48 = .ok (.areturn, 1) := dk_176 (dk_at dksX1_ahead_2 3 rfl rfl)
abbrev cX1_runs : ByteArray := prog_1_method_47_code
def yX1_runs : MethodName := ⟨RX1, "runs", "(LRulehearth$Matcher;)I"⟩
def dkwX1_runs_0 : List UInt8 := [42, 182, 1, 30, 167, 0, 14, 76, 187, 0, 49, 89, 1, 43, 183, 0, 102, 191, 42, 180, 1, 35, 172]
abbrev dktX1_runs_0 : List UInt8 := dkwX1_runs_0 ++ []
theorem dksX1_runs_0 : cX1_runs.data.toList.drop 0 = dktX1_runs_0 := by decide +kernel
theorem dX1_runs_0 : decode cX1_runs 0 = .ok (.aload_n 0, 1) := dk_42 (dk_at dksX1_runs_0 0 rfl rfl)
theorem dX1_runs_1 : decode cX1_runs 1 = .ok (.invokevirtual 286, 3) := dk_182 1 30 (dk_at dksX1_runs_0 1 rfl rfl)
theorem dX1_runs_4 : decode cX1_runs 4 = .ok (.goto 14, 3) := dk_167 0 14 (dk_at dksX1_runs_0 4 rfl rfl)
theorem dX1_runs_7 : decode cX1_runs 7 = .ok (.astore_n 1, 1) := dk_76 (dk_at dksX1_runs_0 7 rfl rfl)
theorem dX1_runs_8 : decode cX1_runs 8 = .ok (.new 49, 3) := dk_187 0 49 (dk_at dksX1_runs_0 8 rfl rfl)
theorem dX1_runs_11 : decode cX1_runs 11 = .ok (.dup, 1) := dk_89 (dk_at dksX1_runs_0 11 rfl rfl)
theorem dX1_runs_12 : decode cX1_runs 12 = .ok (.aconst_null, 1) := dk_1 (dk_at dksX1_runs_0 12 rfl rfl)
theorem dX1_runs_13 : decode cX1_runs 13 = .ok (.aload_n 1, 1) := dk_43 (dk_at dksX1_runs_0 13 rfl rfl)
theorem dX1_runs_14 : decode cX1_runs 14 = .ok (.invokespecial 102, 3) := dk_183 0 102 (dk_at dksX1_runs_0 14 rfl rfl)
theorem dX1_runs_17 : decode cX1_runs 17 = .ok (.athrow, 1) := dk_191 (dk_at dksX1_runs_0 17 rfl rfl)
theorem dX1_runs_18 : decode cX1_runs 18 = .ok (.aload_n 0, 1) := dk_42 (dk_at dksX1_runs_0 18 rfl rfl)
theorem dX1_runs_19 : decode cX1_runs 19 = .ok (.getfield 291, 3) := dk_180 1 35 (dk_at dksX1_runs_0 19 rfl rfl)
theorem dX1_runs_22 : decode cX1_runs 22 = .ok (.ireturn, 1) := dk_172 (dk_at dksX1_runs_0 22 rfl rfl)
abbrev cX1_valueOf : ByteArray := prog_1_method_3_code
def yX1_valueOf : MethodName := ⟨RX1, "valueOf", "(I[I)I"⟩
def dkwX1_valueOf_0 : List UInt8 := [26, 16, 100, 162, 0, 7, 26, 167, 0, 9, 43, 26, 16, 100, 100, 46, 172]
abbrev dktX1_valueOf_0 : List UInt8 := dkwX1_valueOf_0 ++ []
theorem dksX1_valueOf_0 : cX1_valueOf.data.toList.drop 0 = dktX1_valueOf_0 := by decide +kernel
theorem dX1_valueOf_0 : decode cX1_valueOf 0 = .ok (.iload_n 0, 1) := dk_26 (dk_at dksX1_valueOf_0 0 rfl rfl)
theorem dX1_valueOf_1 : decode cX1_valueOf 1 = .ok (.bipush 100, 2) := dk_16 100 (dk_at dksX1_valueOf_0 1 rfl rfl)
theorem dX1_valueOf_3 : decode cX1_valueOf 3 = .ok (.if_icmp .ge 7, 3) := dk_162 0 7 (dk_at dksX1_valueOf_0 3 rfl rfl)
theorem dX1_valueOf_6 : decode cX1_valueOf 6 = .ok (.iload_n 0, 1) := dk_26 (dk_at dksX1_valueOf_0 6 rfl rfl)
theorem dX1_valueOf_7 : decode cX1_valueOf 7 = .ok (.goto 9, 3) := dk_167 0 9 (dk_at dksX1_valueOf_0 7 rfl rfl)
theorem dX1_valueOf_10 : decode cX1_valueOf 10 = .ok (.aload_n 1, 1) := dk_43 (dk_at dksX1_valueOf_0 10 rfl rfl)
theorem dX1_valueOf_11 : decode cX1_valueOf 11 = .ok (.iload_n 0, 1) := dk_26 (dk_at dksX1_valueOf_0 11 rfl rfl)
theorem dX1_valueOf_12 : decode cX1_valueOf 12 = .ok (.bipush 100, 2) := dk_16 100 (dk_at dksX1_valueOf_0 12 rfl rfl)
theorem dX1_valueOf_14 : decode cX1_valueOf 14 = .ok (.isub, 1) := dk_100 (dk_at dksX1_valueOf_0 14 rfl rfl)
theorem dX1_valueOf_15 : decode cX1_valueOf 15 = .ok (.iaload, 1) := dk_46 (dk_at dksX1_valueOf_0 15 rfl rfl)
theorem dX1_valueOf_16 : decode cX1_valueOf 16 = .ok (.ireturn, 1) := dk_172 (dk_at dksX1_valueOf_0 16 rfl rfl)
abbrev cX1_maskOf : ByteArray := prog_1_method_49_code
def yX1_maskOf : MethodName := ⟨RX1, "maskOf", "([II)J"⟩
def dkwX1_maskOf_1 : List UInt8 := [182, 1, 41, 121, 129, 66, 132, 5, 1, 167, 255, 228, 33, 173]
abbrev dktX1_maskOf_1 : List UInt8 := dkwX1_maskOf_1 ++ []
def dkwX1_maskOf_0 : List UInt8 := [9, 66, 3, 54, 5, 21, 5, 28, 162, 0, 28, 33, 10, 42, 180, 0, 21, 180, 0, 105, 43, 21, 5, 46]
abbrev dktX1_maskOf_0 : List UInt8 := dkwX1_maskOf_0 ++ dktX1_maskOf_1
theorem dksX1_maskOf_0 : cX1_maskOf.data.toList.drop 0 = dktX1_maskOf_0 := by decide +kernel
theorem dksX1_maskOf_1 : cX1_maskOf.data.toList.drop 24 = dktX1_maskOf_1 := dk_seg dksX1_maskOf_0 24 rfl rfl
theorem dX1_maskOf_0 : decode cX1_maskOf 0 = .ok (.lconst 0, 1) := dk_9 (dk_at dksX1_maskOf_0 0 rfl rfl)
theorem dX1_maskOf_1 : decode cX1_maskOf 1 = .ok (.lstore_n 3, 1) := dk_66 (dk_at dksX1_maskOf_0 1 rfl rfl)
theorem dX1_maskOf_2 : decode cX1_maskOf 2 = .ok (.iconst 0, 1) := dk_3 (dk_at dksX1_maskOf_0 2 rfl rfl)
theorem dX1_maskOf_3 : decode cX1_maskOf 3 = .ok (.istore 5, 2) := dk_54 5 (dk_at dksX1_maskOf_0 3 rfl rfl)
theorem dX1_maskOf_5 : decode cX1_maskOf 5 = .ok (.iload 5, 2) := dk_21 5 (dk_at dksX1_maskOf_0 5 rfl rfl)
theorem dX1_maskOf_7 : decode cX1_maskOf 7 = .ok (.iload_n 2, 1) := dk_28 (dk_at dksX1_maskOf_0 7 rfl rfl)
theorem dX1_maskOf_8 : decode cX1_maskOf 8 = .ok (.if_icmp .ge 28, 3) := dk_162 0 28 (dk_at dksX1_maskOf_0 8 rfl rfl)
theorem dX1_maskOf_11 : decode cX1_maskOf 11 = .ok (.lload_n 3, 1) := dk_33 (dk_at dksX1_maskOf_0 11 rfl rfl)
theorem dX1_maskOf_12 : decode cX1_maskOf 12 = .ok (.lconst 1, 1) := dk_10 (dk_at dksX1_maskOf_0 12 rfl rfl)
theorem dX1_maskOf_13 : decode cX1_maskOf 13 = .ok (.aload_n 0, 1) := dk_42 (dk_at dksX1_maskOf_0 13 rfl rfl)
theorem dX1_maskOf_14 : decode cX1_maskOf 14 = .ok (.getfield 21, 3) := dk_180 0 21 (dk_at dksX1_maskOf_0 14 rfl rfl)
theorem dX1_maskOf_17 : decode cX1_maskOf 17 = .ok (.getfield 105, 3) := dk_180 0 105 (dk_at dksX1_maskOf_0 17 rfl rfl)
theorem dX1_maskOf_20 : decode cX1_maskOf 20 = .ok (.aload_n 1, 1) := dk_43 (dk_at dksX1_maskOf_0 20 rfl rfl)
theorem dX1_maskOf_21 : decode cX1_maskOf 21 = .ok (.iload 5, 2) := dk_21 5 (dk_at dksX1_maskOf_0 21 rfl rfl)
theorem dX1_maskOf_23 : decode cX1_maskOf 23 = .ok (.iaload, 1) := dk_46 (dk_at dksX1_maskOf_0 23 rfl rfl)
theorem dX1_maskOf_24 : decode cX1_maskOf 24 = .ok (.invokevirtual 297, 3) := dk_182 1 41 (dk_at dksX1_maskOf_1 0 rfl rfl)
theorem dX1_maskOf_27 : decode cX1_maskOf 27 = .ok (.lshl, 1) := dk_121 (dk_at dksX1_maskOf_1 3 rfl rfl)
theorem dX1_maskOf_28 : decode cX1_maskOf 28 = .ok (.lor, 1) := dk_129 (dk_at dksX1_maskOf_1 4 rfl rfl)
theorem dX1_maskOf_29 : decode cX1_maskOf 29 = .ok (.lstore_n 3, 1) := dk_66 (dk_at dksX1_maskOf_1 5 rfl rfl)
theorem dX1_maskOf_30 : decode cX1_maskOf 30 = .ok (.iinc 5 1, 3) := dk_132 5 1 (dk_at dksX1_maskOf_1 6 rfl rfl)
theorem dX1_maskOf_33 : decode cX1_maskOf 33 = .ok (.goto (-28), 3) := dk_167 255 228 (dk_at dksX1_maskOf_1 9 rfl rfl)
theorem dX1_maskOf_36 : decode cX1_maskOf 36 = .ok (.lload_n 3, 1) := dk_33 (dk_at dksX1_maskOf_1 12 rfl rfl)
theorem dX1_maskOf_37 : decode cX1_maskOf 37 = .ok (.lreturn, 1) := dk_173 (dk_at dksX1_maskOf_1 13 rfl rfl)
abbrev cX1_slotOf : ByteArray := prog_1_method_2_code
def yX1_slotOf : MethodName := ⟨RX1, "slotOf", "(II)I"⟩
def dkwX1_slotOf_1 : List UInt8 := [16, 100, 112, 172]
abbrev dktX1_slotOf_1 : List UInt8 := dkwX1_slotOf_1 ++ []
def dkwX1_slotOf_0 : List UInt8 := [26, 27, 154, 0, 9, 17, 39, 16, 167, 0, 14, 27, 4, 160, 0, 8, 16, 100, 167, 0, 4, 4, 108]
abbrev dktX1_slotOf_0 : List UInt8 := dkwX1_slotOf_0 ++ dktX1_slotOf_1
theorem dksX1_slotOf_0 : cX1_slotOf.data.toList.drop 0 = dktX1_slotOf_0 := by decide +kernel
theorem dksX1_slotOf_1 : cX1_slotOf.data.toList.drop 23 = dktX1_slotOf_1 := dk_seg dksX1_slotOf_0 23 rfl rfl
theorem dX1_slotOf_0 : decode cX1_slotOf 0 = .ok (.iload_n 0, 1) := dk_26 (dk_at dksX1_slotOf_0 0 rfl rfl)
theorem dX1_slotOf_1 : decode cX1_slotOf 1 = .ok (.iload_n 1, 1) := dk_27 (dk_at dksX1_slotOf_0 1 rfl rfl)
theorem dX1_slotOf_2 : decode cX1_slotOf 2 = .ok (.ifCond .ne 9, 3) := dk_154 0 9 (dk_at dksX1_slotOf_0 2 rfl rfl)
theorem dX1_slotOf_5 : decode cX1_slotOf 5 = .ok (.sipush 10000, 3) := dk_17 39 16 (dk_at dksX1_slotOf_0 5 rfl rfl)
theorem dX1_slotOf_8 : decode cX1_slotOf 8 = .ok (.goto 14, 3) := dk_167 0 14 (dk_at dksX1_slotOf_0 8 rfl rfl)
theorem dX1_slotOf_11 : decode cX1_slotOf 11 = .ok (.iload_n 1, 1) := dk_27 (dk_at dksX1_slotOf_0 11 rfl rfl)
theorem dX1_slotOf_12 : decode cX1_slotOf 12 = .ok (.iconst 1, 1) := dk_4 (dk_at dksX1_slotOf_0 12 rfl rfl)
theorem dX1_slotOf_13 : decode cX1_slotOf 13 = .ok (.if_icmp .ne 8, 3) := dk_160 0 8 (dk_at dksX1_slotOf_0 13 rfl rfl)
theorem dX1_slotOf_16 : decode cX1_slotOf 16 = .ok (.bipush 100, 2) := dk_16 100 (dk_at dksX1_slotOf_0 16 rfl rfl)
theorem dX1_slotOf_18 : decode cX1_slotOf 18 = .ok (.goto 4, 3) := dk_167 0 4 (dk_at dksX1_slotOf_0 18 rfl rfl)
theorem dX1_slotOf_21 : decode cX1_slotOf 21 = .ok (.iconst 1, 1) := dk_4 (dk_at dksX1_slotOf_0 21 rfl rfl)
theorem dX1_slotOf_22 : decode cX1_slotOf 22 = .ok (.idiv, 1) := dk_108 (dk_at dksX1_slotOf_0 22 rfl rfl)
theorem dX1_slotOf_23 : decode cX1_slotOf 23 = .ok (.bipush 100, 2) := dk_16 100 (dk_at dksX1_slotOf_1 0 rfl rfl)
theorem dX1_slotOf_25 : decode cX1_slotOf 25 = .ok (.irem, 1) := dk_112 (dk_at dksX1_slotOf_1 2 rfl rfl)
theorem dX1_slotOf_26 : decode cX1_slotOf 26 = .ok (.ireturn, 1) := dk_172 (dk_at dksX1_slotOf_1 3 rfl rfl)
abbrev cX1_bind : ByteArray := prog_1_method_4_code
def yX1_bind : MethodName := ⟨RX1, "bind", "(II[I)Z"⟩
def dkwX1_bind_1 : List UInt8 := [27, 160, 0, 7, 4, 167, 0, 4, 3, 172]
abbrev dktX1_bind_1 : List UInt8 := dkwX1_bind_1 ++ []
def dkwX1_bind_0 : List UInt8 := [26, 44, 184, 0, 4, 62, 29, 2, 160, 0, 10, 44, 26, 16, 100, 100, 27, 79, 29, 2, 159, 0, 8, 29]
abbrev dktX1_bind_0 : List UInt8 := dkwX1_bind_0 ++ dktX1_bind_1
theorem dksX1_bind_0 : cX1_bind.data.toList.drop 0 = dktX1_bind_0 := by decide +kernel
theorem dksX1_bind_1 : cX1_bind.data.toList.drop 24 = dktX1_bind_1 := dk_seg dksX1_bind_0 24 rfl rfl
theorem dX1_bind_0 : decode cX1_bind 0 = .ok (.iload_n 0, 1) := dk_26 (dk_at dksX1_bind_0 0 rfl rfl)
theorem dX1_bind_1 : decode cX1_bind 1 = .ok (.aload_n 2, 1) := dk_44 (dk_at dksX1_bind_0 1 rfl rfl)
theorem dX1_bind_2 : decode cX1_bind 2 = .ok (.invokestatic 4, 3) := dk_184 0 4 (dk_at dksX1_bind_0 2 rfl rfl)
theorem dX1_bind_5 : decode cX1_bind 5 = .ok (.istore_n 3, 1) := dk_62 (dk_at dksX1_bind_0 5 rfl rfl)
theorem dX1_bind_6 : decode cX1_bind 6 = .ok (.iload_n 3, 1) := dk_29 (dk_at dksX1_bind_0 6 rfl rfl)
theorem dX1_bind_7 : decode cX1_bind 7 = .ok (.iconst (-1), 1) := dk_2 (dk_at dksX1_bind_0 7 rfl rfl)
theorem dX1_bind_8 : decode cX1_bind 8 = .ok (.if_icmp .ne 10, 3) := dk_160 0 10 (dk_at dksX1_bind_0 8 rfl rfl)
theorem dX1_bind_11 : decode cX1_bind 11 = .ok (.aload_n 2, 1) := dk_44 (dk_at dksX1_bind_0 11 rfl rfl)
theorem dX1_bind_12 : decode cX1_bind 12 = .ok (.iload_n 0, 1) := dk_26 (dk_at dksX1_bind_0 12 rfl rfl)
theorem dX1_bind_13 : decode cX1_bind 13 = .ok (.bipush 100, 2) := dk_16 100 (dk_at dksX1_bind_0 13 rfl rfl)
theorem dX1_bind_15 : decode cX1_bind 15 = .ok (.isub, 1) := dk_100 (dk_at dksX1_bind_0 15 rfl rfl)
theorem dX1_bind_16 : decode cX1_bind 16 = .ok (.iload_n 1, 1) := dk_27 (dk_at dksX1_bind_0 16 rfl rfl)
theorem dX1_bind_17 : decode cX1_bind 17 = .ok (.iastore, 1) := dk_79 (dk_at dksX1_bind_0 17 rfl rfl)
theorem dX1_bind_18 : decode cX1_bind 18 = .ok (.iload_n 3, 1) := dk_29 (dk_at dksX1_bind_0 18 rfl rfl)
theorem dX1_bind_19 : decode cX1_bind 19 = .ok (.iconst (-1), 1) := dk_2 (dk_at dksX1_bind_0 19 rfl rfl)
theorem dX1_bind_20 : decode cX1_bind 20 = .ok (.if_icmp .eq 8, 3) := dk_159 0 8 (dk_at dksX1_bind_0 20 rfl rfl)
theorem dX1_bind_23 : decode cX1_bind 23 = .ok (.iload_n 3, 1) := dk_29 (dk_at dksX1_bind_0 23 rfl rfl)
theorem dX1_bind_24 : decode cX1_bind 24 = .ok (.iload_n 1, 1) := dk_27 (dk_at dksX1_bind_1 0 rfl rfl)
theorem dX1_bind_25 : decode cX1_bind 25 = .ok (.if_icmp .ne 7, 3) := dk_160 0 7 (dk_at dksX1_bind_1 1 rfl rfl)
theorem dX1_bind_28 : decode cX1_bind 28 = .ok (.iconst 1, 1) := dk_4 (dk_at dksX1_bind_1 4 rfl rfl)
theorem dX1_bind_29 : decode cX1_bind 29 = .ok (.goto 4, 3) := dk_167 0 4 (dk_at dksX1_bind_1 5 rfl rfl)
theorem dX1_bind_32 : decode cX1_bind 32 = .ok (.iconst 0, 1) := dk_3 (dk_at dksX1_bind_1 8 rfl rfl)
theorem dX1_bind_33 : decode cX1_bind 33 = .ok (.ireturn, 1) := dk_172 (dk_at dksX1_bind_1 9 rfl rfl)
abbrev cX1_nextFact : ByteArray := prog_1_method_75_code
def yX1_nextFact : MethodName := ⟨RX1, "nextFact", "()I"⟩
def dkwX1_nextFact_1 : List UInt8 := [199, 0, 7, 2, 167, 0, 7, 43, 180, 1, 209, 172]
abbrev dktX1_nextFact_1 : List UInt8 := dkwX1_nextFact_1 ++ []
def dkwX1_nextFact_0 : List UInt8 := [42, 180, 0, 21, 42, 180, 0, 21, 180, 0, 34, 182, 0, 58, 4, 100, 184, 1, 202, 76, 43, 180, 1, 206]
abbrev dktX1_nextFact_0 : List UInt8 := dkwX1_nextFact_0 ++ dktX1_nextFact_1
theorem dksX1_nextFact_0 : cX1_nextFact.data.toList.drop 0 = dktX1_nextFact_0 := by decide +kernel
theorem dksX1_nextFact_1 : cX1_nextFact.data.toList.drop 24 = dktX1_nextFact_1 := dk_seg dksX1_nextFact_0 24 rfl rfl
theorem dX1_nextFact_0 : decode cX1_nextFact 0 = .ok (.aload_n 0, 1) := dk_42 (dk_at dksX1_nextFact_0 0 rfl rfl)
theorem dX1_nextFact_1 : decode cX1_nextFact 1 = .ok (.getfield 21, 3) := dk_180 0 21 (dk_at dksX1_nextFact_0 1 rfl rfl)
theorem dX1_nextFact_4 : decode cX1_nextFact 4 = .ok (.aload_n 0, 1) := dk_42 (dk_at dksX1_nextFact_0 4 rfl rfl)
theorem dX1_nextFact_5 : decode cX1_nextFact 5 = .ok (.getfield 21, 3) := dk_180 0 21 (dk_at dksX1_nextFact_0 5 rfl rfl)
theorem dX1_nextFact_8 : decode cX1_nextFact 8 = .ok (.getfield 34, 3) := dk_180 0 34 (dk_at dksX1_nextFact_0 8 rfl rfl)
theorem dX1_nextFact_11 : decode cX1_nextFact 11 = .ok (.invokevirtual 58, 3) := dk_182 0 58 (dk_at dksX1_nextFact_0 11 rfl rfl)
theorem dX1_nextFact_14 : decode cX1_nextFact 14 = .ok (.iconst 1, 1) := dk_4 (dk_at dksX1_nextFact_0 14 rfl rfl)
theorem dX1_nextFact_15 : decode cX1_nextFact 15 = .ok (.isub, 1) := dk_100 (dk_at dksX1_nextFact_0 15 rfl rfl)
theorem dX1_nextFact_16 : decode cX1_nextFact 16 = .ok (.invokestatic 458, 3) := dk_184 1 202 (dk_at dksX1_nextFact_0 16 rfl rfl)
theorem dX1_nextFact_19 : decode cX1_nextFact 19 = .ok (.astore_n 1, 1) := dk_76 (dk_at dksX1_nextFact_0 19 rfl rfl)
theorem dX1_nextFact_20 : decode cX1_nextFact 20 = .ok (.aload_n 1, 1) := dk_43 (dk_at dksX1_nextFact_0 20 rfl rfl)
theorem dX1_nextFact_21 : decode cX1_nextFact 21 = .ok (.getfield 462, 3) := dk_180 1 206 (dk_at dksX1_nextFact_0 21 rfl rfl)
theorem dX1_nextFact_24 : decode cX1_nextFact 24 = .ok (.ifnonnull 7, 3) := dk_199 0 7 (dk_at dksX1_nextFact_1 0 rfl rfl)
theorem dX1_nextFact_27 : decode cX1_nextFact 27 = .ok (.iconst (-1), 1) := dk_2 (dk_at dksX1_nextFact_1 3 rfl rfl)
theorem dX1_nextFact_28 : decode cX1_nextFact 28 = .ok (.goto 7, 3) := dk_167 0 7 (dk_at dksX1_nextFact_1 4 rfl rfl)
theorem dX1_nextFact_31 : decode cX1_nextFact 31 = .ok (.aload_n 1, 1) := dk_43 (dk_at dksX1_nextFact_1 7 rfl rfl)
theorem dX1_nextFact_32 : decode cX1_nextFact 32 = .ok (.getfield 465, 3) := dk_180 1 209 (dk_at dksX1_nextFact_1 8 rfl rfl)
theorem dX1_nextFact_35 : decode cX1_nextFact 35 = .ok (.ireturn, 1) := dk_172 (dk_at dksX1_nextFact_1 11 rfl rfl)
abbrev cX1_focused : ByteArray := prog_1_method_79_code
def yX1_focused : MethodName := ⟨RX1, "focused", "()I"⟩
def dkwX1_focused_1 : List UInt8 := [192, 0, 38, 182, 0, 74, 172]
abbrev dktX1_focused_1 : List UInt8 := dkwX1_focused_1 ++ []
def dkwX1_focused_0 : List UInt8 := [42, 180, 0, 21, 180, 0, 34, 42, 180, 0, 21, 180, 0, 34, 182, 0, 58, 4, 100, 182, 0, 70]
abbrev dktX1_focused_0 : List UInt8 := dkwX1_focused_0 ++ dktX1_focused_1
theorem dksX1_focused_0 : cX1_focused.data.toList.drop 0 = dktX1_focused_0 := by decide +kernel
theorem dksX1_focused_1 : cX1_focused.data.toList.drop 22 = dktX1_focused_1 := dk_seg dksX1_focused_0 22 rfl rfl
theorem dX1_focused_0 : decode cX1_focused 0 = .ok (.aload_n 0, 1) := dk_42 (dk_at dksX1_focused_0 0 rfl rfl)
theorem dX1_focused_1 : decode cX1_focused 1 = .ok (.getfield 21, 3) := dk_180 0 21 (dk_at dksX1_focused_0 1 rfl rfl)
theorem dX1_focused_4 : decode cX1_focused 4 = .ok (.getfield 34, 3) := dk_180 0 34 (dk_at dksX1_focused_0 4 rfl rfl)
theorem dX1_focused_7 : decode cX1_focused 7 = .ok (.aload_n 0, 1) := dk_42 (dk_at dksX1_focused_0 7 rfl rfl)
theorem dX1_focused_8 : decode cX1_focused 8 = .ok (.getfield 21, 3) := dk_180 0 21 (dk_at dksX1_focused_0 8 rfl rfl)
theorem dX1_focused_11 : decode cX1_focused 11 = .ok (.getfield 34, 3) := dk_180 0 34 (dk_at dksX1_focused_0 11 rfl rfl)
theorem dX1_focused_14 : decode cX1_focused 14 = .ok (.invokevirtual 58, 3) := dk_182 0 58 (dk_at dksX1_focused_0 14 rfl rfl)
theorem dX1_focused_17 : decode cX1_focused 17 = .ok (.iconst 1, 1) := dk_4 (dk_at dksX1_focused_0 17 rfl rfl)
theorem dX1_focused_18 : decode cX1_focused 18 = .ok (.isub, 1) := dk_100 (dk_at dksX1_focused_0 18 rfl rfl)
theorem dX1_focused_19 : decode cX1_focused 19 = .ok (.invokevirtual 70, 3) := dk_182 0 70 (dk_at dksX1_focused_0 19 rfl rfl)
theorem dX1_focused_22 : decode cX1_focused 22 = .ok (.checkcast 38, 3) := dk_192 0 38 (dk_at dksX1_focused_1 0 rfl rfl)
theorem dX1_focused_25 : decode cX1_focused 25 = .ok (.invokevirtual 74, 3) := dk_182 0 74 (dk_at dksX1_focused_1 3 rfl rfl)
theorem dX1_focused_28 : decode cX1_focused 28 = .ok (.ireturn, 1) := dk_172 (dk_at dksX1_focused_1 6 rfl rfl)
abbrev cX1_now : ByteArray := prog_1_method_81_code
def yX1_now : MethodName := ⟨RX1, "now", "()I"⟩
def dkwX1_now_0 : List UInt8 := [42, 180, 0, 21, 180, 0, 124, 172]
abbrev dktX1_now_0 : List UInt8 := dkwX1_now_0 ++ []
theorem dksX1_now_0 : cX1_now.data.toList.drop 0 = dktX1_now_0 := by decide +kernel
theorem dX1_now_0 : decode cX1_now 0 = .ok (.aload_n 0, 1) := dk_42 (dk_at dksX1_now_0 0 rfl rfl)
theorem dX1_now_1 : decode cX1_now 1 = .ok (.getfield 21, 3) := dk_180 0 21 (dk_at dksX1_now_0 1 rfl rfl)
theorem dX1_now_4 : decode cX1_now 4 = .ok (.getfield 124, 3) := dk_180 0 124 (dk_at dksX1_now_0 4 rfl rfl)
theorem dX1_now_7 : decode cX1_now 7 = .ok (.ireturn, 1) := dk_172 (dk_at dksX1_now_0 7 rfl rfl)
abbrev cX1_relation : ByteArray := prog_1_method_16_code
def yX1_relation : MethodName := ⟨RX1, "relation", "(I)I"⟩
def dkwX1_relation_3 : List UInt8 := [180, 0, 55, 182, 0, 58, 4, 100, 172]
abbrev dktX1_relation_3 : List UInt8 := dkwX1_relation_3 ++ []
def dkwX1_relation_2 : List UInt8 := [182, 0, 117, 77, 44, 180, 0, 55, 27, 184, 0, 37, 182, 0, 42, 87, 42, 44, 181, 0, 21, 44]
abbrev dktX1_relation_2 : List UInt8 := dkwX1_relation_2 ++ dktX1_relation_3
def dkwX1_relation_1 : List UInt8 := [180, 0, 55, 182, 0, 58, 16, 8, 162, 0, 7, 4, 167, 0, 4, 3, 184, 0, 114, 42, 180, 0, 21]
abbrev dktX1_relation_1 : List UInt8 := dkwX1_relation_1 ++ dktX1_relation_2
def dkwX1_relation_0 : List UInt8 := [27, 4, 161, 0, 12, 27, 6, 163, 0, 7, 4, 167, 0, 4, 3, 184, 0, 85, 42, 180, 0, 21]
abbrev dktX1_relation_0 : List UInt8 := dkwX1_relation_0 ++ dktX1_relation_1
theorem dksX1_relation_0 : cX1_relation.data.toList.drop 0 = dktX1_relation_0 := by decide +kernel
theorem dksX1_relation_1 : cX1_relation.data.toList.drop 22 = dktX1_relation_1 := dk_seg dksX1_relation_0 22 rfl rfl
theorem dksX1_relation_2 : cX1_relation.data.toList.drop 45 = dktX1_relation_2 := dk_seg dksX1_relation_1 23 rfl rfl
theorem dksX1_relation_3 : cX1_relation.data.toList.drop 67 = dktX1_relation_3 := dk_seg dksX1_relation_2 22 rfl rfl
theorem dX1_relation_0 : decode cX1_relation 0 = .ok (.iload_n 1, 1) := dk_27 (dk_at dksX1_relation_0 0 rfl rfl)
theorem dX1_relation_1 : decode cX1_relation 1 = .ok (.iconst 1, 1) := dk_4 (dk_at dksX1_relation_0 1 rfl rfl)
theorem dX1_relation_2 : decode cX1_relation 2 = .ok (.if_icmp .lt 12, 3) := dk_161 0 12 (dk_at dksX1_relation_0 2 rfl rfl)
theorem dX1_relation_5 : decode cX1_relation 5 = .ok (.iload_n 1, 1) := dk_27 (dk_at dksX1_relation_0 5 rfl rfl)
theorem dX1_relation_6 : decode cX1_relation 6 = .ok (.iconst 3, 1) := dk_6 (dk_at dksX1_relation_0 6 rfl rfl)
theorem dX1_relation_7 : decode cX1_relation 7 = .ok (.if_icmp .gt 7, 3) := dk_163 0 7 (dk_at dksX1_relation_0 7 rfl rfl)
theorem dX1_relation_10 : decode cX1_relation 10 = .ok (.iconst 1, 1) := dk_4 (dk_at dksX1_relation_0 10 rfl rfl)
theorem dX1_relation_11 : decode cX1_relation 11 = .ok (.goto 4, 3) := dk_167 0 4 (dk_at dksX1_relation_0 11 rfl rfl)
theorem dX1_relation_14 : decode cX1_relation 14 = .ok (.iconst 0, 1) := dk_3 (dk_at dksX1_relation_0 14 rfl rfl)
theorem dX1_relation_15 : decode cX1_relation 15 = .ok (.invokestatic 85, 3) := dk_184 0 85 (dk_at dksX1_relation_0 15 rfl rfl)
theorem dX1_relation_18 : decode cX1_relation 18 = .ok (.aload_n 0, 1) := dk_42 (dk_at dksX1_relation_0 18 rfl rfl)
theorem dX1_relation_19 : decode cX1_relation 19 = .ok (.getfield 21, 3) := dk_180 0 21 (dk_at dksX1_relation_0 19 rfl rfl)
theorem dX1_relation_22 : decode cX1_relation 22 = .ok (.getfield 55, 3) := dk_180 0 55 (dk_at dksX1_relation_1 0 rfl rfl)
theorem dX1_relation_25 : decode cX1_relation 25 = .ok (.invokevirtual 58, 3) := dk_182 0 58 (dk_at dksX1_relation_1 3 rfl rfl)
theorem dX1_relation_28 : decode cX1_relation 28 = .ok (.bipush 8, 2) := dk_16 8 (dk_at dksX1_relation_1 6 rfl rfl)
theorem dX1_relation_30 : decode cX1_relation 30 = .ok (.if_icmp .ge 7, 3) := dk_162 0 7 (dk_at dksX1_relation_1 8 rfl rfl)
theorem dX1_relation_33 : decode cX1_relation 33 = .ok (.iconst 1, 1) := dk_4 (dk_at dksX1_relation_1 11 rfl rfl)
theorem dX1_relation_34 : decode cX1_relation 34 = .ok (.goto 4, 3) := dk_167 0 4 (dk_at dksX1_relation_1 12 rfl rfl)
theorem dX1_relation_37 : decode cX1_relation 37 = .ok (.iconst 0, 1) := dk_3 (dk_at dksX1_relation_1 15 rfl rfl)
theorem dX1_relation_38 : decode cX1_relation 38 = .ok (.invokestatic 114, 3) := dk_184 0 114 (dk_at dksX1_relation_1 16 rfl rfl)
theorem dX1_relation_41 : decode cX1_relation 41 = .ok (.aload_n 0, 1) := dk_42 (dk_at dksX1_relation_1 19 rfl rfl)
theorem dX1_relation_42 : decode cX1_relation 42 = .ok (.getfield 21, 3) := dk_180 0 21 (dk_at dksX1_relation_1 20 rfl rfl)
theorem dX1_relation_45 : decode cX1_relation 45 = .ok (.invokevirtual 117, 3) := dk_182 0 117 (dk_at dksX1_relation_2 0 rfl rfl)
theorem dX1_relation_48 : decode cX1_relation 48 = .ok (.astore_n 2, 1) := dk_77 (dk_at dksX1_relation_2 3 rfl rfl)
theorem dX1_relation_49 : decode cX1_relation 49 = .ok (.aload_n 2, 1) := dk_44 (dk_at dksX1_relation_2 4 rfl rfl)
theorem dX1_relation_50 : decode cX1_relation 50 = .ok (.getfield 55, 3) := dk_180 0 55 (dk_at dksX1_relation_2 5 rfl rfl)
theorem dX1_relation_53 : decode cX1_relation 53 = .ok (.iload_n 1, 1) := dk_27 (dk_at dksX1_relation_2 8 rfl rfl)
theorem dX1_relation_54 : decode cX1_relation 54 = .ok (.invokestatic 37, 3) := dk_184 0 37 (dk_at dksX1_relation_2 9 rfl rfl)
theorem dX1_relation_57 : decode cX1_relation 57 = .ok (.invokevirtual 42, 3) := dk_182 0 42 (dk_at dksX1_relation_2 12 rfl rfl)
theorem dX1_relation_60 : decode cX1_relation 60 = .ok (.pop, 1) := dk_87 (dk_at dksX1_relation_2 15 rfl rfl)
theorem dX1_relation_61 : decode cX1_relation 61 = .ok (.aload_n 0, 1) := dk_42 (dk_at dksX1_relation_2 16 rfl rfl)
theorem dX1_relation_62 : decode cX1_relation 62 = .ok (.aload_n 2, 1) := dk_44 (dk_at dksX1_relation_2 17 rfl rfl)
theorem dX1_relation_63 : decode cX1_relation 63 = .ok (.putfield 21, 3) := dk_181 0 21 (dk_at dksX1_relation_2 18 rfl rfl)
theorem dX1_relation_66 : decode cX1_relation 66 = .ok (.aload_n 2, 1) := dk_44 (dk_at dksX1_relation_2 21 rfl rfl)
theorem dX1_relation_67 : decode cX1_relation 67 = .ok (.getfield 55, 3) := dk_180 0 55 (dk_at dksX1_relation_3 0 rfl rfl)
theorem dX1_relation_70 : decode cX1_relation 70 = .ok (.invokevirtual 58, 3) := dk_182 0 58 (dk_at dksX1_relation_3 3 rfl rfl)
theorem dX1_relation_73 : decode cX1_relation 73 = .ok (.iconst 1, 1) := dk_4 (dk_at dksX1_relation_3 6 rfl rfl)
theorem dX1_relation_74 : decode cX1_relation 74 = .ok (.isub, 1) := dk_100 (dk_at dksX1_relation_3 7 rfl rfl)
theorem dX1_relation_75 : decode cX1_relation 75 = .ok (.ireturn, 1) := dk_172 (dk_at dksX1_relation_3 8 rfl rfl)
abbrev cX1_checkArgument : ByteArray := prog_1_method_8_code
def yX1_checkArgument : MethodName := ⟨RX1, "checkArgument", "(Z)V"⟩
def dkwX1_checkArgument_0 : List UInt8 := [26, 154, 0, 11, 187, 0, 46, 89, 183, 0, 48, 191, 177]
abbrev dktX1_checkArgument_0 : List UInt8 := dkwX1_checkArgument_0 ++ []
theorem dksX1_checkArgument_0 : cX1_checkArgument.data.toList.drop 0 = dktX1_checkArgument_0 := by decide +kernel
theorem dX1_checkArgument_0 : decode cX1_checkArgument 0 = .ok (.iload_n 0, 1) := dk_26 (dk_at dksX1_checkArgument_0 0 rfl rfl)
theorem dX1_checkArgument_1 : decode cX1_checkArgument 1 = .ok (.ifCond .ne 11, 3) := dk_154 0 11 (dk_at dksX1_checkArgument_0 1 rfl rfl)
theorem dX1_checkArgument_4 : decode cX1_checkArgument 4 = .ok (.new 46, 3) := dk_187 0 46 (dk_at dksX1_checkArgument_0 4 rfl rfl)
theorem dX1_checkArgument_7 : decode cX1_checkArgument 7 = .ok (.dup, 1) := dk_89 (dk_at dksX1_checkArgument_0 7 rfl rfl)
theorem dX1_checkArgument_8 : decode cX1_checkArgument 8 = .ok (.invokespecial 48, 3) := dk_183 0 48 (dk_at dksX1_checkArgument_0 8 rfl rfl)
theorem dX1_checkArgument_11 : decode cX1_checkArgument 11 = .ok (.athrow, 1) := dk_191 (dk_at dksX1_checkArgument_0 11 rfl rfl)
theorem dX1_checkArgument_12 : decode cX1_checkArgument 12 = .ok (.return_, 1) := dk_177 (dk_at dksX1_checkArgument_0 12 rfl rfl)
abbrev cX1_checkState : ByteArray := prog_1_method_9_code
def yX1_checkState : MethodName := ⟨RX1, "checkState", "(Z)V"⟩
def dkwX1_checkState_0 : List UInt8 := [26, 154, 0, 11, 187, 0, 49, 89, 183, 0, 51, 191, 177]
abbrev dktX1_checkState_0 : List UInt8 := dkwX1_checkState_0 ++ []
theorem dksX1_checkState_0 : cX1_checkState.data.toList.drop 0 = dktX1_checkState_0 := by decide +kernel
theorem dX1_checkState_0 : decode cX1_checkState 0 = .ok (.iload_n 0, 1) := dk_26 (dk_at dksX1_checkState_0 0 rfl rfl)
theorem dX1_checkState_1 : decode cX1_checkState 1 = .ok (.ifCond .ne 11, 3) := dk_154 0 11 (dk_at dksX1_checkState_0 1 rfl rfl)
theorem dX1_checkState_4 : decode cX1_checkState 4 = .ok (.new 49, 3) := dk_187 0 49 (dk_at dksX1_checkState_0 4 rfl rfl)
theorem dX1_checkState_7 : decode cX1_checkState 7 = .ok (.dup, 1) := dk_89 (dk_at dksX1_checkState_0 7 rfl rfl)
theorem dX1_checkState_8 : decode cX1_checkState 8 = .ok (.invokespecial 51, 3) := dk_183 0 51 (dk_at dksX1_checkState_0 8 rfl rfl)
theorem dX1_checkState_11 : decode cX1_checkState 11 = .ok (.athrow, 1) := dk_191 (dk_at dksX1_checkState_0 11 rfl rfl)
theorem dX1_checkState_12 : decode cX1_checkState 12 = .ok (.return_, 1) := dk_177 (dk_at dksX1_checkState_0 12 rfl rfl)
abbrev cX1_tell : ByteArray := prog_1_method_17_code
def yX1_tell : MethodName := ⟨RX1, "tell", "(II)I"⟩
def dkwX1_tell_2 : List UInt8 := [28, 96, 182, 0, 127, 42, 45, 182, 0, 130, 172]
abbrev dktX1_tell_2 : List UInt8 := dkwX1_tell_2 ++ []
def dkwX1_tell_1 : List UInt8 := [180, 0, 21, 182, 0, 117, 78, 45, 27, 28, 154, 0, 7, 3, 167, 0, 12, 42, 180, 0, 21, 180, 0, 124]
abbrev dktX1_tell_1 : List UInt8 := dkwX1_tell_1 ++ dktX1_tell_2
def dkwX1_tell_0 : List UInt8 := [42, 27, 182, 0, 121, 28, 155, 0, 13, 28, 16, 100, 163, 0, 7, 4, 167, 0, 4, 3, 184, 0, 85, 42]
abbrev dktX1_tell_0 : List UInt8 := dkwX1_tell_0 ++ dktX1_tell_1
theorem dksX1_tell_0 : cX1_tell.data.toList.drop 0 = dktX1_tell_0 := by decide +kernel
theorem dksX1_tell_1 : cX1_tell.data.toList.drop 24 = dktX1_tell_1 := dk_seg dksX1_tell_0 24 rfl rfl
theorem dksX1_tell_2 : cX1_tell.data.toList.drop 48 = dktX1_tell_2 := dk_seg dksX1_tell_1 24 rfl rfl
theorem dX1_tell_0 : decode cX1_tell 0 = .ok (.aload_n 0, 1) := dk_42 (dk_at dksX1_tell_0 0 rfl rfl)
theorem dX1_tell_1 : decode cX1_tell 1 = .ok (.iload_n 1, 1) := dk_27 (dk_at dksX1_tell_0 1 rfl rfl)
theorem dX1_tell_2 : decode cX1_tell 2 = .ok (.invokevirtual 121, 3) := dk_182 0 121 (dk_at dksX1_tell_0 2 rfl rfl)
theorem dX1_tell_5 : decode cX1_tell 5 = .ok (.iload_n 2, 1) := dk_28 (dk_at dksX1_tell_0 5 rfl rfl)
theorem dX1_tell_6 : decode cX1_tell 6 = .ok (.ifCond .lt 13, 3) := dk_155 0 13 (dk_at dksX1_tell_0 6 rfl rfl)
theorem dX1_tell_9 : decode cX1_tell 9 = .ok (.iload_n 2, 1) := dk_28 (dk_at dksX1_tell_0 9 rfl rfl)
theorem dX1_tell_10 : decode cX1_tell 10 = .ok (.bipush 100, 2) := dk_16 100 (dk_at dksX1_tell_0 10 rfl rfl)
theorem dX1_tell_12 : decode cX1_tell 12 = .ok (.if_icmp .gt 7, 3) := dk_163 0 7 (dk_at dksX1_tell_0 12 rfl rfl)
theorem dX1_tell_15 : decode cX1_tell 15 = .ok (.iconst 1, 1) := dk_4 (dk_at dksX1_tell_0 15 rfl rfl)
theorem dX1_tell_16 : decode cX1_tell 16 = .ok (.goto 4, 3) := dk_167 0 4 (dk_at dksX1_tell_0 16 rfl rfl)
theorem dX1_tell_19 : decode cX1_tell 19 = .ok (.iconst 0, 1) := dk_3 (dk_at dksX1_tell_0 19 rfl rfl)
theorem dX1_tell_20 : decode cX1_tell 20 = .ok (.invokestatic 85, 3) := dk_184 0 85 (dk_at dksX1_tell_0 20 rfl rfl)
theorem dX1_tell_23 : decode cX1_tell 23 = .ok (.aload_n 0, 1) := dk_42 (dk_at dksX1_tell_0 23 rfl rfl)
theorem dX1_tell_24 : decode cX1_tell 24 = .ok (.getfield 21, 3) := dk_180 0 21 (dk_at dksX1_tell_1 0 rfl rfl)
theorem dX1_tell_27 : decode cX1_tell 27 = .ok (.invokevirtual 117, 3) := dk_182 0 117 (dk_at dksX1_tell_1 3 rfl rfl)
theorem dX1_tell_30 : decode cX1_tell 30 = .ok (.astore_n 3, 1) := dk_78 (dk_at dksX1_tell_1 6 rfl rfl)
theorem dX1_tell_31 : decode cX1_tell 31 = .ok (.aload_n 3, 1) := dk_45 (dk_at dksX1_tell_1 7 rfl rfl)
theorem dX1_tell_32 : decode cX1_tell 32 = .ok (.iload_n 1, 1) := dk_27 (dk_at dksX1_tell_1 8 rfl rfl)
theorem dX1_tell_33 : decode cX1_tell 33 = .ok (.iload_n 2, 1) := dk_28 (dk_at dksX1_tell_1 9 rfl rfl)
theorem dX1_tell_34 : decode cX1_tell 34 = .ok (.ifCond .ne 7, 3) := dk_154 0 7 (dk_at dksX1_tell_1 10 rfl rfl)
theorem dX1_tell_37 : decode cX1_tell 37 = .ok (.iconst 0, 1) := dk_3 (dk_at dksX1_tell_1 13 rfl rfl)
theorem dX1_tell_38 : decode cX1_tell 38 = .ok (.goto 12, 3) := dk_167 0 12 (dk_at dksX1_tell_1 14 rfl rfl)
theorem dX1_tell_41 : decode cX1_tell 41 = .ok (.aload_n 0, 1) := dk_42 (dk_at dksX1_tell_1 17 rfl rfl)
theorem dX1_tell_42 : decode cX1_tell 42 = .ok (.getfield 21, 3) := dk_180 0 21 (dk_at dksX1_tell_1 18 rfl rfl)
theorem dX1_tell_45 : decode cX1_tell 45 = .ok (.getfield 124, 3) := dk_180 0 124 (dk_at dksX1_tell_1 21 rfl rfl)
theorem dX1_tell_48 : decode cX1_tell 48 = .ok (.iload_n 2, 1) := dk_28 (dk_at dksX1_tell_2 0 rfl rfl)
theorem dX1_tell_49 : decode cX1_tell 49 = .ok (.iadd, 1) := dk_96 (dk_at dksX1_tell_2 1 rfl rfl)
theorem dX1_tell_50 : decode cX1_tell 50 = .ok (.invokevirtual 127, 3) := dk_182 0 127 (dk_at dksX1_tell_2 2 rfl rfl)
theorem dX1_tell_53 : decode cX1_tell 53 = .ok (.aload_n 0, 1) := dk_42 (dk_at dksX1_tell_2 5 rfl rfl)
theorem dX1_tell_54 : decode cX1_tell 54 = .ok (.aload_n 3, 1) := dk_45 (dk_at dksX1_tell_2 6 rfl rfl)
theorem dX1_tell_55 : decode cX1_tell 55 = .ok (.invokevirtual 130, 3) := dk_182 0 130 (dk_at dksX1_tell_2 7 rfl rfl)
theorem dX1_tell_58 : decode cX1_tell 58 = .ok (.ireturn, 1) := dk_172 (dk_at dksX1_tell_2 10 rfl rfl)
abbrev cX1_checkFact : ByteArray := prog_1_method_13_code
def yX1_checkFact : MethodName := ⟨RX1, "checkFact", "(I)V"⟩
def dkwX1_checkFact_1 : List UInt8 := [184, 0, 85, 177]
abbrev dktX1_checkFact_1 : List UInt8 := dkwX1_checkFact_1 ++ []
def dkwX1_checkFact_0 : List UInt8 := [27, 18, 3, 42, 180, 0, 21, 180, 0, 55, 182, 0, 58, 104, 184, 0, 62, 42, 27, 182, 0, 81]
abbrev dktX1_checkFact_0 : List UInt8 := dkwX1_checkFact_0 ++ dktX1_checkFact_1
theorem dksX1_checkFact_0 : cX1_checkFact.data.toList.drop 0 = dktX1_checkFact_0 := by decide +kernel
theorem dksX1_checkFact_1 : cX1_checkFact.data.toList.drop 22 = dktX1_checkFact_1 := dk_seg dksX1_checkFact_0 22 rfl rfl
theorem dX1_checkFact_0 : decode cX1_checkFact 0 = .ok (.iload_n 1, 1) := dk_27 (dk_at dksX1_checkFact_0 0 rfl rfl)
theorem dX1_checkFact_1 : decode cX1_checkFact 1 = .ok (.ldc 3, 2) := dk_18 3 (dk_at dksX1_checkFact_0 1 rfl rfl)
theorem dX1_checkFact_3 : decode cX1_checkFact 3 = .ok (.aload_n 0, 1) := dk_42 (dk_at dksX1_checkFact_0 3 rfl rfl)
theorem dX1_checkFact_4 : decode cX1_checkFact 4 = .ok (.getfield 21, 3) := dk_180 0 21 (dk_at dksX1_checkFact_0 4 rfl rfl)
theorem dX1_checkFact_7 : decode cX1_checkFact 7 = .ok (.getfield 55, 3) := dk_180 0 55 (dk_at dksX1_checkFact_0 7 rfl rfl)
theorem dX1_checkFact_10 : decode cX1_checkFact 10 = .ok (.invokevirtual 58, 3) := dk_182 0 58 (dk_at dksX1_checkFact_0 10 rfl rfl)
theorem dX1_checkFact_13 : decode cX1_checkFact 13 = .ok (.imul, 1) := dk_104 (dk_at dksX1_checkFact_0 13 rfl rfl)
theorem dX1_checkFact_14 : decode cX1_checkFact 14 = .ok (.invokestatic 62, 3) := dk_184 0 62 (dk_at dksX1_checkFact_0 14 rfl rfl)
theorem dX1_checkFact_17 : decode cX1_checkFact 17 = .ok (.aload_n 0, 1) := dk_42 (dk_at dksX1_checkFact_0 17 rfl rfl)
theorem dX1_checkFact_18 : decode cX1_checkFact 18 = .ok (.iload_n 1, 1) := dk_27 (dk_at dksX1_checkFact_0 18 rfl rfl)
theorem dX1_checkFact_19 : decode cX1_checkFact 19 = .ok (.invokevirtual 81, 3) := dk_182 0 81 (dk_at dksX1_checkFact_0 19 rfl rfl)
theorem dX1_checkFact_22 : decode cX1_checkFact 22 = .ok (.invokestatic 85, 3) := dk_184 0 85 (dk_at dksX1_checkFact_1 0 rfl rfl)
theorem dX1_checkFact_25 : decode cX1_checkFact 25 = .ok (.return_, 1) := dk_177 (dk_at dksX1_checkFact_1 3 rfl rfl)
abbrev cX1_checkIndex : ByteArray := prog_1_method_10_code
def yX1_checkIndex : MethodName := ⟨RX1, "checkIndex", "(II)V"⟩
def dkwX1_checkIndex_0 : List UInt8 := [26, 155, 0, 8, 26, 27, 161, 0, 11, 187, 0, 52, 89, 183, 0, 54, 191, 177]
abbrev dktX1_checkIndex_0 : List UInt8 := dkwX1_checkIndex_0 ++ []
theorem dksX1_checkIndex_0 : cX1_checkIndex.data.toList.drop 0 = dktX1_checkIndex_0 := by decide +kernel
theorem dX1_checkIndex_0 : decode cX1_checkIndex 0 = .ok (.iload_n 0, 1) := dk_26 (dk_at dksX1_checkIndex_0 0 rfl rfl)
theorem dX1_checkIndex_1 : decode cX1_checkIndex 1 = .ok (.ifCond .lt 8, 3) := dk_155 0 8 (dk_at dksX1_checkIndex_0 1 rfl rfl)
theorem dX1_checkIndex_4 : decode cX1_checkIndex 4 = .ok (.iload_n 0, 1) := dk_26 (dk_at dksX1_checkIndex_0 4 rfl rfl)
theorem dX1_checkIndex_5 : decode cX1_checkIndex 5 = .ok (.iload_n 1, 1) := dk_27 (dk_at dksX1_checkIndex_0 5 rfl rfl)
theorem dX1_checkIndex_6 : decode cX1_checkIndex 6 = .ok (.if_icmp .lt 11, 3) := dk_161 0 11 (dk_at dksX1_checkIndex_0 6 rfl rfl)
theorem dX1_checkIndex_9 : decode cX1_checkIndex 9 = .ok (.new 52, 3) := dk_187 0 52 (dk_at dksX1_checkIndex_0 9 rfl rfl)
theorem dX1_checkIndex_12 : decode cX1_checkIndex 12 = .ok (.dup, 1) := dk_89 (dk_at dksX1_checkIndex_0 12 rfl rfl)
theorem dX1_checkIndex_13 : decode cX1_checkIndex 13 = .ok (.invokespecial 54, 3) := dk_183 0 54 (dk_at dksX1_checkIndex_0 13 rfl rfl)
theorem dX1_checkIndex_16 : decode cX1_checkIndex 16 = .ok (.athrow, 1) := dk_191 (dk_at dksX1_checkIndex_0 16 rfl rfl)
theorem dX1_checkIndex_17 : decode cX1_checkIndex 17 = .ok (.return_, 1) := dk_177 (dk_at dksX1_checkIndex_0 17 rfl rfl)
abbrev cX1_isProper : ByteArray := prog_1_method_12_code
def yX1_isProper : MethodName := ⟨RX1, "isProper", "(I)Z"⟩
def dkwX1_isProper_2 : List UInt8 := [4, 167, 0, 4, 3, 172]
abbrev dktX1_isProper_2 : List UInt8 := dkwX1_isProper_2 ++ []
def dkwX1_isProper_1 : List UInt8 := [163, 0, 11, 27, 4, 184, 0, 77, 154, 0, 20, 28, 5, 163, 0, 11, 27, 5, 184, 0, 77, 154, 0, 7]
abbrev dktX1_isProper_1 : List UInt8 := dkwX1_isProper_1 ++ dktX1_isProper_2
def dkwX1_isProper_0 : List UInt8 := [42, 180, 0, 21, 180, 0, 55, 27, 184, 0, 66, 182, 0, 70, 192, 0, 38, 182, 0, 74, 61, 28, 4]
abbrev dktX1_isProper_0 : List UInt8 := dkwX1_isProper_0 ++ dktX1_isProper_1
theorem dksX1_isProper_0 : cX1_isProper.data.toList.drop 0 = dktX1_isProper_0 := by decide +kernel
theorem dksX1_isProper_1 : cX1_isProper.data.toList.drop 23 = dktX1_isProper_1 := dk_seg dksX1_isProper_0 23 rfl rfl
theorem dksX1_isProper_2 : cX1_isProper.data.toList.drop 47 = dktX1_isProper_2 := dk_seg dksX1_isProper_1 24 rfl rfl
theorem dX1_isProper_0 : decode cX1_isProper 0 = .ok (.aload_n 0, 1) := dk_42 (dk_at dksX1_isProper_0 0 rfl rfl)
theorem dX1_isProper_1 : decode cX1_isProper 1 = .ok (.getfield 21, 3) := dk_180 0 21 (dk_at dksX1_isProper_0 1 rfl rfl)
theorem dX1_isProper_4 : decode cX1_isProper 4 = .ok (.getfield 55, 3) := dk_180 0 55 (dk_at dksX1_isProper_0 4 rfl rfl)
theorem dX1_isProper_7 : decode cX1_isProper 7 = .ok (.iload_n 1, 1) := dk_27 (dk_at dksX1_isProper_0 7 rfl rfl)
theorem dX1_isProper_8 : decode cX1_isProper 8 = .ok (.invokestatic 66, 3) := dk_184 0 66 (dk_at dksX1_isProper_0 8 rfl rfl)
theorem dX1_isProper_11 : decode cX1_isProper 11 = .ok (.invokevirtual 70, 3) := dk_182 0 70 (dk_at dksX1_isProper_0 11 rfl rfl)
theorem dX1_isProper_14 : decode cX1_isProper 14 = .ok (.checkcast 38, 3) := dk_192 0 38 (dk_at dksX1_isProper_0 14 rfl rfl)
theorem dX1_isProper_17 : decode cX1_isProper 17 = .ok (.invokevirtual 74, 3) := dk_182 0 74 (dk_at dksX1_isProper_0 17 rfl rfl)
theorem dX1_isProper_20 : decode cX1_isProper 20 = .ok (.istore_n 2, 1) := dk_61 (dk_at dksX1_isProper_0 20 rfl rfl)
theorem dX1_isProper_21 : decode cX1_isProper 21 = .ok (.iload_n 2, 1) := dk_28 (dk_at dksX1_isProper_0 21 rfl rfl)
theorem dX1_isProper_22 : decode cX1_isProper 22 = .ok (.iconst 1, 1) := dk_4 (dk_at dksX1_isProper_0 22 rfl rfl)
theorem dX1_isProper_23 : decode cX1_isProper 23 = .ok (.if_icmp .gt 11, 3) := dk_163 0 11 (dk_at dksX1_isProper_1 0 rfl rfl)
theorem dX1_isProper_26 : decode cX1_isProper 26 = .ok (.iload_n 1, 1) := dk_27 (dk_at dksX1_isProper_1 3 rfl rfl)
theorem dX1_isProper_27 : decode cX1_isProper 27 = .ok (.iconst 1, 1) := dk_4 (dk_at dksX1_isProper_1 4 rfl rfl)
theorem dX1_isProper_28 : decode cX1_isProper 28 = .ok (.invokestatic 77, 3) := dk_184 0 77 (dk_at dksX1_isProper_1 5 rfl rfl)
theorem dX1_isProper_31 : decode cX1_isProper 31 = .ok (.ifCond .ne 20, 3) := dk_154 0 20 (dk_at dksX1_isProper_1 8 rfl rfl)
theorem dX1_isProper_34 : decode cX1_isProper 34 = .ok (.iload_n 2, 1) := dk_28 (dk_at dksX1_isProper_1 11 rfl rfl)
theorem dX1_isProper_35 : decode cX1_isProper 35 = .ok (.iconst 2, 1) := dk_5 (dk_at dksX1_isProper_1 12 rfl rfl)
theorem dX1_isProper_36 : decode cX1_isProper 36 = .ok (.if_icmp .gt 11, 3) := dk_163 0 11 (dk_at dksX1_isProper_1 13 rfl rfl)
theorem dX1_isProper_39 : decode cX1_isProper 39 = .ok (.iload_n 1, 1) := dk_27 (dk_at dksX1_isProper_1 16 rfl rfl)
theorem dX1_isProper_40 : decode cX1_isProper 40 = .ok (.iconst 2, 1) := dk_5 (dk_at dksX1_isProper_1 17 rfl rfl)
theorem dX1_isProper_41 : decode cX1_isProper 41 = .ok (.invokestatic 77, 3) := dk_184 0 77 (dk_at dksX1_isProper_1 18 rfl rfl)
theorem dX1_isProper_44 : decode cX1_isProper 44 = .ok (.ifCond .ne 7, 3) := dk_154 0 7 (dk_at dksX1_isProper_1 21 rfl rfl)
theorem dX1_isProper_47 : decode cX1_isProper 47 = .ok (.iconst 1, 1) := dk_4 (dk_at dksX1_isProper_2 0 rfl rfl)
theorem dX1_isProper_48 : decode cX1_isProper 48 = .ok (.goto 4, 3) := dk_167 0 4 (dk_at dksX1_isProper_2 1 rfl rfl)
theorem dX1_isProper_51 : decode cX1_isProper 51 = .ok (.iconst 0, 1) := dk_3 (dk_at dksX1_isProper_2 4 rfl rfl)
theorem dX1_isProper_52 : decode cX1_isProper 52 = .ok (.ireturn, 1) := dk_172 (dk_at dksX1_isProper_2 5 rfl rfl)
abbrev cX1_relationOf : ByteArray := prog_1_method_1_code
def yX1_relationOf : MethodName := ⟨RX1, "relationOf", "(I)I"⟩
def dkwX1_relationOf_0 : List UInt8 := [26, 18, 3, 108, 172]
abbrev dktX1_relationOf_0 : List UInt8 := dkwX1_relationOf_0 ++ []
theorem dksX1_relationOf_0 : cX1_relationOf.data.toList.drop 0 = dktX1_relationOf_0 := by decide +kernel
theorem dX1_relationOf_0 : decode cX1_relationOf 0 = .ok (.iload_n 0, 1) := dk_26 (dk_at dksX1_relationOf_0 0 rfl rfl)
theorem dX1_relationOf_1 : decode cX1_relationOf 1 = .ok (.ldc 3, 2) := dk_18 3 (dk_at dksX1_relationOf_0 1 rfl rfl)
theorem dX1_relationOf_3 : decode cX1_relationOf 3 = .ok (.idiv, 1) := dk_108 (dk_at dksX1_relationOf_0 3 rfl rfl)
theorem dX1_relationOf_4 : decode cX1_relationOf 4 = .ok (.ireturn, 1) := dk_172 (dk_at dksX1_relationOf_0 4 rfl rfl)
abbrev cX1_become : ByteArray := prog_1_method_15_code
def yX1_become : MethodName := ⟨RX1, "become", "(LRulehearth$World;)I"⟩
def dkwX1_become_1 : List UInt8 := [180, 0, 105, 180, 0, 109, 172]
abbrev dktX1_become_1 : List UInt8 := dkwX1_become_1 ++ []
def dkwX1_become_0 : List UInt8 := [43, 182, 0, 95, 167, 0, 14, 77, 187, 0, 49, 89, 1, 44, 183, 0, 102, 191, 42, 43, 181, 0, 21, 43]
abbrev dktX1_become_0 : List UInt8 := dkwX1_become_0 ++ dktX1_become_1
theorem dksX1_become_0 : cX1_become.data.toList.drop 0 = dktX1_become_0 := by decide +kernel
theorem dksX1_become_1 : cX1_become.data.toList.drop 24 = dktX1_become_1 := dk_seg dksX1_become_0 24 rfl rfl
theorem dX1_become_0 : decode cX1_become 0 = .ok (.aload_n 1, 1) := dk_43 (dk_at dksX1_become_0 0 rfl rfl)
theorem dX1_become_1 : decode cX1_become 1 = .ok (.invokevirtual 95, 3) := dk_182 0 95 (dk_at dksX1_become_0 1 rfl rfl)
theorem dX1_become_4 : decode cX1_become 4 = .ok (.goto 14, 3) := dk_167 0 14 (dk_at dksX1_become_0 4 rfl rfl)
theorem dX1_become_7 : decode cX1_become 7 = .ok (.astore_n 2, 1) := dk_77 (dk_at dksX1_become_0 7 rfl rfl)
theorem dX1_become_8 : decode cX1_become 8 = .ok (.new 49, 3) := dk_187 0 49 (dk_at dksX1_become_0 8 rfl rfl)
theorem dX1_become_11 : decode cX1_become 11 = .ok (.dup, 1) := dk_89 (dk_at dksX1_become_0 11 rfl rfl)
theorem dX1_become_12 : decode cX1_become 12 = .ok (.aconst_null, 1) := dk_1 (dk_at dksX1_become_0 12 rfl rfl)
theorem dX1_become_13 : decode cX1_become 13 = .ok (.aload_n 2, 1) := dk_44 (dk_at dksX1_become_0 13 rfl rfl)
theorem dX1_become_14 : decode cX1_become 14 = .ok (.invokespecial 102, 3) := dk_183 0 102 (dk_at dksX1_become_0 14 rfl rfl)
theorem dX1_become_17 : decode cX1_become 17 = .ok (.athrow, 1) := dk_191 (dk_at dksX1_become_0 17 rfl rfl)
theorem dX1_become_18 : decode cX1_become 18 = .ok (.aload_n 0, 1) := dk_42 (dk_at dksX1_become_0 18 rfl rfl)
theorem dX1_become_19 : decode cX1_become 19 = .ok (.aload_n 1, 1) := dk_43 (dk_at dksX1_become_0 19 rfl rfl)
theorem dX1_become_20 : decode cX1_become 20 = .ok (.putfield 21, 3) := dk_181 0 21 (dk_at dksX1_become_0 20 rfl rfl)
theorem dX1_become_23 : decode cX1_become 23 = .ok (.aload_n 1, 1) := dk_43 (dk_at dksX1_become_0 23 rfl rfl)
theorem dX1_become_24 : decode cX1_become 24 = .ok (.getfield 105, 3) := dk_180 0 105 (dk_at dksX1_become_1 0 rfl rfl)
theorem dX1_become_27 : decode cX1_become 27 = .ok (.getfield 109, 3) := dk_180 0 109 (dk_at dksX1_become_1 3 rfl rfl)
theorem dX1_become_30 : decode cX1_become 30 = .ok (.ireturn, 1) := dk_172 (dk_at dksX1_become_1 6 rfl rfl)
abbrev cX1_take : ByteArray := prog_1_method_18_code
def yX1_take : MethodName := ⟨RX1, "take", "(I)I"⟩
def dkwX1_take_2 : List UInt8 := [182, 0, 130, 172]
abbrev dktX1_take_2 : List UInt8 := dkwX1_take_2 ++ []
def dkwX1_take_1 : List UInt8 := [184, 0, 114, 42, 180, 0, 21, 182, 0, 117, 78, 45, 180, 0, 137, 28, 182, 0, 140, 87, 42, 45]
abbrev dktX1_take_1 : List UInt8 := dkwX1_take_1 ++ dktX1_take_2
def dkwX1_take_0 : List UInt8 := [42, 27, 182, 0, 121, 42, 180, 0, 21, 27, 182, 0, 134, 61, 28, 2, 159, 0, 7, 4, 167, 0, 4, 3]
abbrev dktX1_take_0 : List UInt8 := dkwX1_take_0 ++ dktX1_take_1
theorem dksX1_take_0 : cX1_take.data.toList.drop 0 = dktX1_take_0 := by decide +kernel
theorem dksX1_take_1 : cX1_take.data.toList.drop 24 = dktX1_take_1 := dk_seg dksX1_take_0 24 rfl rfl
theorem dksX1_take_2 : cX1_take.data.toList.drop 46 = dktX1_take_2 := dk_seg dksX1_take_1 22 rfl rfl
theorem dX1_take_0 : decode cX1_take 0 = .ok (.aload_n 0, 1) := dk_42 (dk_at dksX1_take_0 0 rfl rfl)
theorem dX1_take_1 : decode cX1_take 1 = .ok (.iload_n 1, 1) := dk_27 (dk_at dksX1_take_0 1 rfl rfl)
theorem dX1_take_2 : decode cX1_take 2 = .ok (.invokevirtual 121, 3) := dk_182 0 121 (dk_at dksX1_take_0 2 rfl rfl)
theorem dX1_take_5 : decode cX1_take 5 = .ok (.aload_n 0, 1) := dk_42 (dk_at dksX1_take_0 5 rfl rfl)
theorem dX1_take_6 : decode cX1_take 6 = .ok (.getfield 21, 3) := dk_180 0 21 (dk_at dksX1_take_0 6 rfl rfl)
theorem dX1_take_9 : decode cX1_take 9 = .ok (.iload_n 1, 1) := dk_27 (dk_at dksX1_take_0 9 rfl rfl)
theorem dX1_take_10 : decode cX1_take 10 = .ok (.invokevirtual 134, 3) := dk_182 0 134 (dk_at dksX1_take_0 10 rfl rfl)
theorem dX1_take_13 : decode cX1_take 13 = .ok (.istore_n 2, 1) := dk_61 (dk_at dksX1_take_0 13 rfl rfl)
theorem dX1_take_14 : decode cX1_take 14 = .ok (.iload_n 2, 1) := dk_28 (dk_at dksX1_take_0 14 rfl rfl)
theorem dX1_take_15 : decode cX1_take 15 = .ok (.iconst (-1), 1) := dk_2 (dk_at dksX1_take_0 15 rfl rfl)
theorem dX1_take_16 : decode cX1_take 16 = .ok (.if_icmp .eq 7, 3) := dk_159 0 7 (dk_at dksX1_take_0 16 rfl rfl)
theorem dX1_take_19 : decode cX1_take 19 = .ok (.iconst 1, 1) := dk_4 (dk_at dksX1_take_0 19 rfl rfl)
theorem dX1_take_20 : decode cX1_take 20 = .ok (.goto 4, 3) := dk_167 0 4 (dk_at dksX1_take_0 20 rfl rfl)
theorem dX1_take_23 : decode cX1_take 23 = .ok (.iconst 0, 1) := dk_3 (dk_at dksX1_take_0 23 rfl rfl)
theorem dX1_take_24 : decode cX1_take 24 = .ok (.invokestatic 114, 3) := dk_184 0 114 (dk_at dksX1_take_1 0 rfl rfl)
theorem dX1_take_27 : decode cX1_take 27 = .ok (.aload_n 0, 1) := dk_42 (dk_at dksX1_take_1 3 rfl rfl)
theorem dX1_take_28 : decode cX1_take 28 = .ok (.getfield 21, 3) := dk_180 0 21 (dk_at dksX1_take_1 4 rfl rfl)
theorem dX1_take_31 : decode cX1_take 31 = .ok (.invokevirtual 117, 3) := dk_182 0 117 (dk_at dksX1_take_1 7 rfl rfl)
theorem dX1_take_34 : decode cX1_take 34 = .ok (.astore_n 3, 1) := dk_78 (dk_at dksX1_take_1 10 rfl rfl)
theorem dX1_take_35 : decode cX1_take 35 = .ok (.aload_n 3, 1) := dk_45 (dk_at dksX1_take_1 11 rfl rfl)
theorem dX1_take_36 : decode cX1_take 36 = .ok (.getfield 137, 3) := dk_180 0 137 (dk_at dksX1_take_1 12 rfl rfl)
theorem dX1_take_39 : decode cX1_take 39 = .ok (.iload_n 2, 1) := dk_28 (dk_at dksX1_take_1 15 rfl rfl)
theorem dX1_take_40 : decode cX1_take 40 = .ok (.invokevirtual 140, 3) := dk_182 0 140 (dk_at dksX1_take_1 16 rfl rfl)
theorem dX1_take_43 : decode cX1_take 43 = .ok (.pop, 1) := dk_87 (dk_at dksX1_take_1 19 rfl rfl)
theorem dX1_take_44 : decode cX1_take 44 = .ok (.aload_n 0, 1) := dk_42 (dk_at dksX1_take_1 20 rfl rfl)
theorem dX1_take_45 : decode cX1_take 45 = .ok (.aload_n 3, 1) := dk_45 (dk_at dksX1_take_1 21 rfl rfl)
theorem dX1_take_46 : decode cX1_take 46 = .ok (.invokevirtual 130, 3) := dk_182 0 130 (dk_at dksX1_take_2 0 rfl rfl)
theorem dX1_take_49 : decode cX1_take 49 = .ok (.ireturn, 1) := dk_172 (dk_at dksX1_take_2 3 rfl rfl)
abbrev cX1_stands : ByteArray := prog_1_method_19_code
def yX1_stands : MethodName := ⟨RX1, "stands", "(I)Z"⟩
def dkwX1_stands_0 : List UInt8 := [42, 27, 182, 0, 121, 42, 180, 0, 21, 180, 0, 105, 27, 182, 0, 143, 172]
abbrev dktX1_stands_0 : List UInt8 := dkwX1_stands_0 ++ []
theorem dksX1_stands_0 : cX1_stands.data.toList.drop 0 = dktX1_stands_0 := by decide +kernel
theorem dX1_stands_0 : decode cX1_stands 0 = .ok (.aload_n 0, 1) := dk_42 (dk_at dksX1_stands_0 0 rfl rfl)
theorem dX1_stands_1 : decode cX1_stands 1 = .ok (.iload_n 1, 1) := dk_27 (dk_at dksX1_stands_0 1 rfl rfl)
theorem dX1_stands_2 : decode cX1_stands 2 = .ok (.invokevirtual 121, 3) := dk_182 0 121 (dk_at dksX1_stands_0 2 rfl rfl)
theorem dX1_stands_5 : decode cX1_stands 5 = .ok (.aload_n 0, 1) := dk_42 (dk_at dksX1_stands_0 5 rfl rfl)
theorem dX1_stands_6 : decode cX1_stands 6 = .ok (.getfield 21, 3) := dk_180 0 21 (dk_at dksX1_stands_0 6 rfl rfl)
theorem dX1_stands_9 : decode cX1_stands 9 = .ok (.getfield 105, 3) := dk_180 0 105 (dk_at dksX1_stands_0 9 rfl rfl)
theorem dX1_stands_12 : decode cX1_stands 12 = .ok (.iload_n 1, 1) := dk_27 (dk_at dksX1_stands_0 12 rfl rfl)
theorem dX1_stands_13 : decode cX1_stands 13 = .ok (.invokevirtual 143, 3) := dk_182 0 143 (dk_at dksX1_stands_0 13 rfl rfl)
theorem dX1_stands_16 : decode cX1_stands 16 = .ok (.ireturn, 1) := dk_172 (dk_at dksX1_stands_0 16 rfl rfl)
abbrev cX1_standsByRounds : ByteArray := prog_1_method_20_code
def yX1_standsByRounds : MethodName := ⟨RX1, "standsByRounds", "(I)Z"⟩
def dkwX1_standsByRounds_1 : List UInt8 := [77, 187, 0, 49, 89, 1, 44, 183, 0, 102, 191]
abbrev dktX1_standsByRounds_1 : List UInt8 := dkwX1_standsByRounds_1 ++ []
def dkwX1_standsByRounds_0 : List UInt8 := [42, 27, 182, 0, 121, 42, 180, 0, 21, 42, 180, 0, 21, 182, 0, 146, 182, 0, 150, 27, 182, 0, 143, 172]
abbrev dktX1_standsByRounds_0 : List UInt8 := dkwX1_standsByRounds_0 ++ dktX1_standsByRounds_1
theorem dksX1_standsByRounds_0 : cX1_standsByRounds.data.toList.drop 0 = dktX1_standsByRounds_0 := by decide +kernel
theorem dksX1_standsByRounds_1 : cX1_standsByRounds.data.toList.drop 24 = dktX1_standsByRounds_1 := dk_seg dksX1_standsByRounds_0 24 rfl rfl
theorem dX1_standsByRounds_0 : decode cX1_standsByRounds 0 = .ok (.aload_n 0, 1) := dk_42 (dk_at dksX1_standsByRounds_0 0 rfl rfl)
theorem dX1_standsByRounds_1 : decode cX1_standsByRounds 1 = .ok (.iload_n 1, 1) := dk_27 (dk_at dksX1_standsByRounds_0 1 rfl rfl)
theorem dX1_standsByRounds_2 : decode cX1_standsByRounds 2 = .ok (.invokevirtual 121, 3) := dk_182 0 121 (dk_at dksX1_standsByRounds_0 2 rfl rfl)
theorem dX1_standsByRounds_5 : decode cX1_standsByRounds 5 = .ok (.aload_n 0, 1) := dk_42 (dk_at dksX1_standsByRounds_0 5 rfl rfl)
theorem dX1_standsByRounds_6 : decode cX1_standsByRounds 6 = .ok (.getfield 21, 3) := dk_180 0 21 (dk_at dksX1_standsByRounds_0 6 rfl rfl)
theorem dX1_standsByRounds_9 : decode cX1_standsByRounds 9 = .ok (.aload_n 0, 1) := dk_42 (dk_at dksX1_standsByRounds_0 9 rfl rfl)
theorem dX1_standsByRounds_10 : decode cX1_standsByRounds 10 = .ok (.getfield 21, 3) := dk_180 0 21 (dk_at dksX1_standsByRounds_0 10 rfl rfl)
theorem dX1_standsByRounds_13 : decode cX1_standsByRounds 13 = .ok (.invokevirtual 146, 3) := dk_182 0 146 (dk_at dksX1_standsByRounds_0 13 rfl rfl)
theorem dX1_standsByRounds_16 : decode cX1_standsByRounds 16 = .ok (.invokevirtual 150, 3) := dk_182 0 150 (dk_at dksX1_standsByRounds_0 16 rfl rfl)
theorem dX1_standsByRounds_19 : decode cX1_standsByRounds 19 = .ok (.iload_n 1, 1) := dk_27 (dk_at dksX1_standsByRounds_0 19 rfl rfl)
theorem dX1_standsByRounds_20 : decode cX1_standsByRounds 20 = .ok (.invokevirtual 143, 3) := dk_182 0 143 (dk_at dksX1_standsByRounds_0 20 rfl rfl)
theorem dX1_standsByRounds_23 : decode cX1_standsByRounds 23 = .ok (.ireturn, 1) := dk_172 (dk_at dksX1_standsByRounds_0 23 rfl rfl)
theorem dX1_standsByRounds_24 : decode cX1_standsByRounds 24 = .ok (.astore_n 2, 1) := dk_77 (dk_at dksX1_standsByRounds_1 0 rfl rfl)
theorem dX1_standsByRounds_25 : decode cX1_standsByRounds 25 = .ok (.new 49, 3) := dk_187 0 49 (dk_at dksX1_standsByRounds_1 1 rfl rfl)
theorem dX1_standsByRounds_28 : decode cX1_standsByRounds 28 = .ok (.dup, 1) := dk_89 (dk_at dksX1_standsByRounds_1 4 rfl rfl)
theorem dX1_standsByRounds_29 : decode cX1_standsByRounds 29 = .ok (.aconst_null, 1) := dk_1 (dk_at dksX1_standsByRounds_1 5 rfl rfl)
theorem dX1_standsByRounds_30 : decode cX1_standsByRounds 30 = .ok (.aload_n 2, 1) := dk_44 (dk_at dksX1_standsByRounds_1 6 rfl rfl)
theorem dX1_standsByRounds_31 : decode cX1_standsByRounds 31 = .ok (.invokespecial 102, 3) := dk_183 0 102 (dk_at dksX1_standsByRounds_1 7 rfl rfl)
theorem dX1_standsByRounds_34 : decode cX1_standsByRounds 34 = .ok (.athrow, 1) := dk_191 (dk_at dksX1_standsByRounds_1 10 rfl rfl)
abbrev cX1_endOf : ByteArray := prog_1_method_21_code
def yX1_endOf : MethodName := ⟨RX1, "endOf", "(I)I"⟩
def dkwX1_endOf_1 : List UInt8 := [180, 0, 21, 180, 0, 137, 28, 182, 0, 70, 192, 0, 154, 4, 46, 172]
abbrev dktX1_endOf_1 : List UInt8 := dkwX1_endOf_1 ++ []
def dkwX1_endOf_0 : List UInt8 := [42, 27, 182, 0, 121, 42, 180, 0, 21, 27, 182, 0, 134, 61, 28, 2, 160, 0, 7, 2, 167, 0, 19, 42]
abbrev dktX1_endOf_0 : List UInt8 := dkwX1_endOf_0 ++ dktX1_endOf_1
theorem dksX1_endOf_0 : cX1_endOf.data.toList.drop 0 = dktX1_endOf_0 := by decide +kernel
theorem dksX1_endOf_1 : cX1_endOf.data.toList.drop 24 = dktX1_endOf_1 := dk_seg dksX1_endOf_0 24 rfl rfl
theorem dX1_endOf_0 : decode cX1_endOf 0 = .ok (.aload_n 0, 1) := dk_42 (dk_at dksX1_endOf_0 0 rfl rfl)
theorem dX1_endOf_1 : decode cX1_endOf 1 = .ok (.iload_n 1, 1) := dk_27 (dk_at dksX1_endOf_0 1 rfl rfl)
theorem dX1_endOf_2 : decode cX1_endOf 2 = .ok (.invokevirtual 121, 3) := dk_182 0 121 (dk_at dksX1_endOf_0 2 rfl rfl)
theorem dX1_endOf_5 : decode cX1_endOf 5 = .ok (.aload_n 0, 1) := dk_42 (dk_at dksX1_endOf_0 5 rfl rfl)
theorem dX1_endOf_6 : decode cX1_endOf 6 = .ok (.getfield 21, 3) := dk_180 0 21 (dk_at dksX1_endOf_0 6 rfl rfl)
theorem dX1_endOf_9 : decode cX1_endOf 9 = .ok (.iload_n 1, 1) := dk_27 (dk_at dksX1_endOf_0 9 rfl rfl)
theorem dX1_endOf_10 : decode cX1_endOf 10 = .ok (.invokevirtual 134, 3) := dk_182 0 134 (dk_at dksX1_endOf_0 10 rfl rfl)
theorem dX1_endOf_13 : decode cX1_endOf 13 = .ok (.istore_n 2, 1) := dk_61 (dk_at dksX1_endOf_0 13 rfl rfl)
theorem dX1_endOf_14 : decode cX1_endOf 14 = .ok (.iload_n 2, 1) := dk_28 (dk_at dksX1_endOf_0 14 rfl rfl)
theorem dX1_endOf_15 : decode cX1_endOf 15 = .ok (.iconst (-1), 1) := dk_2 (dk_at dksX1_endOf_0 15 rfl rfl)
theorem dX1_endOf_16 : decode cX1_endOf 16 = .ok (.if_icmp .ne 7, 3) := dk_160 0 7 (dk_at dksX1_endOf_0 16 rfl rfl)
theorem dX1_endOf_19 : decode cX1_endOf 19 = .ok (.iconst (-1), 1) := dk_2 (dk_at dksX1_endOf_0 19 rfl rfl)
theorem dX1_endOf_20 : decode cX1_endOf 20 = .ok (.goto 19, 3) := dk_167 0 19 (dk_at dksX1_endOf_0 20 rfl rfl)
theorem dX1_endOf_23 : decode cX1_endOf 23 = .ok (.aload_n 0, 1) := dk_42 (dk_at dksX1_endOf_0 23 rfl rfl)
theorem dX1_endOf_24 : decode cX1_endOf 24 = .ok (.getfield 21, 3) := dk_180 0 21 (dk_at dksX1_endOf_1 0 rfl rfl)
theorem dX1_endOf_27 : decode cX1_endOf 27 = .ok (.getfield 137, 3) := dk_180 0 137 (dk_at dksX1_endOf_1 3 rfl rfl)
theorem dX1_endOf_30 : decode cX1_endOf 30 = .ok (.iload_n 2, 1) := dk_28 (dk_at dksX1_endOf_1 6 rfl rfl)
theorem dX1_endOf_31 : decode cX1_endOf 31 = .ok (.invokevirtual 70, 3) := dk_182 0 70 (dk_at dksX1_endOf_1 7 rfl rfl)
theorem dX1_endOf_34 : decode cX1_endOf 34 = .ok (.checkcast 154, 3) := dk_192 0 154 (dk_at dksX1_endOf_1 10 rfl rfl)
theorem dX1_endOf_37 : decode cX1_endOf 37 = .ok (.iconst 1, 1) := dk_4 (dk_at dksX1_endOf_1 13 rfl rfl)
theorem dX1_endOf_38 : decode cX1_endOf 38 = .ok (.iaload, 1) := dk_46 (dk_at dksX1_endOf_1 14 rfl rfl)
theorem dX1_endOf_39 : decode cX1_endOf 39 = .ok (.ireturn, 1) := dk_172 (dk_at dksX1_endOf_1 15 rfl rfl)
abbrev cX1_tag : ByteArray := prog_1_method_22_code
def yX1_tag : MethodName := ⟨RX1, "tag", "(I)I"⟩
def dkwX1_tag_0 : List UInt8 := [42, 27, 182, 0, 121, 42, 180, 0, 21, 27, 182, 0, 156, 172]
abbrev dktX1_tag_0 : List UInt8 := dkwX1_tag_0 ++ []
theorem dksX1_tag_0 : cX1_tag.data.toList.drop 0 = dktX1_tag_0 := by decide +kernel
theorem dX1_tag_0 : decode cX1_tag 0 = .ok (.aload_n 0, 1) := dk_42 (dk_at dksX1_tag_0 0 rfl rfl)
theorem dX1_tag_1 : decode cX1_tag 1 = .ok (.iload_n 1, 1) := dk_27 (dk_at dksX1_tag_0 1 rfl rfl)
theorem dX1_tag_2 : decode cX1_tag 2 = .ok (.invokevirtual 121, 3) := dk_182 0 121 (dk_at dksX1_tag_0 2 rfl rfl)
theorem dX1_tag_5 : decode cX1_tag 5 = .ok (.aload_n 0, 1) := dk_42 (dk_at dksX1_tag_0 5 rfl rfl)
theorem dX1_tag_6 : decode cX1_tag 6 = .ok (.getfield 21, 3) := dk_180 0 21 (dk_at dksX1_tag_0 6 rfl rfl)
theorem dX1_tag_9 : decode cX1_tag 9 = .ok (.iload_n 1, 1) := dk_27 (dk_at dksX1_tag_0 9 rfl rfl)
theorem dX1_tag_10 : decode cX1_tag 10 = .ok (.invokevirtual 156, 3) := dk_182 0 156 (dk_at dksX1_tag_0 10 rfl rfl)
theorem dX1_tag_13 : decode cX1_tag 13 = .ok (.ireturn, 1) := dk_172 (dk_at dksX1_tag_0 13 rfl rfl)
abbrev cX1_standingAt : ByteArray := prog_1_method_24_code
def yX1_standingAt : MethodName := ⟨RX1, "standingAt", "(I)I"⟩
def dkwX1_standingAt_1 : List UInt8 := [27, 46, 172]
abbrev dktX1_standingAt_1 : List UInt8 := dkwX1_standingAt_1 ++ []
def dkwX1_standingAt_0 : List UInt8 := [27, 42, 180, 0, 21, 180, 0, 105, 180, 0, 109, 184, 0, 62, 42, 180, 0, 21, 180, 0, 105, 180, 0, 159]
abbrev dktX1_standingAt_0 : List UInt8 := dkwX1_standingAt_0 ++ dktX1_standingAt_1
theorem dksX1_standingAt_0 : cX1_standingAt.data.toList.drop 0 = dktX1_standingAt_0 := by decide +kernel
theorem dksX1_standingAt_1 : cX1_standingAt.data.toList.drop 24 = dktX1_standingAt_1 := dk_seg dksX1_standingAt_0 24 rfl rfl
theorem dX1_standingAt_0 : decode cX1_standingAt 0 = .ok (.iload_n 1, 1) := dk_27 (dk_at dksX1_standingAt_0 0 rfl rfl)
theorem dX1_standingAt_1 : decode cX1_standingAt 1 = .ok (.aload_n 0, 1) := dk_42 (dk_at dksX1_standingAt_0 1 rfl rfl)
theorem dX1_standingAt_2 : decode cX1_standingAt 2 = .ok (.getfield 21, 3) := dk_180 0 21 (dk_at dksX1_standingAt_0 2 rfl rfl)
theorem dX1_standingAt_5 : decode cX1_standingAt 5 = .ok (.getfield 105, 3) := dk_180 0 105 (dk_at dksX1_standingAt_0 5 rfl rfl)
theorem dX1_standingAt_8 : decode cX1_standingAt 8 = .ok (.getfield 109, 3) := dk_180 0 109 (dk_at dksX1_standingAt_0 8 rfl rfl)
theorem dX1_standingAt_11 : decode cX1_standingAt 11 = .ok (.invokestatic 62, 3) := dk_184 0 62 (dk_at dksX1_standingAt_0 11 rfl rfl)
theorem dX1_standingAt_14 : decode cX1_standingAt 14 = .ok (.aload_n 0, 1) := dk_42 (dk_at dksX1_standingAt_0 14 rfl rfl)
theorem dX1_standingAt_15 : decode cX1_standingAt 15 = .ok (.getfield 21, 3) := dk_180 0 21 (dk_at dksX1_standingAt_0 15 rfl rfl)
theorem dX1_standingAt_18 : decode cX1_standingAt 18 = .ok (.getfield 105, 3) := dk_180 0 105 (dk_at dksX1_standingAt_0 18 rfl rfl)
theorem dX1_standingAt_21 : decode cX1_standingAt 21 = .ok (.getfield 159, 3) := dk_180 0 159 (dk_at dksX1_standingAt_0 21 rfl rfl)
theorem dX1_standingAt_24 : decode cX1_standingAt 24 = .ok (.iload_n 1, 1) := dk_27 (dk_at dksX1_standingAt_1 0 rfl rfl)
theorem dX1_standingAt_25 : decode cX1_standingAt 25 = .ok (.iaload, 1) := dk_46 (dk_at dksX1_standingAt_1 1 rfl rfl)
theorem dX1_standingAt_26 : decode cX1_standingAt 26 = .ok (.ireturn, 1) := dk_172 (dk_at dksX1_standingAt_1 2 rfl rfl)
abbrev cX1_rule : ByteArray := prog_1_method_27_code
def yX1_rule : MethodName := ⟨RX1, "rule", "(I)V"⟩
def dkwX1_rule_0 : List UInt8 := [42, 187, 0, 89, 89, 42, 27, 182, 0, 174, 3, 3, 3, 4, 183, 0, 178, 182, 0, 181, 177]
abbrev dktX1_rule_0 : List UInt8 := dkwX1_rule_0 ++ []
theorem dksX1_rule_0 : cX1_rule.data.toList.drop 0 = dktX1_rule_0 := by decide +kernel
theorem dX1_rule_0 : decode cX1_rule 0 = .ok (.aload_n 0, 1) := dk_42 (dk_at dksX1_rule_0 0 rfl rfl)
theorem dX1_rule_1 : decode cX1_rule 1 = .ok (.new 89, 3) := dk_187 0 89 (dk_at dksX1_rule_0 1 rfl rfl)
theorem dX1_rule_4 : decode cX1_rule 4 = .ok (.dup, 1) := dk_89 (dk_at dksX1_rule_0 4 rfl rfl)
theorem dX1_rule_5 : decode cX1_rule 5 = .ok (.aload_n 0, 1) := dk_42 (dk_at dksX1_rule_0 5 rfl rfl)
theorem dX1_rule_6 : decode cX1_rule 6 = .ok (.iload_n 1, 1) := dk_27 (dk_at dksX1_rule_0 6 rfl rfl)
theorem dX1_rule_7 : decode cX1_rule 7 = .ok (.invokevirtual 174, 3) := dk_182 0 174 (dk_at dksX1_rule_0 7 rfl rfl)
theorem dX1_rule_10 : decode cX1_rule 10 = .ok (.iconst 0, 1) := dk_3 (dk_at dksX1_rule_0 10 rfl rfl)
theorem dX1_rule_11 : decode cX1_rule 11 = .ok (.iconst 0, 1) := dk_3 (dk_at dksX1_rule_0 11 rfl rfl)
theorem dX1_rule_12 : decode cX1_rule 12 = .ok (.iconst 0, 1) := dk_3 (dk_at dksX1_rule_0 12 rfl rfl)
theorem dX1_rule_13 : decode cX1_rule 13 = .ok (.iconst 1, 1) := dk_4 (dk_at dksX1_rule_0 13 rfl rfl)
theorem dX1_rule_14 : decode cX1_rule 14 = .ok (.invokespecial 178, 3) := dk_183 0 178 (dk_at dksX1_rule_0 14 rfl rfl)
theorem dX1_rule_17 : decode cX1_rule 17 = .ok (.invokevirtual 181, 3) := dk_182 0 181 (dk_at dksX1_rule_0 17 rfl rfl)
theorem dX1_rule_20 : decode cX1_rule 20 = .ok (.return_, 1) := dk_177 (dk_at dksX1_rule_0 20 rfl rfl)
abbrev cX1_head : ByteArray := prog_1_method_26_code
def yX1_head : MethodName := ⟨RX1, "head", "(I)LRulehearth$Item;"⟩
def dkwX1_head_1 : List UInt8 := [192, 0, 38, 182, 0, 74, 183, 0, 171, 176]
abbrev dktX1_head_1 : List UInt8 := dkwX1_head_1 ++ []
def dkwX1_head_0 : List UInt8 := [42, 27, 182, 0, 166, 187, 0, 169, 89, 3, 27, 42, 180, 0, 21, 180, 0, 55, 27, 182, 0, 70]
abbrev dktX1_head_0 : List UInt8 := dkwX1_head_0 ++ dktX1_head_1
theorem dksX1_head_0 : cX1_head.data.toList.drop 0 = dktX1_head_0 := by decide +kernel
theorem dksX1_head_1 : cX1_head.data.toList.drop 22 = dktX1_head_1 := dk_seg dksX1_head_0 22 rfl rfl
theorem dX1_head_0 : decode cX1_head 0 = .ok (.aload_n 0, 1) := dk_42 (dk_at dksX1_head_0 0 rfl rfl)
theorem dX1_head_1 : decode cX1_head 1 = .ok (.iload_n 1, 1) := dk_27 (dk_at dksX1_head_0 1 rfl rfl)
theorem dX1_head_2 : decode cX1_head 2 = .ok (.invokevirtual 166, 3) := dk_182 0 166 (dk_at dksX1_head_0 2 rfl rfl)
theorem dX1_head_5 : decode cX1_head 5 = .ok (.new 169, 3) := dk_187 0 169 (dk_at dksX1_head_0 5 rfl rfl)
theorem dX1_head_8 : decode cX1_head 8 = .ok (.dup, 1) := dk_89 (dk_at dksX1_head_0 8 rfl rfl)
theorem dX1_head_9 : decode cX1_head 9 = .ok (.iconst 0, 1) := dk_3 (dk_at dksX1_head_0 9 rfl rfl)
theorem dX1_head_10 : decode cX1_head 10 = .ok (.iload_n 1, 1) := dk_27 (dk_at dksX1_head_0 10 rfl rfl)
theorem dX1_head_11 : decode cX1_head 11 = .ok (.aload_n 0, 1) := dk_42 (dk_at dksX1_head_0 11 rfl rfl)
theorem dX1_head_12 : decode cX1_head 12 = .ok (.getfield 21, 3) := dk_180 0 21 (dk_at dksX1_head_0 12 rfl rfl)
theorem dX1_head_15 : decode cX1_head 15 = .ok (.getfield 55, 3) := dk_180 0 55 (dk_at dksX1_head_0 15 rfl rfl)
theorem dX1_head_18 : decode cX1_head 18 = .ok (.iload_n 1, 1) := dk_27 (dk_at dksX1_head_0 18 rfl rfl)
theorem dX1_head_19 : decode cX1_head 19 = .ok (.invokevirtual 70, 3) := dk_182 0 70 (dk_at dksX1_head_0 19 rfl rfl)
theorem dX1_head_22 : decode cX1_head 22 = .ok (.checkcast 38, 3) := dk_192 0 38 (dk_at dksX1_head_1 0 rfl rfl)
theorem dX1_head_25 : decode cX1_head 25 = .ok (.invokevirtual 74, 3) := dk_182 0 74 (dk_at dksX1_head_1 3 rfl rfl)
theorem dX1_head_28 : decode cX1_head 28 = .ok (.invokespecial 171, 3) := dk_183 0 171 (dk_at dksX1_head_1 6 rfl rfl)
theorem dX1_head_31 : decode cX1_head 31 = .ok (.areturn, 1) := dk_176 (dk_at dksX1_head_1 9 rfl rfl)
abbrev cX1_checkRelation : ByteArray := prog_1_method_11_code
def yX1_checkRelation : MethodName := ⟨RX1, "checkRelation", "(I)V"⟩
def dkwX1_checkRelation_0 : List UInt8 := [27, 42, 180, 0, 21, 180, 0, 55, 182, 0, 58, 184, 0, 62, 177]
abbrev dktX1_checkRelation_0 : List UInt8 := dkwX1_checkRelation_0 ++ []
theorem dksX1_checkRelation_0 : cX1_checkRelation.data.toList.drop 0 = dktX1_checkRelation_0 := by decide +kernel
theorem dX1_checkRelation_0 : decode cX1_checkRelation 0 = .ok (.iload_n 1, 1) := dk_27 (dk_at dksX1_checkRelation_0 0 rfl rfl)
theorem dX1_checkRelation_1 : decode cX1_checkRelation 1 = .ok (.aload_n 0, 1) := dk_42 (dk_at dksX1_checkRelation_0 1 rfl rfl)
theorem dX1_checkRelation_2 : decode cX1_checkRelation 2 = .ok (.getfield 21, 3) := dk_180 0 21 (dk_at dksX1_checkRelation_0 2 rfl rfl)
theorem dX1_checkRelation_5 : decode cX1_checkRelation 5 = .ok (.getfield 55, 3) := dk_180 0 55 (dk_at dksX1_checkRelation_0 5 rfl rfl)
theorem dX1_checkRelation_8 : decode cX1_checkRelation 8 = .ok (.invokevirtual 58, 3) := dk_182 0 58 (dk_at dksX1_checkRelation_0 8 rfl rfl)
theorem dX1_checkRelation_11 : decode cX1_checkRelation 11 = .ok (.invokestatic 62, 3) := dk_184 0 62 (dk_at dksX1_checkRelation_0 11 rfl rfl)
theorem dX1_checkRelation_14 : decode cX1_checkRelation 14 = .ok (.return_, 1) := dk_177 (dk_at dksX1_checkRelation_0 14 rfl rfl)
abbrev cX1_begin : ByteArray := prog_1_method_25_code
def yX1_begin : MethodName := ⟨RX1, "begin", "(LRulehearth$Clause;)V"⟩
def dkwX1_begin_0 : List UInt8 := [42, 180, 0, 162, 199, 0, 7, 4, 167, 0, 4, 3, 184, 0, 114, 42, 43, 181, 0, 162, 177]
abbrev dktX1_begin_0 : List UInt8 := dkwX1_begin_0 ++ []
theorem dksX1_begin_0 : cX1_begin.data.toList.drop 0 = dktX1_begin_0 := by decide +kernel
theorem dX1_begin_0 : decode cX1_begin 0 = .ok (.aload_n 0, 1) := dk_42 (dk_at dksX1_begin_0 0 rfl rfl)
theorem dX1_begin_1 : decode cX1_begin 1 = .ok (.getfield 162, 3) := dk_180 0 162 (dk_at dksX1_begin_0 1 rfl rfl)
theorem dX1_begin_4 : decode cX1_begin 4 = .ok (.ifnonnull 7, 3) := dk_199 0 7 (dk_at dksX1_begin_0 4 rfl rfl)
theorem dX1_begin_7 : decode cX1_begin 7 = .ok (.iconst 1, 1) := dk_4 (dk_at dksX1_begin_0 7 rfl rfl)
theorem dX1_begin_8 : decode cX1_begin 8 = .ok (.goto 4, 3) := dk_167 0 4 (dk_at dksX1_begin_0 8 rfl rfl)
theorem dX1_begin_11 : decode cX1_begin 11 = .ok (.iconst 0, 1) := dk_3 (dk_at dksX1_begin_0 11 rfl rfl)
theorem dX1_begin_12 : decode cX1_begin 12 = .ok (.invokestatic 114, 3) := dk_184 0 114 (dk_at dksX1_begin_0 12 rfl rfl)
theorem dX1_begin_15 : decode cX1_begin 15 = .ok (.aload_n 0, 1) := dk_42 (dk_at dksX1_begin_0 15 rfl rfl)
theorem dX1_begin_16 : decode cX1_begin 16 = .ok (.aload_n 1, 1) := dk_43 (dk_at dksX1_begin_0 16 rfl rfl)
theorem dX1_begin_17 : decode cX1_begin 17 = .ok (.putfield 162, 3) := dk_181 0 162 (dk_at dksX1_begin_0 17 rfl rfl)
theorem dX1_begin_20 : decode cX1_begin 20 = .ok (.return_, 1) := dk_177 (dk_at dksX1_begin_0 20 rfl rfl)
abbrev cX1_deed : ByteArray := prog_1_method_28_code
def yX1_deed : MethodName := ⟨RX1, "deed", "(IIZI)V"⟩
def dkwX1_deed_2 : List UInt8 := [183, 0, 178, 182, 0, 181, 177]
abbrev dktX1_deed_2 : List UInt8 := dkwX1_deed_2 ++ []
def dkwX1_deed_1 : List UInt8 := [16, 10, 163, 0, 7, 4, 167, 0, 4, 3, 184, 0, 85, 42, 187, 0, 89, 89, 25, 5, 4, 27, 28, 29]
abbrev dktX1_deed_1 : List UInt8 := dkwX1_deed_1 ++ dktX1_deed_2
def dkwX1_deed_0 : List UInt8 := [42, 21, 4, 182, 0, 174, 58, 5, 27, 155, 0, 24, 27, 7, 162, 0, 19, 28, 16, 246, 161, 0, 13, 28]
abbrev dktX1_deed_0 : List UInt8 := dkwX1_deed_0 ++ dktX1_deed_1
theorem dksX1_deed_0 : cX1_deed.data.toList.drop 0 = dktX1_deed_0 := by decide +kernel
theorem dksX1_deed_1 : cX1_deed.data.toList.drop 24 = dktX1_deed_1 := dk_seg dksX1_deed_0 24 rfl rfl
theorem dksX1_deed_2 : cX1_deed.data.toList.drop 48 = dktX1_deed_2 := dk_seg dksX1_deed_1 24 rfl rfl
theorem dX1_deed_0 : decode cX1_deed 0 = .ok (.aload_n 0, 1) := dk_42 (dk_at dksX1_deed_0 0 rfl rfl)
theorem dX1_deed_1 : decode cX1_deed 1 = .ok (.iload 4, 2) := dk_21 4 (dk_at dksX1_deed_0 1 rfl rfl)
theorem dX1_deed_3 : decode cX1_deed 3 = .ok (.invokevirtual 174, 3) := dk_182 0 174 (dk_at dksX1_deed_0 3 rfl rfl)
theorem dX1_deed_6 : decode cX1_deed 6 = .ok (.astore 5, 2) := dk_58 5 (dk_at dksX1_deed_0 6 rfl rfl)
theorem dX1_deed_8 : decode cX1_deed 8 = .ok (.iload_n 1, 1) := dk_27 (dk_at dksX1_deed_0 8 rfl rfl)
theorem dX1_deed_9 : decode cX1_deed 9 = .ok (.ifCond .lt 24, 3) := dk_155 0 24 (dk_at dksX1_deed_0 9 rfl rfl)
theorem dX1_deed_12 : decode cX1_deed 12 = .ok (.iload_n 1, 1) := dk_27 (dk_at dksX1_deed_0 12 rfl rfl)
theorem dX1_deed_13 : decode cX1_deed 13 = .ok (.iconst 4, 1) := dk_7 (dk_at dksX1_deed_0 13 rfl rfl)
theorem dX1_deed_14 : decode cX1_deed 14 = .ok (.if_icmp .ge 19, 3) := dk_162 0 19 (dk_at dksX1_deed_0 14 rfl rfl)
theorem dX1_deed_17 : decode cX1_deed 17 = .ok (.iload_n 2, 1) := dk_28 (dk_at dksX1_deed_0 17 rfl rfl)
theorem dX1_deed_18 : decode cX1_deed 18 = .ok (.bipush (-10), 2) := dk_16 246 (dk_at dksX1_deed_0 18 rfl rfl)
theorem dX1_deed_20 : decode cX1_deed 20 = .ok (.if_icmp .lt 13, 3) := dk_161 0 13 (dk_at dksX1_deed_0 20 rfl rfl)
theorem dX1_deed_23 : decode cX1_deed 23 = .ok (.iload_n 2, 1) := dk_28 (dk_at dksX1_deed_0 23 rfl rfl)
theorem dX1_deed_24 : decode cX1_deed 24 = .ok (.bipush 10, 2) := dk_16 10 (dk_at dksX1_deed_1 0 rfl rfl)
theorem dX1_deed_26 : decode cX1_deed 26 = .ok (.if_icmp .gt 7, 3) := dk_163 0 7 (dk_at dksX1_deed_1 2 rfl rfl)
theorem dX1_deed_29 : decode cX1_deed 29 = .ok (.iconst 1, 1) := dk_4 (dk_at dksX1_deed_1 5 rfl rfl)
theorem dX1_deed_30 : decode cX1_deed 30 = .ok (.goto 4, 3) := dk_167 0 4 (dk_at dksX1_deed_1 6 rfl rfl)
theorem dX1_deed_33 : decode cX1_deed 33 = .ok (.iconst 0, 1) := dk_3 (dk_at dksX1_deed_1 9 rfl rfl)
theorem dX1_deed_34 : decode cX1_deed 34 = .ok (.invokestatic 85, 3) := dk_184 0 85 (dk_at dksX1_deed_1 10 rfl rfl)
theorem dX1_deed_37 : decode cX1_deed 37 = .ok (.aload_n 0, 1) := dk_42 (dk_at dksX1_deed_1 13 rfl rfl)
theorem dX1_deed_38 : decode cX1_deed 38 = .ok (.new 89, 3) := dk_187 0 89 (dk_at dksX1_deed_1 14 rfl rfl)
theorem dX1_deed_41 : decode cX1_deed 41 = .ok (.dup, 1) := dk_89 (dk_at dksX1_deed_1 17 rfl rfl)
theorem dX1_deed_42 : decode cX1_deed 42 = .ok (.aload 5, 2) := dk_25 5 (dk_at dksX1_deed_1 18 rfl rfl)
theorem dX1_deed_44 : decode cX1_deed 44 = .ok (.iconst 1, 1) := dk_4 (dk_at dksX1_deed_1 20 rfl rfl)
theorem dX1_deed_45 : decode cX1_deed 45 = .ok (.iload_n 1, 1) := dk_27 (dk_at dksX1_deed_1 21 rfl rfl)
theorem dX1_deed_46 : decode cX1_deed 46 = .ok (.iload_n 2, 1) := dk_28 (dk_at dksX1_deed_1 22 rfl rfl)
theorem dX1_deed_47 : decode cX1_deed 47 = .ok (.iload_n 3, 1) := dk_29 (dk_at dksX1_deed_1 23 rfl rfl)
theorem dX1_deed_48 : decode cX1_deed 48 = .ok (.invokespecial 178, 3) := dk_183 0 178 (dk_at dksX1_deed_2 0 rfl rfl)
theorem dX1_deed_51 : decode cX1_deed 51 = .ok (.invokevirtual 181, 3) := dk_182 0 181 (dk_at dksX1_deed_2 3 rfl rfl)
theorem dX1_deed_54 : decode cX1_deed 54 = .ok (.return_, 1) := dk_177 (dk_at dksX1_deed_2 6 rfl rfl)
abbrev cX1_variable : ByteArray := prog_1_method_31_code
def yX1_variable : MethodName := ⟨RX1, "variable", "(I)V"⟩
def dkwX1_variable_0 : List UInt8 := [27, 184, 0, 199, 42, 16, 100, 27, 96, 182, 0, 202, 177]
abbrev dktX1_variable_0 : List UInt8 := dkwX1_variable_0 ++ []
theorem dksX1_variable_0 : cX1_variable.data.toList.drop 0 = dktX1_variable_0 := by decide +kernel
theorem dX1_variable_0 : decode cX1_variable 0 = .ok (.iload_n 1, 1) := dk_27 (dk_at dksX1_variable_0 0 rfl rfl)
theorem dX1_variable_1 : decode cX1_variable 1 = .ok (.invokestatic 199, 3) := dk_184 0 199 (dk_at dksX1_variable_0 1 rfl rfl)
theorem dX1_variable_4 : decode cX1_variable 4 = .ok (.aload_n 0, 1) := dk_42 (dk_at dksX1_variable_0 4 rfl rfl)
theorem dX1_variable_5 : decode cX1_variable 5 = .ok (.bipush 100, 2) := dk_16 100 (dk_at dksX1_variable_0 5 rfl rfl)
theorem dX1_variable_7 : decode cX1_variable 7 = .ok (.iload_n 1, 1) := dk_27 (dk_at dksX1_variable_0 7 rfl rfl)
theorem dX1_variable_8 : decode cX1_variable 8 = .ok (.iadd, 1) := dk_96 (dk_at dksX1_variable_0 8 rfl rfl)
theorem dX1_variable_9 : decode cX1_variable 9 = .ok (.invokevirtual 202, 3) := dk_182 0 202 (dk_at dksX1_variable_0 9 rfl rfl)
theorem dX1_variable_12 : decode cX1_variable 12 = .ok (.return_, 1) := dk_177 (dk_at dksX1_variable_0 12 rfl rfl)
abbrev cX1_checkVariable : ByteArray := prog_1_method_30_code
def yX1_checkVariable : MethodName := ⟨RX1, "checkVariable", "(I)V"⟩
def dkwX1_checkVariable_0 : List UInt8 := [26, 155, 0, 13, 26, 16, 8, 162, 0, 7, 4, 167, 0, 4, 3, 184, 0, 85, 177]
abbrev dktX1_checkVariable_0 : List UInt8 := dkwX1_checkVariable_0 ++ []
theorem dksX1_checkVariable_0 : cX1_checkVariable.data.toList.drop 0 = dktX1_checkVariable_0 := by decide +kernel
theorem dX1_checkVariable_0 : decode cX1_checkVariable 0 = .ok (.iload_n 0, 1) := dk_26 (dk_at dksX1_checkVariable_0 0 rfl rfl)
theorem dX1_checkVariable_1 : decode cX1_checkVariable 1 = .ok (.ifCond .lt 13, 3) := dk_155 0 13 (dk_at dksX1_checkVariable_0 1 rfl rfl)
theorem dX1_checkVariable_4 : decode cX1_checkVariable 4 = .ok (.iload_n 0, 1) := dk_26 (dk_at dksX1_checkVariable_0 4 rfl rfl)
theorem dX1_checkVariable_5 : decode cX1_checkVariable 5 = .ok (.bipush 8, 2) := dk_16 8 (dk_at dksX1_checkVariable_0 5 rfl rfl)
theorem dX1_checkVariable_7 : decode cX1_checkVariable 7 = .ok (.if_icmp .ge 7, 3) := dk_162 0 7 (dk_at dksX1_checkVariable_0 7 rfl rfl)
theorem dX1_checkVariable_10 : decode cX1_checkVariable 10 = .ok (.iconst 1, 1) := dk_4 (dk_at dksX1_checkVariable_0 10 rfl rfl)
theorem dX1_checkVariable_11 : decode cX1_checkVariable 11 = .ok (.goto 4, 3) := dk_167 0 4 (dk_at dksX1_checkVariable_0 11 rfl rfl)
theorem dX1_checkVariable_14 : decode cX1_checkVariable 14 = .ok (.iconst 0, 1) := dk_3 (dk_at dksX1_checkVariable_0 14 rfl rfl)
theorem dX1_checkVariable_15 : decode cX1_checkVariable 15 = .ok (.invokestatic 85, 3) := dk_184 0 85 (dk_at dksX1_checkVariable_0 15 rfl rfl)
theorem dX1_checkVariable_18 : decode cX1_checkVariable 18 = .ok (.return_, 1) := dk_177 (dk_at dksX1_checkVariable_0 18 rfl rfl)
abbrev cX1_add : ByteArray := prog_1_method_29_code
def yX1_add : MethodName := ⟨RX1, "add", "(I)V"⟩
def dkwX1_add_2 : List UInt8 := [180, 0, 196, 4, 96, 181, 0, 196, 177]
abbrev dktX1_add_2 : List UInt8 := dkwX1_add_2 ++ []
def dkwX1_add_1 : List UInt8 := [3, 184, 0, 114, 42, 180, 0, 162, 182, 0, 185, 77, 44, 180, 0, 193, 44, 180, 0, 196, 27, 79, 44, 89]
abbrev dktX1_add_1 : List UInt8 := dkwX1_add_1 ++ dktX1_add_2
def dkwX1_add_0 : List UInt8 := [42, 180, 0, 162, 198, 0, 20, 42, 180, 0, 162, 182, 0, 185, 182, 0, 189, 154, 0, 7, 4, 167, 0, 4]
abbrev dktX1_add_0 : List UInt8 := dkwX1_add_0 ++ dktX1_add_1
theorem dksX1_add_0 : cX1_add.data.toList.drop 0 = dktX1_add_0 := by decide +kernel
theorem dksX1_add_1 : cX1_add.data.toList.drop 24 = dktX1_add_1 := dk_seg dksX1_add_0 24 rfl rfl
theorem dksX1_add_2 : cX1_add.data.toList.drop 48 = dktX1_add_2 := dk_seg dksX1_add_1 24 rfl rfl
theorem dX1_add_0 : decode cX1_add 0 = .ok (.aload_n 0, 1) := dk_42 (dk_at dksX1_add_0 0 rfl rfl)
theorem dX1_add_1 : decode cX1_add 1 = .ok (.getfield 162, 3) := dk_180 0 162 (dk_at dksX1_add_0 1 rfl rfl)
theorem dX1_add_4 : decode cX1_add 4 = .ok (.ifnull 20, 3) := dk_198 0 20 (dk_at dksX1_add_0 4 rfl rfl)
theorem dX1_add_7 : decode cX1_add 7 = .ok (.aload_n 0, 1) := dk_42 (dk_at dksX1_add_0 7 rfl rfl)
theorem dX1_add_8 : decode cX1_add 8 = .ok (.getfield 162, 3) := dk_180 0 162 (dk_at dksX1_add_0 8 rfl rfl)
theorem dX1_add_11 : decode cX1_add 11 = .ok (.invokevirtual 185, 3) := dk_182 0 185 (dk_at dksX1_add_0 11 rfl rfl)
theorem dX1_add_14 : decode cX1_add 14 = .ok (.invokevirtual 189, 3) := dk_182 0 189 (dk_at dksX1_add_0 14 rfl rfl)
theorem dX1_add_17 : decode cX1_add 17 = .ok (.ifCond .ne 7, 3) := dk_154 0 7 (dk_at dksX1_add_0 17 rfl rfl)
theorem dX1_add_20 : decode cX1_add 20 = .ok (.iconst 1, 1) := dk_4 (dk_at dksX1_add_0 20 rfl rfl)
theorem dX1_add_21 : decode cX1_add 21 = .ok (.goto 4, 3) := dk_167 0 4 (dk_at dksX1_add_0 21 rfl rfl)
theorem dX1_add_24 : decode cX1_add 24 = .ok (.iconst 0, 1) := dk_3 (dk_at dksX1_add_1 0 rfl rfl)
theorem dX1_add_25 : decode cX1_add 25 = .ok (.invokestatic 114, 3) := dk_184 0 114 (dk_at dksX1_add_1 1 rfl rfl)
theorem dX1_add_28 : decode cX1_add 28 = .ok (.aload_n 0, 1) := dk_42 (dk_at dksX1_add_1 4 rfl rfl)
theorem dX1_add_29 : decode cX1_add 29 = .ok (.getfield 162, 3) := dk_180 0 162 (dk_at dksX1_add_1 5 rfl rfl)
theorem dX1_add_32 : decode cX1_add 32 = .ok (.invokevirtual 185, 3) := dk_182 0 185 (dk_at dksX1_add_1 8 rfl rfl)
theorem dX1_add_35 : decode cX1_add 35 = .ok (.astore_n 2, 1) := dk_77 (dk_at dksX1_add_1 11 rfl rfl)
theorem dX1_add_36 : decode cX1_add 36 = .ok (.aload_n 2, 1) := dk_44 (dk_at dksX1_add_1 12 rfl rfl)
theorem dX1_add_37 : decode cX1_add 37 = .ok (.getfield 193, 3) := dk_180 0 193 (dk_at dksX1_add_1 13 rfl rfl)
theorem dX1_add_40 : decode cX1_add 40 = .ok (.aload_n 2, 1) := dk_44 (dk_at dksX1_add_1 16 rfl rfl)
theorem dX1_add_41 : decode cX1_add 41 = .ok (.getfield 196, 3) := dk_180 0 196 (dk_at dksX1_add_1 17 rfl rfl)
theorem dX1_add_44 : decode cX1_add 44 = .ok (.iload_n 1, 1) := dk_27 (dk_at dksX1_add_1 20 rfl rfl)
theorem dX1_add_45 : decode cX1_add 45 = .ok (.iastore, 1) := dk_79 (dk_at dksX1_add_1 21 rfl rfl)
theorem dX1_add_46 : decode cX1_add 46 = .ok (.aload_n 2, 1) := dk_44 (dk_at dksX1_add_1 22 rfl rfl)
theorem dX1_add_47 : decode cX1_add 47 = .ok (.dup, 1) := dk_89 (dk_at dksX1_add_1 23 rfl rfl)
theorem dX1_add_48 : decode cX1_add 48 = .ok (.getfield 196, 3) := dk_180 0 196 (dk_at dksX1_add_2 0 rfl rfl)
theorem dX1_add_51 : decode cX1_add 51 = .ok (.iconst 1, 1) := dk_4 (dk_at dksX1_add_2 3 rfl rfl)
theorem dX1_add_52 : decode cX1_add 52 = .ok (.iadd, 1) := dk_96 (dk_at dksX1_add_2 4 rfl rfl)
theorem dX1_add_53 : decode cX1_add 53 = .ok (.putfield 196, 3) := dk_181 0 196 (dk_at dksX1_add_2 5 rfl rfl)
theorem dX1_add_56 : decode cX1_add 56 = .ok (.return_, 1) := dk_177 (dk_at dksX1_add_2 8 rfl rfl)
abbrev cX1_value : ByteArray := prog_1_method_32_code
def yX1_value : MethodName := ⟨RX1, "value", "(I)V"⟩
def dkwX1_value_0 : List UInt8 := [27, 155, 0, 13, 27, 16, 100, 162, 0, 7, 4, 167, 0, 4, 3, 184, 0, 85, 42, 27, 182, 0, 202, 177]
abbrev dktX1_value_0 : List UInt8 := dkwX1_value_0 ++ []
theorem dksX1_value_0 : cX1_value.data.toList.drop 0 = dktX1_value_0 := by decide +kernel
theorem dX1_value_0 : decode cX1_value 0 = .ok (.iload_n 1, 1) := dk_27 (dk_at dksX1_value_0 0 rfl rfl)
theorem dX1_value_1 : decode cX1_value 1 = .ok (.ifCond .lt 13, 3) := dk_155 0 13 (dk_at dksX1_value_0 1 rfl rfl)
theorem dX1_value_4 : decode cX1_value 4 = .ok (.iload_n 1, 1) := dk_27 (dk_at dksX1_value_0 4 rfl rfl)
theorem dX1_value_5 : decode cX1_value 5 = .ok (.bipush 100, 2) := dk_16 100 (dk_at dksX1_value_0 5 rfl rfl)
theorem dX1_value_7 : decode cX1_value 7 = .ok (.if_icmp .ge 7, 3) := dk_162 0 7 (dk_at dksX1_value_0 7 rfl rfl)
theorem dX1_value_10 : decode cX1_value 10 = .ok (.iconst 1, 1) := dk_4 (dk_at dksX1_value_0 10 rfl rfl)
theorem dX1_value_11 : decode cX1_value 11 = .ok (.goto 4, 3) := dk_167 0 4 (dk_at dksX1_value_0 11 rfl rfl)
theorem dX1_value_14 : decode cX1_value 14 = .ok (.iconst 0, 1) := dk_3 (dk_at dksX1_value_0 14 rfl rfl)
theorem dX1_value_15 : decode cX1_value 15 = .ok (.invokestatic 85, 3) := dk_184 0 85 (dk_at dksX1_value_0 15 rfl rfl)
theorem dX1_value_18 : decode cX1_value 18 = .ok (.aload_n 0, 1) := dk_42 (dk_at dksX1_value_0 18 rfl rfl)
theorem dX1_value_19 : decode cX1_value 19 = .ok (.iload_n 1, 1) := dk_27 (dk_at dksX1_value_0 19 rfl rfl)
theorem dX1_value_20 : decode cX1_value 20 = .ok (.invokevirtual 202, 3) := dk_182 0 202 (dk_at dksX1_value_0 20 rfl rfl)
theorem dX1_value_23 : decode cX1_value 23 = .ok (.return_, 1) := dk_177 (dk_at dksX1_value_0 23 rfl rfl)
abbrev cX1_gather : ByteArray := prog_1_method_33_code
def yX1_gather : MethodName := ⟨RX1, "gather", "(II)V"⟩
def dkwX1_gather_4 : List UInt8 := [181, 0, 214, 42, 16, 100, 28, 96, 182, 0, 202, 177]
abbrev dktX1_gather_4 : List UInt8 := dkwX1_gather_4 ++ []
def dkwX1_gather_3 : List UInt8 := [42, 180, 0, 162, 42, 180, 0, 162, 180, 0, 211, 180, 0, 196, 181, 0, 208, 42, 180, 0, 162, 27]
abbrev dktX1_gather_3 : List UInt8 := dkwX1_gather_3 ++ dktX1_gather_4
def dkwX1_gather_2 : List UInt8 := [160, 0, 20, 42, 180, 0, 162, 180, 0, 211, 182, 0, 189, 154, 0, 7, 4, 167, 0, 4, 3, 184, 0, 114]
abbrev dktX1_gather_2 : List UInt8 := dkwX1_gather_2 ++ dktX1_gather_3
def dkwX1_gather_1 : List UInt8 := [180, 0, 162, 198, 0, 41, 42, 180, 0, 162, 180, 0, 204, 154, 0, 31, 42, 180, 0, 162, 180, 0, 208, 2]
abbrev dktX1_gather_1 : List UInt8 := dkwX1_gather_1 ++ dktX1_gather_2
def dkwX1_gather_0 : List UInt8 := [27, 155, 0, 12, 27, 6, 163, 0, 7, 4, 167, 0, 4, 3, 184, 0, 85, 28, 184, 0, 199, 42]
abbrev dktX1_gather_0 : List UInt8 := dkwX1_gather_0 ++ dktX1_gather_1
theorem dksX1_gather_0 : cX1_gather.data.toList.drop 0 = dktX1_gather_0 := by decide +kernel
theorem dksX1_gather_1 : cX1_gather.data.toList.drop 22 = dktX1_gather_1 := dk_seg dksX1_gather_0 22 rfl rfl
theorem dksX1_gather_2 : cX1_gather.data.toList.drop 46 = dktX1_gather_2 := dk_seg dksX1_gather_1 24 rfl rfl
theorem dksX1_gather_3 : cX1_gather.data.toList.drop 70 = dktX1_gather_3 := dk_seg dksX1_gather_2 24 rfl rfl
theorem dksX1_gather_4 : cX1_gather.data.toList.drop 92 = dktX1_gather_4 := dk_seg dksX1_gather_3 22 rfl rfl
theorem dX1_gather_0 : decode cX1_gather 0 = .ok (.iload_n 1, 1) := dk_27 (dk_at dksX1_gather_0 0 rfl rfl)
theorem dX1_gather_1 : decode cX1_gather 1 = .ok (.ifCond .lt 12, 3) := dk_155 0 12 (dk_at dksX1_gather_0 1 rfl rfl)
theorem dX1_gather_4 : decode cX1_gather 4 = .ok (.iload_n 1, 1) := dk_27 (dk_at dksX1_gather_0 4 rfl rfl)
theorem dX1_gather_5 : decode cX1_gather 5 = .ok (.iconst 3, 1) := dk_6 (dk_at dksX1_gather_0 5 rfl rfl)
theorem dX1_gather_6 : decode cX1_gather 6 = .ok (.if_icmp .gt 7, 3) := dk_163 0 7 (dk_at dksX1_gather_0 6 rfl rfl)
theorem dX1_gather_9 : decode cX1_gather 9 = .ok (.iconst 1, 1) := dk_4 (dk_at dksX1_gather_0 9 rfl rfl)
theorem dX1_gather_10 : decode cX1_gather 10 = .ok (.goto 4, 3) := dk_167 0 4 (dk_at dksX1_gather_0 10 rfl rfl)
theorem dX1_gather_13 : decode cX1_gather 13 = .ok (.iconst 0, 1) := dk_3 (dk_at dksX1_gather_0 13 rfl rfl)
theorem dX1_gather_14 : decode cX1_gather 14 = .ok (.invokestatic 85, 3) := dk_184 0 85 (dk_at dksX1_gather_0 14 rfl rfl)
theorem dX1_gather_17 : decode cX1_gather 17 = .ok (.iload_n 2, 1) := dk_28 (dk_at dksX1_gather_0 17 rfl rfl)
theorem dX1_gather_18 : decode cX1_gather 18 = .ok (.invokestatic 199, 3) := dk_184 0 199 (dk_at dksX1_gather_0 18 rfl rfl)
theorem dX1_gather_21 : decode cX1_gather 21 = .ok (.aload_n 0, 1) := dk_42 (dk_at dksX1_gather_0 21 rfl rfl)
theorem dX1_gather_22 : decode cX1_gather 22 = .ok (.getfield 162, 3) := dk_180 0 162 (dk_at dksX1_gather_1 0 rfl rfl)
theorem dX1_gather_25 : decode cX1_gather 25 = .ok (.ifnull 41, 3) := dk_198 0 41 (dk_at dksX1_gather_1 3 rfl rfl)
theorem dX1_gather_28 : decode cX1_gather 28 = .ok (.aload_n 0, 1) := dk_42 (dk_at dksX1_gather_1 6 rfl rfl)
theorem dX1_gather_29 : decode cX1_gather 29 = .ok (.getfield 162, 3) := dk_180 0 162 (dk_at dksX1_gather_1 7 rfl rfl)
theorem dX1_gather_32 : decode cX1_gather 32 = .ok (.getfield 204, 3) := dk_180 0 204 (dk_at dksX1_gather_1 10 rfl rfl)
theorem dX1_gather_35 : decode cX1_gather 35 = .ok (.ifCond .ne 31, 3) := dk_154 0 31 (dk_at dksX1_gather_1 13 rfl rfl)
theorem dX1_gather_38 : decode cX1_gather 38 = .ok (.aload_n 0, 1) := dk_42 (dk_at dksX1_gather_1 16 rfl rfl)
theorem dX1_gather_39 : decode cX1_gather 39 = .ok (.getfield 162, 3) := dk_180 0 162 (dk_at dksX1_gather_1 17 rfl rfl)
theorem dX1_gather_42 : decode cX1_gather 42 = .ok (.getfield 208, 3) := dk_180 0 208 (dk_at dksX1_gather_1 20 rfl rfl)
theorem dX1_gather_45 : decode cX1_gather 45 = .ok (.iconst (-1), 1) := dk_2 (dk_at dksX1_gather_1 23 rfl rfl)
theorem dX1_gather_46 : decode cX1_gather 46 = .ok (.if_icmp .ne 20, 3) := dk_160 0 20 (dk_at dksX1_gather_2 0 rfl rfl)
theorem dX1_gather_49 : decode cX1_gather 49 = .ok (.aload_n 0, 1) := dk_42 (dk_at dksX1_gather_2 3 rfl rfl)
theorem dX1_gather_50 : decode cX1_gather 50 = .ok (.getfield 162, 3) := dk_180 0 162 (dk_at dksX1_gather_2 4 rfl rfl)
theorem dX1_gather_53 : decode cX1_gather 53 = .ok (.getfield 211, 3) := dk_180 0 211 (dk_at dksX1_gather_2 7 rfl rfl)
theorem dX1_gather_56 : decode cX1_gather 56 = .ok (.invokevirtual 189, 3) := dk_182 0 189 (dk_at dksX1_gather_2 10 rfl rfl)
theorem dX1_gather_59 : decode cX1_gather 59 = .ok (.ifCond .ne 7, 3) := dk_154 0 7 (dk_at dksX1_gather_2 13 rfl rfl)
theorem dX1_gather_62 : decode cX1_gather 62 = .ok (.iconst 1, 1) := dk_4 (dk_at dksX1_gather_2 16 rfl rfl)
theorem dX1_gather_63 : decode cX1_gather 63 = .ok (.goto 4, 3) := dk_167 0 4 (dk_at dksX1_gather_2 17 rfl rfl)
theorem dX1_gather_66 : decode cX1_gather 66 = .ok (.iconst 0, 1) := dk_3 (dk_at dksX1_gather_2 20 rfl rfl)
theorem dX1_gather_67 : decode cX1_gather 67 = .ok (.invokestatic 114, 3) := dk_184 0 114 (dk_at dksX1_gather_2 21 rfl rfl)
theorem dX1_gather_70 : decode cX1_gather 70 = .ok (.aload_n 0, 1) := dk_42 (dk_at dksX1_gather_3 0 rfl rfl)
theorem dX1_gather_71 : decode cX1_gather 71 = .ok (.getfield 162, 3) := dk_180 0 162 (dk_at dksX1_gather_3 1 rfl rfl)
theorem dX1_gather_74 : decode cX1_gather 74 = .ok (.aload_n 0, 1) := dk_42 (dk_at dksX1_gather_3 4 rfl rfl)
theorem dX1_gather_75 : decode cX1_gather 75 = .ok (.getfield 162, 3) := dk_180 0 162 (dk_at dksX1_gather_3 5 rfl rfl)
theorem dX1_gather_78 : decode cX1_gather 78 = .ok (.getfield 211, 3) := dk_180 0 211 (dk_at dksX1_gather_3 8 rfl rfl)
theorem dX1_gather_81 : decode cX1_gather 81 = .ok (.getfield 196, 3) := dk_180 0 196 (dk_at dksX1_gather_3 11 rfl rfl)
theorem dX1_gather_84 : decode cX1_gather 84 = .ok (.putfield 208, 3) := dk_181 0 208 (dk_at dksX1_gather_3 14 rfl rfl)
theorem dX1_gather_87 : decode cX1_gather 87 = .ok (.aload_n 0, 1) := dk_42 (dk_at dksX1_gather_3 17 rfl rfl)
theorem dX1_gather_88 : decode cX1_gather 88 = .ok (.getfield 162, 3) := dk_180 0 162 (dk_at dksX1_gather_3 18 rfl rfl)
theorem dX1_gather_91 : decode cX1_gather 91 = .ok (.iload_n 1, 1) := dk_27 (dk_at dksX1_gather_3 21 rfl rfl)
theorem dX1_gather_92 : decode cX1_gather 92 = .ok (.putfield 214, 3) := dk_181 0 214 (dk_at dksX1_gather_4 0 rfl rfl)
theorem dX1_gather_95 : decode cX1_gather 95 = .ok (.aload_n 0, 1) := dk_42 (dk_at dksX1_gather_4 3 rfl rfl)
theorem dX1_gather_96 : decode cX1_gather 96 = .ok (.bipush 100, 2) := dk_16 100 (dk_at dksX1_gather_4 4 rfl rfl)
theorem dX1_gather_98 : decode cX1_gather 98 = .ok (.iload_n 2, 1) := dk_28 (dk_at dksX1_gather_4 6 rfl rfl)
theorem dX1_gather_99 : decode cX1_gather 99 = .ok (.iadd, 1) := dk_96 (dk_at dksX1_gather_4 7 rfl rfl)
theorem dX1_gather_100 : decode cX1_gather 100 = .ok (.invokevirtual 202, 3) := dk_182 0 202 (dk_at dksX1_gather_4 8 rfl rfl)
theorem dX1_gather_103 : decode cX1_gather 103 = .ok (.return_, 1) := dk_177 (dk_at dksX1_gather_4 11 rfl rfl)
abbrev cX1_atom : ByteArray := prog_1_method_35_code
def yX1_atom : MethodName := ⟨RX1, "atom", "(I)V"⟩
def dkwX1_atom_0 : List UInt8 := [42, 42, 27, 182, 0, 174, 182, 0, 226, 177]
abbrev dktX1_atom_0 : List UInt8 := dkwX1_atom_0 ++ []
theorem dksX1_atom_0 : cX1_atom.data.toList.drop 0 = dktX1_atom_0 := by decide +kernel
theorem dX1_atom_0 : decode cX1_atom 0 = .ok (.aload_n 0, 1) := dk_42 (dk_at dksX1_atom_0 0 rfl rfl)
theorem dX1_atom_1 : decode cX1_atom 1 = .ok (.aload_n 0, 1) := dk_42 (dk_at dksX1_atom_0 1 rfl rfl)
theorem dX1_atom_2 : decode cX1_atom 2 = .ok (.iload_n 1, 1) := dk_27 (dk_at dksX1_atom_0 2 rfl rfl)
theorem dX1_atom_3 : decode cX1_atom 3 = .ok (.invokevirtual 174, 3) := dk_182 0 174 (dk_at dksX1_atom_0 3 rfl rfl)
theorem dX1_atom_6 : decode cX1_atom 6 = .ok (.invokevirtual 226, 3) := dk_182 0 226 (dk_at dksX1_atom_0 6 rfl rfl)
theorem dX1_atom_9 : decode cX1_atom 9 = .ok (.return_, 1) := dk_177 (dk_at dksX1_atom_0 9 rfl rfl)
abbrev cX1_addItem : ByteArray := prog_1_method_34_code
def yX1_addItem : MethodName := ⟨RX1, "addItem", "(LRulehearth$Item;)V"⟩
def dkwX1_addItem_3 : List UInt8 := [180, 0, 162, 180, 0, 217, 43, 182, 0, 42, 87, 177]
abbrev dktX1_addItem_3 : List UInt8 := dkwX1_addItem_3 ++ []
def dkwX1_addItem_2 : List UInt8 := [154, 0, 14, 42, 180, 0, 162, 182, 0, 223, 6, 162, 0, 7, 4, 167, 0, 4, 3, 184, 0, 114, 42]
abbrev dktX1_addItem_2 : List UInt8 := dkwX1_addItem_2 ++ dktX1_addItem_3
def dkwX1_addItem_1 : List UInt8 := [180, 0, 217, 182, 0, 58, 16, 6, 162, 0, 7, 4, 167, 0, 4, 3, 184, 0, 114, 43, 180, 0, 220]
abbrev dktX1_addItem_1 : List UInt8 := dkwX1_addItem_1 ++ dktX1_addItem_2
def dkwX1_addItem_0 : List UInt8 := [42, 180, 0, 162, 198, 0, 35, 42, 180, 0, 162, 182, 0, 185, 182, 0, 189, 153, 0, 22, 42, 180, 0, 162]
abbrev dktX1_addItem_0 : List UInt8 := dkwX1_addItem_0 ++ dktX1_addItem_1
theorem dksX1_addItem_0 : cX1_addItem.data.toList.drop 0 = dktX1_addItem_0 := by decide +kernel
theorem dksX1_addItem_1 : cX1_addItem.data.toList.drop 24 = dktX1_addItem_1 := dk_seg dksX1_addItem_0 24 rfl rfl
theorem dksX1_addItem_2 : cX1_addItem.data.toList.drop 47 = dktX1_addItem_2 := dk_seg dksX1_addItem_1 23 rfl rfl
theorem dksX1_addItem_3 : cX1_addItem.data.toList.drop 70 = dktX1_addItem_3 := dk_seg dksX1_addItem_2 23 rfl rfl
theorem dX1_addItem_0 : decode cX1_addItem 0 = .ok (.aload_n 0, 1) := dk_42 (dk_at dksX1_addItem_0 0 rfl rfl)
theorem dX1_addItem_1 : decode cX1_addItem 1 = .ok (.getfield 162, 3) := dk_180 0 162 (dk_at dksX1_addItem_0 1 rfl rfl)
theorem dX1_addItem_4 : decode cX1_addItem 4 = .ok (.ifnull 35, 3) := dk_198 0 35 (dk_at dksX1_addItem_0 4 rfl rfl)
theorem dX1_addItem_7 : decode cX1_addItem 7 = .ok (.aload_n 0, 1) := dk_42 (dk_at dksX1_addItem_0 7 rfl rfl)
theorem dX1_addItem_8 : decode cX1_addItem 8 = .ok (.getfield 162, 3) := dk_180 0 162 (dk_at dksX1_addItem_0 8 rfl rfl)
theorem dX1_addItem_11 : decode cX1_addItem 11 = .ok (.invokevirtual 185, 3) := dk_182 0 185 (dk_at dksX1_addItem_0 11 rfl rfl)
theorem dX1_addItem_14 : decode cX1_addItem 14 = .ok (.invokevirtual 189, 3) := dk_182 0 189 (dk_at dksX1_addItem_0 14 rfl rfl)
theorem dX1_addItem_17 : decode cX1_addItem 17 = .ok (.ifCond .eq 22, 3) := dk_153 0 22 (dk_at dksX1_addItem_0 17 rfl rfl)
theorem dX1_addItem_20 : decode cX1_addItem 20 = .ok (.aload_n 0, 1) := dk_42 (dk_at dksX1_addItem_0 20 rfl rfl)
theorem dX1_addItem_21 : decode cX1_addItem 21 = .ok (.getfield 162, 3) := dk_180 0 162 (dk_at dksX1_addItem_0 21 rfl rfl)
theorem dX1_addItem_24 : decode cX1_addItem 24 = .ok (.getfield 217, 3) := dk_180 0 217 (dk_at dksX1_addItem_1 0 rfl rfl)
theorem dX1_addItem_27 : decode cX1_addItem 27 = .ok (.invokevirtual 58, 3) := dk_182 0 58 (dk_at dksX1_addItem_1 3 rfl rfl)
theorem dX1_addItem_30 : decode cX1_addItem 30 = .ok (.bipush 6, 2) := dk_16 6 (dk_at dksX1_addItem_1 6 rfl rfl)
theorem dX1_addItem_32 : decode cX1_addItem 32 = .ok (.if_icmp .ge 7, 3) := dk_162 0 7 (dk_at dksX1_addItem_1 8 rfl rfl)
theorem dX1_addItem_35 : decode cX1_addItem 35 = .ok (.iconst 1, 1) := dk_4 (dk_at dksX1_addItem_1 11 rfl rfl)
theorem dX1_addItem_36 : decode cX1_addItem 36 = .ok (.goto 4, 3) := dk_167 0 4 (dk_at dksX1_addItem_1 12 rfl rfl)
theorem dX1_addItem_39 : decode cX1_addItem 39 = .ok (.iconst 0, 1) := dk_3 (dk_at dksX1_addItem_1 15 rfl rfl)
theorem dX1_addItem_40 : decode cX1_addItem 40 = .ok (.invokestatic 114, 3) := dk_184 0 114 (dk_at dksX1_addItem_1 16 rfl rfl)
theorem dX1_addItem_43 : decode cX1_addItem 43 = .ok (.aload_n 1, 1) := dk_43 (dk_at dksX1_addItem_1 19 rfl rfl)
theorem dX1_addItem_44 : decode cX1_addItem 44 = .ok (.getfield 220, 3) := dk_180 0 220 (dk_at dksX1_addItem_1 20 rfl rfl)
theorem dX1_addItem_47 : decode cX1_addItem 47 = .ok (.ifCond .ne 14, 3) := dk_154 0 14 (dk_at dksX1_addItem_2 0 rfl rfl)
theorem dX1_addItem_50 : decode cX1_addItem 50 = .ok (.aload_n 0, 1) := dk_42 (dk_at dksX1_addItem_2 3 rfl rfl)
theorem dX1_addItem_51 : decode cX1_addItem 51 = .ok (.getfield 162, 3) := dk_180 0 162 (dk_at dksX1_addItem_2 4 rfl rfl)
theorem dX1_addItem_54 : decode cX1_addItem 54 = .ok (.invokevirtual 223, 3) := dk_182 0 223 (dk_at dksX1_addItem_2 7 rfl rfl)
theorem dX1_addItem_57 : decode cX1_addItem 57 = .ok (.iconst 3, 1) := dk_6 (dk_at dksX1_addItem_2 10 rfl rfl)
theorem dX1_addItem_58 : decode cX1_addItem 58 = .ok (.if_icmp .ge 7, 3) := dk_162 0 7 (dk_at dksX1_addItem_2 11 rfl rfl)
theorem dX1_addItem_61 : decode cX1_addItem 61 = .ok (.iconst 1, 1) := dk_4 (dk_at dksX1_addItem_2 14 rfl rfl)
theorem dX1_addItem_62 : decode cX1_addItem 62 = .ok (.goto 4, 3) := dk_167 0 4 (dk_at dksX1_addItem_2 15 rfl rfl)
theorem dX1_addItem_65 : decode cX1_addItem 65 = .ok (.iconst 0, 1) := dk_3 (dk_at dksX1_addItem_2 18 rfl rfl)
theorem dX1_addItem_66 : decode cX1_addItem 66 = .ok (.invokestatic 114, 3) := dk_184 0 114 (dk_at dksX1_addItem_2 19 rfl rfl)
theorem dX1_addItem_69 : decode cX1_addItem 69 = .ok (.aload_n 0, 1) := dk_42 (dk_at dksX1_addItem_2 22 rfl rfl)
theorem dX1_addItem_70 : decode cX1_addItem 70 = .ok (.getfield 162, 3) := dk_180 0 162 (dk_at dksX1_addItem_3 0 rfl rfl)
theorem dX1_addItem_73 : decode cX1_addItem 73 = .ok (.getfield 217, 3) := dk_180 0 217 (dk_at dksX1_addItem_3 3 rfl rfl)
theorem dX1_addItem_76 : decode cX1_addItem 76 = .ok (.aload_n 1, 1) := dk_43 (dk_at dksX1_addItem_3 6 rfl rfl)
theorem dX1_addItem_77 : decode cX1_addItem 77 = .ok (.invokevirtual 42, 3) := dk_182 0 42 (dk_at dksX1_addItem_3 7 rfl rfl)
theorem dX1_addItem_80 : decode cX1_addItem 80 = .ok (.pop, 1) := dk_87 (dk_at dksX1_addItem_3 10 rfl rfl)
theorem dX1_addItem_81 : decode cX1_addItem 81 = .ok (.return_, 1) := dk_177 (dk_at dksX1_addItem_3 11 rfl rfl)
abbrev cX1_not : ByteArray := prog_1_method_36_code
def yX1_not : MethodName := ⟨RX1, "not", "(I)V"⟩
def dkwX1_not_1 : List UInt8 := [192, 0, 38, 182, 0, 74, 183, 0, 171, 182, 0, 226, 177]
abbrev dktX1_not_1 : List UInt8 := dkwX1_not_1 ++ []
def dkwX1_not_0 : List UInt8 := [42, 27, 182, 0, 166, 42, 187, 0, 169, 89, 4, 27, 42, 180, 0, 21, 180, 0, 55, 27, 182, 0, 70]
abbrev dktX1_not_0 : List UInt8 := dkwX1_not_0 ++ dktX1_not_1
theorem dksX1_not_0 : cX1_not.data.toList.drop 0 = dktX1_not_0 := by decide +kernel
theorem dksX1_not_1 : cX1_not.data.toList.drop 23 = dktX1_not_1 := dk_seg dksX1_not_0 23 rfl rfl
theorem dX1_not_0 : decode cX1_not 0 = .ok (.aload_n 0, 1) := dk_42 (dk_at dksX1_not_0 0 rfl rfl)
theorem dX1_not_1 : decode cX1_not 1 = .ok (.iload_n 1, 1) := dk_27 (dk_at dksX1_not_0 1 rfl rfl)
theorem dX1_not_2 : decode cX1_not 2 = .ok (.invokevirtual 166, 3) := dk_182 0 166 (dk_at dksX1_not_0 2 rfl rfl)
theorem dX1_not_5 : decode cX1_not 5 = .ok (.aload_n 0, 1) := dk_42 (dk_at dksX1_not_0 5 rfl rfl)
theorem dX1_not_6 : decode cX1_not 6 = .ok (.new 169, 3) := dk_187 0 169 (dk_at dksX1_not_0 6 rfl rfl)
theorem dX1_not_9 : decode cX1_not 9 = .ok (.dup, 1) := dk_89 (dk_at dksX1_not_0 9 rfl rfl)
theorem dX1_not_10 : decode cX1_not 10 = .ok (.iconst 1, 1) := dk_4 (dk_at dksX1_not_0 10 rfl rfl)
theorem dX1_not_11 : decode cX1_not 11 = .ok (.iload_n 1, 1) := dk_27 (dk_at dksX1_not_0 11 rfl rfl)
theorem dX1_not_12 : decode cX1_not 12 = .ok (.aload_n 0, 1) := dk_42 (dk_at dksX1_not_0 12 rfl rfl)
theorem dX1_not_13 : decode cX1_not 13 = .ok (.getfield 21, 3) := dk_180 0 21 (dk_at dksX1_not_0 13 rfl rfl)
theorem dX1_not_16 : decode cX1_not 16 = .ok (.getfield 55, 3) := dk_180 0 55 (dk_at dksX1_not_0 16 rfl rfl)
theorem dX1_not_19 : decode cX1_not 19 = .ok (.iload_n 1, 1) := dk_27 (dk_at dksX1_not_0 19 rfl rfl)
theorem dX1_not_20 : decode cX1_not 20 = .ok (.invokevirtual 70, 3) := dk_182 0 70 (dk_at dksX1_not_0 20 rfl rfl)
theorem dX1_not_23 : decode cX1_not 23 = .ok (.checkcast 38, 3) := dk_192 0 38 (dk_at dksX1_not_1 0 rfl rfl)
theorem dX1_not_26 : decode cX1_not 26 = .ok (.invokevirtual 74, 3) := dk_182 0 74 (dk_at dksX1_not_1 3 rfl rfl)
theorem dX1_not_29 : decode cX1_not 29 = .ok (.invokespecial 171, 3) := dk_183 0 171 (dk_at dksX1_not_1 6 rfl rfl)
theorem dX1_not_32 : decode cX1_not 32 = .ok (.invokevirtual 226, 3) := dk_182 0 226 (dk_at dksX1_not_1 9 rfl rfl)
theorem dX1_not_35 : decode cX1_not 35 = .ok (.return_, 1) := dk_177 (dk_at dksX1_not_1 12 rfl rfl)
abbrev cX1_test : ByteArray := prog_1_method_37_code
def yX1_test : MethodName := ⟨RX1, "test", "(I)V"⟩
def dkwX1_test_1 : List UInt8 := [5, 183, 0, 171, 182, 0, 226, 177]
abbrev dktX1_test_1 : List UInt8 := dkwX1_test_1 ++ []
def dkwX1_test_0 : List UInt8 := [27, 155, 0, 12, 27, 5, 163, 0, 7, 4, 167, 0, 4, 3, 184, 0, 85, 42, 187, 0, 169, 89, 5, 27]
abbrev dktX1_test_0 : List UInt8 := dkwX1_test_0 ++ dktX1_test_1
theorem dksX1_test_0 : cX1_test.data.toList.drop 0 = dktX1_test_0 := by decide +kernel
theorem dksX1_test_1 : cX1_test.data.toList.drop 24 = dktX1_test_1 := dk_seg dksX1_test_0 24 rfl rfl
theorem dX1_test_0 : decode cX1_test 0 = .ok (.iload_n 1, 1) := dk_27 (dk_at dksX1_test_0 0 rfl rfl)
theorem dX1_test_1 : decode cX1_test 1 = .ok (.ifCond .lt 12, 3) := dk_155 0 12 (dk_at dksX1_test_0 1 rfl rfl)
theorem dX1_test_4 : decode cX1_test 4 = .ok (.iload_n 1, 1) := dk_27 (dk_at dksX1_test_0 4 rfl rfl)
theorem dX1_test_5 : decode cX1_test 5 = .ok (.iconst 2, 1) := dk_5 (dk_at dksX1_test_0 5 rfl rfl)
theorem dX1_test_6 : decode cX1_test 6 = .ok (.if_icmp .gt 7, 3) := dk_163 0 7 (dk_at dksX1_test_0 6 rfl rfl)
theorem dX1_test_9 : decode cX1_test 9 = .ok (.iconst 1, 1) := dk_4 (dk_at dksX1_test_0 9 rfl rfl)
theorem dX1_test_10 : decode cX1_test 10 = .ok (.goto 4, 3) := dk_167 0 4 (dk_at dksX1_test_0 10 rfl rfl)
theorem dX1_test_13 : decode cX1_test 13 = .ok (.iconst 0, 1) := dk_3 (dk_at dksX1_test_0 13 rfl rfl)
theorem dX1_test_14 : decode cX1_test 14 = .ok (.invokestatic 85, 3) := dk_184 0 85 (dk_at dksX1_test_0 14 rfl rfl)
theorem dX1_test_17 : decode cX1_test 17 = .ok (.aload_n 0, 1) := dk_42 (dk_at dksX1_test_0 17 rfl rfl)
theorem dX1_test_18 : decode cX1_test 18 = .ok (.new 169, 3) := dk_187 0 169 (dk_at dksX1_test_0 18 rfl rfl)
theorem dX1_test_21 : decode cX1_test 21 = .ok (.dup, 1) := dk_89 (dk_at dksX1_test_0 21 rfl rfl)
theorem dX1_test_22 : decode cX1_test 22 = .ok (.iconst 2, 1) := dk_5 (dk_at dksX1_test_0 22 rfl rfl)
theorem dX1_test_23 : decode cX1_test 23 = .ok (.iload_n 1, 1) := dk_27 (dk_at dksX1_test_0 23 rfl rfl)
theorem dX1_test_24 : decode cX1_test 24 = .ok (.iconst 2, 1) := dk_5 (dk_at dksX1_test_1 0 rfl rfl)
theorem dX1_test_25 : decode cX1_test 25 = .ok (.invokespecial 171, 3) := dk_183 0 171 (dk_at dksX1_test_1 1 rfl rfl)
theorem dX1_test_28 : decode cX1_test 28 = .ok (.invokevirtual 226, 3) := dk_182 0 226 (dk_at dksX1_test_1 4 rfl rfl)
theorem dX1_test_31 : decode cX1_test 31 = .ok (.return_, 1) := dk_177 (dk_at dksX1_test_1 7 rfl rfl)
abbrev cX1_plus : ByteArray := prog_1_method_38_code
def yX1_plus : MethodName := ⟨RX1, "plus", "()V"⟩
def dkwX1_plus_0 : List UInt8 := [42, 187, 0, 169, 89, 6, 3, 6, 183, 0, 171, 182, 0, 226, 177]
abbrev dktX1_plus_0 : List UInt8 := dkwX1_plus_0 ++ []
theorem dksX1_plus_0 : cX1_plus.data.toList.drop 0 = dktX1_plus_0 := by decide +kernel
theorem dX1_plus_0 : decode cX1_plus 0 = .ok (.aload_n 0, 1) := dk_42 (dk_at dksX1_plus_0 0 rfl rfl)
theorem dX1_plus_1 : decode cX1_plus 1 = .ok (.new 169, 3) := dk_187 0 169 (dk_at dksX1_plus_0 1 rfl rfl)
theorem dX1_plus_4 : decode cX1_plus 4 = .ok (.dup, 1) := dk_89 (dk_at dksX1_plus_0 4 rfl rfl)
theorem dX1_plus_5 : decode cX1_plus 5 = .ok (.iconst 3, 1) := dk_6 (dk_at dksX1_plus_0 5 rfl rfl)
theorem dX1_plus_6 : decode cX1_plus 6 = .ok (.iconst 0, 1) := dk_3 (dk_at dksX1_plus_0 6 rfl rfl)
theorem dX1_plus_7 : decode cX1_plus 7 = .ok (.iconst 3, 1) := dk_6 (dk_at dksX1_plus_0 7 rfl rfl)
theorem dX1_plus_8 : decode cX1_plus 8 = .ok (.invokespecial 171, 3) := dk_183 0 171 (dk_at dksX1_plus_0 8 rfl rfl)
theorem dX1_plus_11 : decode cX1_plus 11 = .ok (.invokevirtual 226, 3) := dk_182 0 226 (dk_at dksX1_plus_0 11 rfl rfl)
theorem dX1_plus_14 : decode cX1_plus 14 = .ok (.return_, 1) := dk_177 (dk_at dksX1_plus_0 14 rfl rfl)
abbrev cX1_done : ByteArray := prog_1_method_42_code
def yX1_done : MethodName := ⟨RX1, "done", "()I"⟩
def dkwX1_done_8 : List UInt8 := [181, 0, 162, 28, 172]
abbrev dktX1_done_8 : List UInt8 := dkwX1_done_8 ++ []
def dkwX1_done_7 : List UInt8 := [180, 0, 162, 182, 0, 42, 87, 42, 43, 182, 0, 130, 87, 42, 180, 0, 162, 180, 0, 91, 61, 42, 1]
abbrev dktX1_done_7 : List UInt8 := dkwX1_done_7 ++ dktX1_done_8
def dkwX1_done_6 : List UInt8 := [43, 180, 1, 21, 181, 0, 91, 43, 89, 180, 1, 21, 4, 96, 181, 1, 21, 43, 180, 1, 18, 42]
abbrev dktX1_done_6 : List UInt8 := dkwX1_done_6 ++ dktX1_done_7
def dkwX1_done_5 : List UInt8 := [43, 180, 1, 18, 182, 0, 58, 16, 10, 162, 0, 7, 4, 167, 0, 4, 3, 184, 0, 114, 42, 180, 0, 162]
abbrev dktX1_done_5 : List UInt8 := dkwX1_done_5 ++ dktX1_done_6
def dkwX1_done_4 : List UInt8 := [96, 181, 1, 15, 43, 180, 1, 12, 42, 180, 0, 162, 182, 0, 42, 87, 42, 43, 181, 0, 21, 167, 0, 62]
abbrev dktX1_done_4 : List UInt8 := dkwX1_done_4 ++ dktX1_done_5
def dkwX1_done_3 : List UInt8 := [167, 0, 4, 3, 184, 0, 114, 42, 180, 0, 162, 43, 180, 1, 15, 181, 0, 91, 43, 89, 180, 1, 15, 4]
abbrev dktX1_done_3 : List UInt8 := dkwX1_done_3 ++ dktX1_done_4
def dkwX1_done_2 : List UInt8 := [42, 180, 0, 162, 180, 0, 204, 153, 0, 64, 43, 180, 1, 12, 182, 0, 58, 16, 6, 162, 0, 7, 4]
abbrev dktX1_done_2 : List UInt8 := dkwX1_done_2 ++ dktX1_done_3
def dkwX1_done_1 : List UInt8 := [167, 0, 16, 76, 187, 0, 49, 89, 19, 1, 10, 43, 183, 0, 102, 191, 42, 180, 0, 21, 182, 0, 117, 76]
abbrev dktX1_done_1 : List UInt8 := dkwX1_done_1 ++ dktX1_done_2
def dkwX1_done_0 : List UInt8 := [42, 180, 0, 162, 198, 0, 7, 4, 167, 0, 4, 3, 184, 0, 114, 42, 180, 0, 162, 184, 1, 7]
abbrev dktX1_done_0 : List UInt8 := dkwX1_done_0 ++ dktX1_done_1
theorem dksX1_done_0 : cX1_done.data.toList.drop 0 = dktX1_done_0 := by decide +kernel
theorem dksX1_done_1 : cX1_done.data.toList.drop 22 = dktX1_done_1 := dk_seg dksX1_done_0 22 rfl rfl
theorem dksX1_done_2 : cX1_done.data.toList.drop 46 = dktX1_done_2 := dk_seg dksX1_done_1 24 rfl rfl
theorem dksX1_done_3 : cX1_done.data.toList.drop 69 = dktX1_done_3 := dk_seg dksX1_done_2 23 rfl rfl
theorem dksX1_done_4 : cX1_done.data.toList.drop 93 = dktX1_done_4 := dk_seg dksX1_done_3 24 rfl rfl
theorem dksX1_done_5 : cX1_done.data.toList.drop 117 = dktX1_done_5 := dk_seg dksX1_done_4 24 rfl rfl
theorem dksX1_done_6 : cX1_done.data.toList.drop 141 = dktX1_done_6 := dk_seg dksX1_done_5 24 rfl rfl
theorem dksX1_done_7 : cX1_done.data.toList.drop 163 = dktX1_done_7 := dk_seg dksX1_done_6 22 rfl rfl
theorem dksX1_done_8 : cX1_done.data.toList.drop 186 = dktX1_done_8 := dk_seg dksX1_done_7 23 rfl rfl
theorem dX1_done_0 : decode cX1_done 0 = .ok (.aload_n 0, 1) := dk_42 (dk_at dksX1_done_0 0 rfl rfl)
theorem dX1_done_1 : decode cX1_done 1 = .ok (.getfield 162, 3) := dk_180 0 162 (dk_at dksX1_done_0 1 rfl rfl)
theorem dX1_done_4 : decode cX1_done 4 = .ok (.ifnull 7, 3) := dk_198 0 7 (dk_at dksX1_done_0 4 rfl rfl)
theorem dX1_done_7 : decode cX1_done 7 = .ok (.iconst 1, 1) := dk_4 (dk_at dksX1_done_0 7 rfl rfl)
theorem dX1_done_8 : decode cX1_done 8 = .ok (.goto 4, 3) := dk_167 0 4 (dk_at dksX1_done_0 8 rfl rfl)
theorem dX1_done_11 : decode cX1_done 11 = .ok (.iconst 0, 1) := dk_3 (dk_at dksX1_done_0 11 rfl rfl)
theorem dX1_done_12 : decode cX1_done 12 = .ok (.invokestatic 114, 3) := dk_184 0 114 (dk_at dksX1_done_0 12 rfl rfl)
theorem dX1_done_15 : decode cX1_done 15 = .ok (.aload_n 0, 1) := dk_42 (dk_at dksX1_done_0 15 rfl rfl)
theorem dX1_done_16 : decode cX1_done 16 = .ok (.getfield 162, 3) := dk_180 0 162 (dk_at dksX1_done_0 16 rfl rfl)
theorem dX1_done_19 : decode cX1_done 19 = .ok (.invokestatic 263, 3) := dk_184 1 7 (dk_at dksX1_done_0 19 rfl rfl)
theorem dX1_done_22 : decode cX1_done 22 = .ok (.goto 16, 3) := dk_167 0 16 (dk_at dksX1_done_1 0 rfl rfl)
theorem dX1_done_25 : decode cX1_done 25 = .ok (.astore_n 1, 1) := dk_76 (dk_at dksX1_done_1 3 rfl rfl)
theorem dX1_done_26 : decode cX1_done 26 = .ok (.new 49, 3) := dk_187 0 49 (dk_at dksX1_done_1 4 rfl rfl)
theorem dX1_done_29 : decode cX1_done 29 = .ok (.dup, 1) := dk_89 (dk_at dksX1_done_1 7 rfl rfl)
theorem dX1_done_30 : decode cX1_done 30 = .ok (.ldc_w 266, 3) := dk_19 1 10 (dk_at dksX1_done_1 8 rfl rfl)
theorem dX1_done_33 : decode cX1_done 33 = .ok (.aload_n 1, 1) := dk_43 (dk_at dksX1_done_1 11 rfl rfl)
theorem dX1_done_34 : decode cX1_done 34 = .ok (.invokespecial 102, 3) := dk_183 0 102 (dk_at dksX1_done_1 12 rfl rfl)
theorem dX1_done_37 : decode cX1_done 37 = .ok (.athrow, 1) := dk_191 (dk_at dksX1_done_1 15 rfl rfl)
theorem dX1_done_38 : decode cX1_done 38 = .ok (.aload_n 0, 1) := dk_42 (dk_at dksX1_done_1 16 rfl rfl)
theorem dX1_done_39 : decode cX1_done 39 = .ok (.getfield 21, 3) := dk_180 0 21 (dk_at dksX1_done_1 17 rfl rfl)
theorem dX1_done_42 : decode cX1_done 42 = .ok (.invokevirtual 117, 3) := dk_182 0 117 (dk_at dksX1_done_1 20 rfl rfl)
theorem dX1_done_45 : decode cX1_done 45 = .ok (.astore_n 1, 1) := dk_76 (dk_at dksX1_done_1 23 rfl rfl)
theorem dX1_done_46 : decode cX1_done 46 = .ok (.aload_n 0, 1) := dk_42 (dk_at dksX1_done_2 0 rfl rfl)
theorem dX1_done_47 : decode cX1_done 47 = .ok (.getfield 162, 3) := dk_180 0 162 (dk_at dksX1_done_2 1 rfl rfl)
theorem dX1_done_50 : decode cX1_done 50 = .ok (.getfield 204, 3) := dk_180 0 204 (dk_at dksX1_done_2 4 rfl rfl)
theorem dX1_done_53 : decode cX1_done 53 = .ok (.ifCond .eq 64, 3) := dk_153 0 64 (dk_at dksX1_done_2 7 rfl rfl)
theorem dX1_done_56 : decode cX1_done 56 = .ok (.aload_n 1, 1) := dk_43 (dk_at dksX1_done_2 10 rfl rfl)
theorem dX1_done_57 : decode cX1_done 57 = .ok (.getfield 268, 3) := dk_180 1 12 (dk_at dksX1_done_2 11 rfl rfl)
theorem dX1_done_60 : decode cX1_done 60 = .ok (.invokevirtual 58, 3) := dk_182 0 58 (dk_at dksX1_done_2 14 rfl rfl)
theorem dX1_done_63 : decode cX1_done 63 = .ok (.bipush 6, 2) := dk_16 6 (dk_at dksX1_done_2 17 rfl rfl)
theorem dX1_done_65 : decode cX1_done 65 = .ok (.if_icmp .ge 7, 3) := dk_162 0 7 (dk_at dksX1_done_2 19 rfl rfl)
theorem dX1_done_68 : decode cX1_done 68 = .ok (.iconst 1, 1) := dk_4 (dk_at dksX1_done_2 22 rfl rfl)
theorem dX1_done_69 : decode cX1_done 69 = .ok (.goto 4, 3) := dk_167 0 4 (dk_at dksX1_done_3 0 rfl rfl)
theorem dX1_done_72 : decode cX1_done 72 = .ok (.iconst 0, 1) := dk_3 (dk_at dksX1_done_3 3 rfl rfl)
theorem dX1_done_73 : decode cX1_done 73 = .ok (.invokestatic 114, 3) := dk_184 0 114 (dk_at dksX1_done_3 4 rfl rfl)
theorem dX1_done_76 : decode cX1_done 76 = .ok (.aload_n 0, 1) := dk_42 (dk_at dksX1_done_3 7 rfl rfl)
theorem dX1_done_77 : decode cX1_done 77 = .ok (.getfield 162, 3) := dk_180 0 162 (dk_at dksX1_done_3 8 rfl rfl)
theorem dX1_done_80 : decode cX1_done 80 = .ok (.aload_n 1, 1) := dk_43 (dk_at dksX1_done_3 11 rfl rfl)
theorem dX1_done_81 : decode cX1_done 81 = .ok (.getfield 271, 3) := dk_180 1 15 (dk_at dksX1_done_3 12 rfl rfl)
theorem dX1_done_84 : decode cX1_done 84 = .ok (.putfield 91, 3) := dk_181 0 91 (dk_at dksX1_done_3 15 rfl rfl)
theorem dX1_done_87 : decode cX1_done 87 = .ok (.aload_n 1, 1) := dk_43 (dk_at dksX1_done_3 18 rfl rfl)
theorem dX1_done_88 : decode cX1_done 88 = .ok (.dup, 1) := dk_89 (dk_at dksX1_done_3 19 rfl rfl)
theorem dX1_done_89 : decode cX1_done 89 = .ok (.getfield 271, 3) := dk_180 1 15 (dk_at dksX1_done_3 20 rfl rfl)
theorem dX1_done_92 : decode cX1_done 92 = .ok (.iconst 1, 1) := dk_4 (dk_at dksX1_done_3 23 rfl rfl)
theorem dX1_done_93 : decode cX1_done 93 = .ok (.iadd, 1) := dk_96 (dk_at dksX1_done_4 0 rfl rfl)
theorem dX1_done_94 : decode cX1_done 94 = .ok (.putfield 271, 3) := dk_181 1 15 (dk_at dksX1_done_4 1 rfl rfl)
theorem dX1_done_97 : decode cX1_done 97 = .ok (.aload_n 1, 1) := dk_43 (dk_at dksX1_done_4 4 rfl rfl)
theorem dX1_done_98 : decode cX1_done 98 = .ok (.getfield 268, 3) := dk_180 1 12 (dk_at dksX1_done_4 5 rfl rfl)
theorem dX1_done_101 : decode cX1_done 101 = .ok (.aload_n 0, 1) := dk_42 (dk_at dksX1_done_4 8 rfl rfl)
theorem dX1_done_102 : decode cX1_done 102 = .ok (.getfield 162, 3) := dk_180 0 162 (dk_at dksX1_done_4 9 rfl rfl)
theorem dX1_done_105 : decode cX1_done 105 = .ok (.invokevirtual 42, 3) := dk_182 0 42 (dk_at dksX1_done_4 12 rfl rfl)
theorem dX1_done_108 : decode cX1_done 108 = .ok (.pop, 1) := dk_87 (dk_at dksX1_done_4 15 rfl rfl)
theorem dX1_done_109 : decode cX1_done 109 = .ok (.aload_n 0, 1) := dk_42 (dk_at dksX1_done_4 16 rfl rfl)
theorem dX1_done_110 : decode cX1_done 110 = .ok (.aload_n 1, 1) := dk_43 (dk_at dksX1_done_4 17 rfl rfl)
theorem dX1_done_111 : decode cX1_done 111 = .ok (.putfield 21, 3) := dk_181 0 21 (dk_at dksX1_done_4 18 rfl rfl)
theorem dX1_done_114 : decode cX1_done 114 = .ok (.goto 62, 3) := dk_167 0 62 (dk_at dksX1_done_4 21 rfl rfl)
theorem dX1_done_117 : decode cX1_done 117 = .ok (.aload_n 1, 1) := dk_43 (dk_at dksX1_done_5 0 rfl rfl)
theorem dX1_done_118 : decode cX1_done 118 = .ok (.getfield 274, 3) := dk_180 1 18 (dk_at dksX1_done_5 1 rfl rfl)
theorem dX1_done_121 : decode cX1_done 121 = .ok (.invokevirtual 58, 3) := dk_182 0 58 (dk_at dksX1_done_5 4 rfl rfl)
theorem dX1_done_124 : decode cX1_done 124 = .ok (.bipush 10, 2) := dk_16 10 (dk_at dksX1_done_5 7 rfl rfl)
theorem dX1_done_126 : decode cX1_done 126 = .ok (.if_icmp .ge 7, 3) := dk_162 0 7 (dk_at dksX1_done_5 9 rfl rfl)
theorem dX1_done_129 : decode cX1_done 129 = .ok (.iconst 1, 1) := dk_4 (dk_at dksX1_done_5 12 rfl rfl)
theorem dX1_done_130 : decode cX1_done 130 = .ok (.goto 4, 3) := dk_167 0 4 (dk_at dksX1_done_5 13 rfl rfl)
theorem dX1_done_133 : decode cX1_done 133 = .ok (.iconst 0, 1) := dk_3 (dk_at dksX1_done_5 16 rfl rfl)
theorem dX1_done_134 : decode cX1_done 134 = .ok (.invokestatic 114, 3) := dk_184 0 114 (dk_at dksX1_done_5 17 rfl rfl)
theorem dX1_done_137 : decode cX1_done 137 = .ok (.aload_n 0, 1) := dk_42 (dk_at dksX1_done_5 20 rfl rfl)
theorem dX1_done_138 : decode cX1_done 138 = .ok (.getfield 162, 3) := dk_180 0 162 (dk_at dksX1_done_5 21 rfl rfl)
theorem dX1_done_141 : decode cX1_done 141 = .ok (.aload_n 1, 1) := dk_43 (dk_at dksX1_done_6 0 rfl rfl)
theorem dX1_done_142 : decode cX1_done 142 = .ok (.getfield 277, 3) := dk_180 1 21 (dk_at dksX1_done_6 1 rfl rfl)
theorem dX1_done_145 : decode cX1_done 145 = .ok (.putfield 91, 3) := dk_181 0 91 (dk_at dksX1_done_6 4 rfl rfl)
theorem dX1_done_148 : decode cX1_done 148 = .ok (.aload_n 1, 1) := dk_43 (dk_at dksX1_done_6 7 rfl rfl)
theorem dX1_done_149 : decode cX1_done 149 = .ok (.dup, 1) := dk_89 (dk_at dksX1_done_6 8 rfl rfl)
theorem dX1_done_150 : decode cX1_done 150 = .ok (.getfield 277, 3) := dk_180 1 21 (dk_at dksX1_done_6 9 rfl rfl)
theorem dX1_done_153 : decode cX1_done 153 = .ok (.iconst 1, 1) := dk_4 (dk_at dksX1_done_6 12 rfl rfl)
theorem dX1_done_154 : decode cX1_done 154 = .ok (.iadd, 1) := dk_96 (dk_at dksX1_done_6 13 rfl rfl)
theorem dX1_done_155 : decode cX1_done 155 = .ok (.putfield 277, 3) := dk_181 1 21 (dk_at dksX1_done_6 14 rfl rfl)
theorem dX1_done_158 : decode cX1_done 158 = .ok (.aload_n 1, 1) := dk_43 (dk_at dksX1_done_6 17 rfl rfl)
theorem dX1_done_159 : decode cX1_done 159 = .ok (.getfield 274, 3) := dk_180 1 18 (dk_at dksX1_done_6 18 rfl rfl)
theorem dX1_done_162 : decode cX1_done 162 = .ok (.aload_n 0, 1) := dk_42 (dk_at dksX1_done_6 21 rfl rfl)
theorem dX1_done_163 : decode cX1_done 163 = .ok (.getfield 162, 3) := dk_180 0 162 (dk_at dksX1_done_7 0 rfl rfl)
theorem dX1_done_166 : decode cX1_done 166 = .ok (.invokevirtual 42, 3) := dk_182 0 42 (dk_at dksX1_done_7 3 rfl rfl)
theorem dX1_done_169 : decode cX1_done 169 = .ok (.pop, 1) := dk_87 (dk_at dksX1_done_7 6 rfl rfl)
theorem dX1_done_170 : decode cX1_done 170 = .ok (.aload_n 0, 1) := dk_42 (dk_at dksX1_done_7 7 rfl rfl)
theorem dX1_done_171 : decode cX1_done 171 = .ok (.aload_n 1, 1) := dk_43 (dk_at dksX1_done_7 8 rfl rfl)
theorem dX1_done_172 : decode cX1_done 172 = .ok (.invokevirtual 130, 3) := dk_182 0 130 (dk_at dksX1_done_7 9 rfl rfl)
theorem dX1_done_175 : decode cX1_done 175 = .ok (.pop, 1) := dk_87 (dk_at dksX1_done_7 12 rfl rfl)
theorem dX1_done_176 : decode cX1_done 176 = .ok (.aload_n 0, 1) := dk_42 (dk_at dksX1_done_7 13 rfl rfl)
theorem dX1_done_177 : decode cX1_done 177 = .ok (.getfield 162, 3) := dk_180 0 162 (dk_at dksX1_done_7 14 rfl rfl)
theorem dX1_done_180 : decode cX1_done 180 = .ok (.getfield 91, 3) := dk_180 0 91 (dk_at dksX1_done_7 17 rfl rfl)
theorem dX1_done_183 : decode cX1_done 183 = .ok (.istore_n 2, 1) := dk_61 (dk_at dksX1_done_7 20 rfl rfl)
theorem dX1_done_184 : decode cX1_done 184 = .ok (.aload_n 0, 1) := dk_42 (dk_at dksX1_done_7 21 rfl rfl)
theorem dX1_done_185 : decode cX1_done 185 = .ok (.aconst_null, 1) := dk_1 (dk_at dksX1_done_7 22 rfl rfl)
theorem dX1_done_186 : decode cX1_done 186 = .ok (.putfield 162, 3) := dk_181 0 162 (dk_at dksX1_done_8 0 rfl rfl)
theorem dX1_done_189 : decode cX1_done 189 = .ok (.iload_n 2, 1) := dk_28 (dk_at dksX1_done_8 3 rfl rfl)
theorem dX1_done_190 : decode cX1_done 190 = .ok (.ireturn, 1) := dk_172 (dk_at dksX1_done_8 4 rfl rfl)
abbrev cX1_checkSound : ByteArray := prog_1_method_41_code
def yX1_checkSound : MethodName := ⟨RX1, "checkSound", "(LRulehearth$Clause;)V"⟩
def dkwX1_checkSound_6 : List UInt8 := [126, 153, 0, 14, 187, 0, 100, 89, 19, 1, 5, 183, 0, 235, 191, 177]
abbrev dktX1_checkSound_6 : List UInt8 := dkwX1_checkSound_6 ++ []
def dkwX1_checkSound_5 : List UInt8 := [192, 0, 169, 184, 1, 2, 128, 60, 132, 2, 1, 167, 255, 177, 42, 180, 0, 211, 184, 1, 2, 27, 2, 130]
abbrev dktX1_checkSound_5 : List UInt8 := dkwX1_checkSound_5 ++ dktX1_checkSound_6
def dkwX1_checkSound_4 : List UInt8 := [182, 0, 247, 28, 182, 0, 251, 182, 0, 254, 183, 0, 235, 191, 27, 42, 180, 0, 217, 28, 182, 0, 70]
abbrev dktX1_checkSound_4 : List UInt8 := dkwX1_checkSound_4 ++ dktX1_checkSound_5
def dkwX1_checkSound_3 : List UInt8 := [184, 0, 238, 27, 2, 130, 126, 153, 0, 30, 187, 0, 100, 89, 187, 0, 242, 89, 183, 0, 244, 18, 245]
abbrev dktX1_checkSound_3 : List UInt8 := dkwX1_checkSound_3 ++ dktX1_checkSound_4
def dkwX1_checkSound_2 : List UInt8 := [28, 42, 180, 0, 217, 182, 0, 58, 162, 0, 74, 42, 180, 0, 217, 28, 182, 0, 70, 192, 0, 169]
abbrev dktX1_checkSound_2 : List UInt8 := dkwX1_checkSound_2 ++ dktX1_checkSound_3
def dkwX1_checkSound_1 : List UInt8 := [153, 0, 20, 42, 182, 0, 223, 154, 0, 13, 187, 0, 100, 89, 18, 233, 183, 0, 235, 191, 3, 60, 3, 61]
abbrev dktX1_checkSound_1 : List UInt8 := dkwX1_checkSound_1 ++ dktX1_checkSound_2
def dkwX1_checkSound_0 : List UInt8 := [42, 180, 0, 217, 182, 0, 230, 154, 0, 27, 42, 182, 0, 185, 182, 0, 189, 153, 0, 17, 42, 180, 0, 204]
abbrev dktX1_checkSound_0 : List UInt8 := dkwX1_checkSound_0 ++ dktX1_checkSound_1
theorem dksX1_checkSound_0 : cX1_checkSound.data.toList.drop 0 = dktX1_checkSound_0 := by decide +kernel
theorem dksX1_checkSound_1 : cX1_checkSound.data.toList.drop 24 = dktX1_checkSound_1 := dk_seg dksX1_checkSound_0 24 rfl rfl
theorem dksX1_checkSound_2 : cX1_checkSound.data.toList.drop 48 = dktX1_checkSound_2 := dk_seg dksX1_checkSound_1 24 rfl rfl
theorem dksX1_checkSound_3 : cX1_checkSound.data.toList.drop 70 = dktX1_checkSound_3 := dk_seg dksX1_checkSound_2 22 rfl rfl
theorem dksX1_checkSound_4 : cX1_checkSound.data.toList.drop 93 = dktX1_checkSound_4 := dk_seg dksX1_checkSound_3 23 rfl rfl
theorem dksX1_checkSound_5 : cX1_checkSound.data.toList.drop 116 = dktX1_checkSound_5 := dk_seg dksX1_checkSound_4 23 rfl rfl
theorem dksX1_checkSound_6 : cX1_checkSound.data.toList.drop 140 = dktX1_checkSound_6 := dk_seg dksX1_checkSound_5 24 rfl rfl
theorem dX1_checkSound_0 : decode cX1_checkSound 0 = .ok (.aload_n 0, 1) := dk_42 (dk_at dksX1_checkSound_0 0 rfl rfl)
theorem dX1_checkSound_1 : decode cX1_checkSound 1 = .ok (.getfield 217, 3) := dk_180 0 217 (dk_at dksX1_checkSound_0 1 rfl rfl)
theorem dX1_checkSound_4 : decode cX1_checkSound 4 = .ok (.invokevirtual 230, 3) := dk_182 0 230 (dk_at dksX1_checkSound_0 4 rfl rfl)
theorem dX1_checkSound_7 : decode cX1_checkSound 7 = .ok (.ifCond .ne 27, 3) := dk_154 0 27 (dk_at dksX1_checkSound_0 7 rfl rfl)
theorem dX1_checkSound_10 : decode cX1_checkSound 10 = .ok (.aload_n 0, 1) := dk_42 (dk_at dksX1_checkSound_0 10 rfl rfl)
theorem dX1_checkSound_11 : decode cX1_checkSound 11 = .ok (.invokevirtual 185, 3) := dk_182 0 185 (dk_at dksX1_checkSound_0 11 rfl rfl)
theorem dX1_checkSound_14 : decode cX1_checkSound 14 = .ok (.invokevirtual 189, 3) := dk_182 0 189 (dk_at dksX1_checkSound_0 14 rfl rfl)
theorem dX1_checkSound_17 : decode cX1_checkSound 17 = .ok (.ifCond .eq 17, 3) := dk_153 0 17 (dk_at dksX1_checkSound_0 17 rfl rfl)
theorem dX1_checkSound_20 : decode cX1_checkSound 20 = .ok (.aload_n 0, 1) := dk_42 (dk_at dksX1_checkSound_0 20 rfl rfl)
theorem dX1_checkSound_21 : decode cX1_checkSound 21 = .ok (.getfield 204, 3) := dk_180 0 204 (dk_at dksX1_checkSound_0 21 rfl rfl)
theorem dX1_checkSound_24 : decode cX1_checkSound 24 = .ok (.ifCond .eq 20, 3) := dk_153 0 20 (dk_at dksX1_checkSound_1 0 rfl rfl)
theorem dX1_checkSound_27 : decode cX1_checkSound 27 = .ok (.aload_n 0, 1) := dk_42 (dk_at dksX1_checkSound_1 3 rfl rfl)
theorem dX1_checkSound_28 : decode cX1_checkSound 28 = .ok (.invokevirtual 223, 3) := dk_182 0 223 (dk_at dksX1_checkSound_1 4 rfl rfl)
theorem dX1_checkSound_31 : decode cX1_checkSound 31 = .ok (.ifCond .ne 13, 3) := dk_154 0 13 (dk_at dksX1_checkSound_1 7 rfl rfl)
theorem dX1_checkSound_34 : decode cX1_checkSound 34 = .ok (.new 100, 3) := dk_187 0 100 (dk_at dksX1_checkSound_1 10 rfl rfl)
theorem dX1_checkSound_37 : decode cX1_checkSound 37 = .ok (.dup, 1) := dk_89 (dk_at dksX1_checkSound_1 13 rfl rfl)
theorem dX1_checkSound_38 : decode cX1_checkSound 38 = .ok (.ldc 233, 2) := dk_18 233 (dk_at dksX1_checkSound_1 14 rfl rfl)
theorem dX1_checkSound_40 : decode cX1_checkSound 40 = .ok (.invokespecial 235, 3) := dk_183 0 235 (dk_at dksX1_checkSound_1 16 rfl rfl)
theorem dX1_checkSound_43 : decode cX1_checkSound 43 = .ok (.athrow, 1) := dk_191 (dk_at dksX1_checkSound_1 19 rfl rfl)
theorem dX1_checkSound_44 : decode cX1_checkSound 44 = .ok (.iconst 0, 1) := dk_3 (dk_at dksX1_checkSound_1 20 rfl rfl)
theorem dX1_checkSound_45 : decode cX1_checkSound 45 = .ok (.istore_n 1, 1) := dk_60 (dk_at dksX1_checkSound_1 21 rfl rfl)
theorem dX1_checkSound_46 : decode cX1_checkSound 46 = .ok (.iconst 0, 1) := dk_3 (dk_at dksX1_checkSound_1 22 rfl rfl)
theorem dX1_checkSound_47 : decode cX1_checkSound 47 = .ok (.istore_n 2, 1) := dk_61 (dk_at dksX1_checkSound_1 23 rfl rfl)
theorem dX1_checkSound_48 : decode cX1_checkSound 48 = .ok (.iload_n 2, 1) := dk_28 (dk_at dksX1_checkSound_2 0 rfl rfl)
theorem dX1_checkSound_49 : decode cX1_checkSound 49 = .ok (.aload_n 0, 1) := dk_42 (dk_at dksX1_checkSound_2 1 rfl rfl)
theorem dX1_checkSound_50 : decode cX1_checkSound 50 = .ok (.getfield 217, 3) := dk_180 0 217 (dk_at dksX1_checkSound_2 2 rfl rfl)
theorem dX1_checkSound_53 : decode cX1_checkSound 53 = .ok (.invokevirtual 58, 3) := dk_182 0 58 (dk_at dksX1_checkSound_2 5 rfl rfl)
theorem dX1_checkSound_56 : decode cX1_checkSound 56 = .ok (.if_icmp .ge 74, 3) := dk_162 0 74 (dk_at dksX1_checkSound_2 8 rfl rfl)
theorem dX1_checkSound_59 : decode cX1_checkSound 59 = .ok (.aload_n 0, 1) := dk_42 (dk_at dksX1_checkSound_2 11 rfl rfl)
theorem dX1_checkSound_60 : decode cX1_checkSound 60 = .ok (.getfield 217, 3) := dk_180 0 217 (dk_at dksX1_checkSound_2 12 rfl rfl)
theorem dX1_checkSound_63 : decode cX1_checkSound 63 = .ok (.iload_n 2, 1) := dk_28 (dk_at dksX1_checkSound_2 15 rfl rfl)
theorem dX1_checkSound_64 : decode cX1_checkSound 64 = .ok (.invokevirtual 70, 3) := dk_182 0 70 (dk_at dksX1_checkSound_2 16 rfl rfl)
theorem dX1_checkSound_67 : decode cX1_checkSound 67 = .ok (.checkcast 169, 3) := dk_192 0 169 (dk_at dksX1_checkSound_2 19 rfl rfl)
theorem dX1_checkSound_70 : decode cX1_checkSound 70 = .ok (.invokestatic 238, 3) := dk_184 0 238 (dk_at dksX1_checkSound_3 0 rfl rfl)
theorem dX1_checkSound_73 : decode cX1_checkSound 73 = .ok (.iload_n 1, 1) := dk_27 (dk_at dksX1_checkSound_3 3 rfl rfl)
theorem dX1_checkSound_74 : decode cX1_checkSound 74 = .ok (.iconst (-1), 1) := dk_2 (dk_at dksX1_checkSound_3 4 rfl rfl)
theorem dX1_checkSound_75 : decode cX1_checkSound 75 = .ok (.ixor, 1) := dk_130 (dk_at dksX1_checkSound_3 5 rfl rfl)
theorem dX1_checkSound_76 : decode cX1_checkSound 76 = .ok (.iand, 1) := dk_126 (dk_at dksX1_checkSound_3 6 rfl rfl)
theorem dX1_checkSound_77 : decode cX1_checkSound 77 = .ok (.ifCond .eq 30, 3) := dk_153 0 30 (dk_at dksX1_checkSound_3 7 rfl rfl)
theorem dX1_checkSound_80 : decode cX1_checkSound 80 = .ok (.new 100, 3) := dk_187 0 100 (dk_at dksX1_checkSound_3 10 rfl rfl)
theorem dX1_checkSound_83 : decode cX1_checkSound 83 = .ok (.dup, 1) := dk_89 (dk_at dksX1_checkSound_3 13 rfl rfl)
theorem dX1_checkSound_84 : decode cX1_checkSound 84 = .ok (.new 242, 3) := dk_187 0 242 (dk_at dksX1_checkSound_3 14 rfl rfl)
theorem dX1_checkSound_87 : decode cX1_checkSound 87 = .ok (.dup, 1) := dk_89 (dk_at dksX1_checkSound_3 17 rfl rfl)
theorem dX1_checkSound_88 : decode cX1_checkSound 88 = .ok (.invokespecial 244, 3) := dk_183 0 244 (dk_at dksX1_checkSound_3 18 rfl rfl)
theorem dX1_checkSound_91 : decode cX1_checkSound 91 = .ok (.ldc 245, 2) := dk_18 245 (dk_at dksX1_checkSound_3 21 rfl rfl)
theorem dX1_checkSound_93 : decode cX1_checkSound 93 = .ok (.invokevirtual 247, 3) := dk_182 0 247 (dk_at dksX1_checkSound_4 0 rfl rfl)
theorem dX1_checkSound_96 : decode cX1_checkSound 96 = .ok (.iload_n 2, 1) := dk_28 (dk_at dksX1_checkSound_4 3 rfl rfl)
theorem dX1_checkSound_97 : decode cX1_checkSound 97 = .ok (.invokevirtual 251, 3) := dk_182 0 251 (dk_at dksX1_checkSound_4 4 rfl rfl)
theorem dX1_checkSound_100 : decode cX1_checkSound 100 = .ok (.invokevirtual 254, 3) := dk_182 0 254 (dk_at dksX1_checkSound_4 7 rfl rfl)
theorem dX1_checkSound_103 : decode cX1_checkSound 103 = .ok (.invokespecial 235, 3) := dk_183 0 235 (dk_at dksX1_checkSound_4 10 rfl rfl)
theorem dX1_checkSound_106 : decode cX1_checkSound 106 = .ok (.athrow, 1) := dk_191 (dk_at dksX1_checkSound_4 13 rfl rfl)
theorem dX1_checkSound_107 : decode cX1_checkSound 107 = .ok (.iload_n 1, 1) := dk_27 (dk_at dksX1_checkSound_4 14 rfl rfl)
theorem dX1_checkSound_108 : decode cX1_checkSound 108 = .ok (.aload_n 0, 1) := dk_42 (dk_at dksX1_checkSound_4 15 rfl rfl)
theorem dX1_checkSound_109 : decode cX1_checkSound 109 = .ok (.getfield 217, 3) := dk_180 0 217 (dk_at dksX1_checkSound_4 16 rfl rfl)
theorem dX1_checkSound_112 : decode cX1_checkSound 112 = .ok (.iload_n 2, 1) := dk_28 (dk_at dksX1_checkSound_4 19 rfl rfl)
theorem dX1_checkSound_113 : decode cX1_checkSound 113 = .ok (.invokevirtual 70, 3) := dk_182 0 70 (dk_at dksX1_checkSound_4 20 rfl rfl)
theorem dX1_checkSound_116 : decode cX1_checkSound 116 = .ok (.checkcast 169, 3) := dk_192 0 169 (dk_at dksX1_checkSound_5 0 rfl rfl)
theorem dX1_checkSound_119 : decode cX1_checkSound 119 = .ok (.invokestatic 258, 3) := dk_184 1 2 (dk_at dksX1_checkSound_5 3 rfl rfl)
theorem dX1_checkSound_122 : decode cX1_checkSound 122 = .ok (.ior, 1) := dk_128 (dk_at dksX1_checkSound_5 6 rfl rfl)
theorem dX1_checkSound_123 : decode cX1_checkSound 123 = .ok (.istore_n 1, 1) := dk_60 (dk_at dksX1_checkSound_5 7 rfl rfl)
theorem dX1_checkSound_124 : decode cX1_checkSound 124 = .ok (.iinc 2 1, 3) := dk_132 2 1 (dk_at dksX1_checkSound_5 8 rfl rfl)
theorem dX1_checkSound_127 : decode cX1_checkSound 127 = .ok (.goto (-79), 3) := dk_167 255 177 (dk_at dksX1_checkSound_5 11 rfl rfl)
theorem dX1_checkSound_130 : decode cX1_checkSound 130 = .ok (.aload_n 0, 1) := dk_42 (dk_at dksX1_checkSound_5 14 rfl rfl)
theorem dX1_checkSound_131 : decode cX1_checkSound 131 = .ok (.getfield 211, 3) := dk_180 0 211 (dk_at dksX1_checkSound_5 15 rfl rfl)
theorem dX1_checkSound_134 : decode cX1_checkSound 134 = .ok (.invokestatic 258, 3) := dk_184 1 2 (dk_at dksX1_checkSound_5 18 rfl rfl)
theorem dX1_checkSound_137 : decode cX1_checkSound 137 = .ok (.iload_n 1, 1) := dk_27 (dk_at dksX1_checkSound_5 21 rfl rfl)
theorem dX1_checkSound_138 : decode cX1_checkSound 138 = .ok (.iconst (-1), 1) := dk_2 (dk_at dksX1_checkSound_5 22 rfl rfl)
theorem dX1_checkSound_139 : decode cX1_checkSound 139 = .ok (.ixor, 1) := dk_130 (dk_at dksX1_checkSound_5 23 rfl rfl)
theorem dX1_checkSound_140 : decode cX1_checkSound 140 = .ok (.iand, 1) := dk_126 (dk_at dksX1_checkSound_6 0 rfl rfl)
theorem dX1_checkSound_141 : decode cX1_checkSound 141 = .ok (.ifCond .eq 14, 3) := dk_153 0 14 (dk_at dksX1_checkSound_6 1 rfl rfl)
theorem dX1_checkSound_144 : decode cX1_checkSound 144 = .ok (.new 100, 3) := dk_187 0 100 (dk_at dksX1_checkSound_6 4 rfl rfl)
theorem dX1_checkSound_147 : decode cX1_checkSound 147 = .ok (.dup, 1) := dk_89 (dk_at dksX1_checkSound_6 7 rfl rfl)
theorem dX1_checkSound_148 : decode cX1_checkSound 148 = .ok (.ldc_w 261, 3) := dk_19 1 5 (dk_at dksX1_checkSound_6 8 rfl rfl)
theorem dX1_checkSound_151 : decode cX1_checkSound 151 = .ok (.invokespecial 235, 3) := dk_183 0 235 (dk_at dksX1_checkSound_6 11 rfl rfl)
theorem dX1_checkSound_154 : decode cX1_checkSound 154 = .ok (.athrow, 1) := dk_191 (dk_at dksX1_checkSound_6 14 rfl rfl)
theorem dX1_checkSound_155 : decode cX1_checkSound 155 = .ok (.return_, 1) := dk_177 (dk_at dksX1_checkSound_6 15 rfl rfl)
abbrev cX1_needed : ByteArray := prog_1_method_40_code
def yX1_needed : MethodName := ⟨RX1, "needed", "(LRulehearth$Item;)I"⟩
def dkwX1_needed_2 : List UInt8 := [180, 0, 193, 28, 46, 16, 100, 100, 120, 167, 0, 4, 3, 128, 60, 132, 2, 1, 167, 255, 196, 27, 172]
abbrev dktX1_needed_2 : List UInt8 := dkwX1_needed_2 ++ []
def dkwX1_needed_1 : List UInt8 := [162, 0, 45, 42, 180, 0, 220, 153, 0, 38, 27, 42, 180, 0, 193, 28, 46, 16, 100, 161, 0, 17, 4, 42]
abbrev dktX1_needed_1 : List UInt8 := dkwX1_needed_1 ++ dktX1_needed_2
def dkwX1_needed_0 : List UInt8 := [3, 60, 3, 61, 28, 42, 180, 0, 220, 6, 160, 0, 7, 5, 167, 0, 8, 42, 180, 0, 193, 190]
abbrev dktX1_needed_0 : List UInt8 := dkwX1_needed_0 ++ dktX1_needed_1
theorem dksX1_needed_0 : cX1_needed.data.toList.drop 0 = dktX1_needed_0 := by decide +kernel
theorem dksX1_needed_1 : cX1_needed.data.toList.drop 22 = dktX1_needed_1 := dk_seg dksX1_needed_0 22 rfl rfl
theorem dksX1_needed_2 : cX1_needed.data.toList.drop 46 = dktX1_needed_2 := dk_seg dksX1_needed_1 24 rfl rfl
theorem dX1_needed_0 : decode cX1_needed 0 = .ok (.iconst 0, 1) := dk_3 (dk_at dksX1_needed_0 0 rfl rfl)
theorem dX1_needed_1 : decode cX1_needed 1 = .ok (.istore_n 1, 1) := dk_60 (dk_at dksX1_needed_0 1 rfl rfl)
theorem dX1_needed_2 : decode cX1_needed 2 = .ok (.iconst 0, 1) := dk_3 (dk_at dksX1_needed_0 2 rfl rfl)
theorem dX1_needed_3 : decode cX1_needed 3 = .ok (.istore_n 2, 1) := dk_61 (dk_at dksX1_needed_0 3 rfl rfl)
theorem dX1_needed_4 : decode cX1_needed 4 = .ok (.iload_n 2, 1) := dk_28 (dk_at dksX1_needed_0 4 rfl rfl)
theorem dX1_needed_5 : decode cX1_needed 5 = .ok (.aload_n 0, 1) := dk_42 (dk_at dksX1_needed_0 5 rfl rfl)
theorem dX1_needed_6 : decode cX1_needed 6 = .ok (.getfield 220, 3) := dk_180 0 220 (dk_at dksX1_needed_0 6 rfl rfl)
theorem dX1_needed_9 : decode cX1_needed 9 = .ok (.iconst 3, 1) := dk_6 (dk_at dksX1_needed_0 9 rfl rfl)
theorem dX1_needed_10 : decode cX1_needed 10 = .ok (.if_icmp .ne 7, 3) := dk_160 0 7 (dk_at dksX1_needed_0 10 rfl rfl)
theorem dX1_needed_13 : decode cX1_needed 13 = .ok (.iconst 2, 1) := dk_5 (dk_at dksX1_needed_0 13 rfl rfl)
theorem dX1_needed_14 : decode cX1_needed 14 = .ok (.goto 8, 3) := dk_167 0 8 (dk_at dksX1_needed_0 14 rfl rfl)
theorem dX1_needed_17 : decode cX1_needed 17 = .ok (.aload_n 0, 1) := dk_42 (dk_at dksX1_needed_0 17 rfl rfl)
theorem dX1_needed_18 : decode cX1_needed 18 = .ok (.getfield 193, 3) := dk_180 0 193 (dk_at dksX1_needed_0 18 rfl rfl)
theorem dX1_needed_21 : decode cX1_needed 21 = .ok (.arraylength, 1) := dk_190 (dk_at dksX1_needed_0 21 rfl rfl)
theorem dX1_needed_22 : decode cX1_needed 22 = .ok (.if_icmp .ge 45, 3) := dk_162 0 45 (dk_at dksX1_needed_1 0 rfl rfl)
theorem dX1_needed_25 : decode cX1_needed 25 = .ok (.aload_n 0, 1) := dk_42 (dk_at dksX1_needed_1 3 rfl rfl)
theorem dX1_needed_26 : decode cX1_needed 26 = .ok (.getfield 220, 3) := dk_180 0 220 (dk_at dksX1_needed_1 4 rfl rfl)
theorem dX1_needed_29 : decode cX1_needed 29 = .ok (.ifCond .eq 38, 3) := dk_153 0 38 (dk_at dksX1_needed_1 7 rfl rfl)
theorem dX1_needed_32 : decode cX1_needed 32 = .ok (.iload_n 1, 1) := dk_27 (dk_at dksX1_needed_1 10 rfl rfl)
theorem dX1_needed_33 : decode cX1_needed 33 = .ok (.aload_n 0, 1) := dk_42 (dk_at dksX1_needed_1 11 rfl rfl)
theorem dX1_needed_34 : decode cX1_needed 34 = .ok (.getfield 193, 3) := dk_180 0 193 (dk_at dksX1_needed_1 12 rfl rfl)
theorem dX1_needed_37 : decode cX1_needed 37 = .ok (.iload_n 2, 1) := dk_28 (dk_at dksX1_needed_1 15 rfl rfl)
theorem dX1_needed_38 : decode cX1_needed 38 = .ok (.iaload, 1) := dk_46 (dk_at dksX1_needed_1 16 rfl rfl)
theorem dX1_needed_39 : decode cX1_needed 39 = .ok (.bipush 100, 2) := dk_16 100 (dk_at dksX1_needed_1 17 rfl rfl)
theorem dX1_needed_41 : decode cX1_needed 41 = .ok (.if_icmp .lt 17, 3) := dk_161 0 17 (dk_at dksX1_needed_1 19 rfl rfl)
theorem dX1_needed_44 : decode cX1_needed 44 = .ok (.iconst 1, 1) := dk_4 (dk_at dksX1_needed_1 22 rfl rfl)
theorem dX1_needed_45 : decode cX1_needed 45 = .ok (.aload_n 0, 1) := dk_42 (dk_at dksX1_needed_1 23 rfl rfl)
theorem dX1_needed_46 : decode cX1_needed 46 = .ok (.getfield 193, 3) := dk_180 0 193 (dk_at dksX1_needed_2 0 rfl rfl)
theorem dX1_needed_49 : decode cX1_needed 49 = .ok (.iload_n 2, 1) := dk_28 (dk_at dksX1_needed_2 3 rfl rfl)
theorem dX1_needed_50 : decode cX1_needed 50 = .ok (.iaload, 1) := dk_46 (dk_at dksX1_needed_2 4 rfl rfl)
theorem dX1_needed_51 : decode cX1_needed 51 = .ok (.bipush 100, 2) := dk_16 100 (dk_at dksX1_needed_2 5 rfl rfl)
theorem dX1_needed_53 : decode cX1_needed 53 = .ok (.isub, 1) := dk_100 (dk_at dksX1_needed_2 7 rfl rfl)
theorem dX1_needed_54 : decode cX1_needed 54 = .ok (.ishl, 1) := dk_120 (dk_at dksX1_needed_2 8 rfl rfl)
theorem dX1_needed_55 : decode cX1_needed 55 = .ok (.goto 4, 3) := dk_167 0 4 (dk_at dksX1_needed_2 9 rfl rfl)
theorem dX1_needed_58 : decode cX1_needed 58 = .ok (.iconst 0, 1) := dk_3 (dk_at dksX1_needed_2 12 rfl rfl)
theorem dX1_needed_59 : decode cX1_needed 59 = .ok (.ior, 1) := dk_128 (dk_at dksX1_needed_2 13 rfl rfl)
theorem dX1_needed_60 : decode cX1_needed 60 = .ok (.istore_n 1, 1) := dk_60 (dk_at dksX1_needed_2 14 rfl rfl)
theorem dX1_needed_61 : decode cX1_needed 61 = .ok (.iinc 2 1, 3) := dk_132 2 1 (dk_at dksX1_needed_2 15 rfl rfl)
theorem dX1_needed_64 : decode cX1_needed 64 = .ok (.goto (-60), 3) := dk_167 255 196 (dk_at dksX1_needed_2 18 rfl rfl)
theorem dX1_needed_67 : decode cX1_needed 67 = .ok (.iload_n 1, 1) := dk_27 (dk_at dksX1_needed_2 21 rfl rfl)
theorem dX1_needed_68 : decode cX1_needed 68 = .ok (.ireturn, 1) := dk_172 (dk_at dksX1_needed_2 22 rfl rfl)
abbrev cX1_known : ByteArray := prog_1_method_39_code
def yX1_known : MethodName := ⟨RX1, "known", "(LRulehearth$Item;)I"⟩
def dkwX1_known_3 : List UInt8 := [132, 2, 1, 167, 255, 200, 27, 172]
abbrev dktX1_known_3 : List UInt8 := dkwX1_known_3 ++ []
def dkwX1_known_2 : List UInt8 := [46, 16, 100, 161, 0, 17, 4, 42, 180, 0, 193, 28, 46, 16, 100, 100, 120, 167, 0, 4, 3, 128, 60]
abbrev dktX1_known_2 : List UInt8 := dkwX1_known_2 ++ dktX1_known_3
def dkwX1_known_1 : List UInt8 := [162, 0, 53, 42, 180, 0, 220, 153, 0, 11, 42, 180, 0, 220, 6, 160, 0, 38, 27, 42, 180, 0, 193, 28]
abbrev dktX1_known_1 : List UInt8 := dkwX1_known_1 ++ dktX1_known_2
def dkwX1_known_0 : List UInt8 := [3, 60, 42, 180, 0, 220, 6, 160, 0, 7, 5, 167, 0, 4, 3, 61, 28, 42, 180, 0, 193, 190]
abbrev dktX1_known_0 : List UInt8 := dkwX1_known_0 ++ dktX1_known_1
theorem dksX1_known_0 : cX1_known.data.toList.drop 0 = dktX1_known_0 := by decide +kernel
theorem dksX1_known_1 : cX1_known.data.toList.drop 22 = dktX1_known_1 := dk_seg dksX1_known_0 22 rfl rfl
theorem dksX1_known_2 : cX1_known.data.toList.drop 46 = dktX1_known_2 := dk_seg dksX1_known_1 24 rfl rfl
theorem dksX1_known_3 : cX1_known.data.toList.drop 69 = dktX1_known_3 := dk_seg dksX1_known_2 23 rfl rfl
theorem dX1_known_0 : decode cX1_known 0 = .ok (.iconst 0, 1) := dk_3 (dk_at dksX1_known_0 0 rfl rfl)
theorem dX1_known_1 : decode cX1_known 1 = .ok (.istore_n 1, 1) := dk_60 (dk_at dksX1_known_0 1 rfl rfl)
theorem dX1_known_2 : decode cX1_known 2 = .ok (.aload_n 0, 1) := dk_42 (dk_at dksX1_known_0 2 rfl rfl)
theorem dX1_known_3 : decode cX1_known 3 = .ok (.getfield 220, 3) := dk_180 0 220 (dk_at dksX1_known_0 3 rfl rfl)
theorem dX1_known_6 : decode cX1_known 6 = .ok (.iconst 3, 1) := dk_6 (dk_at dksX1_known_0 6 rfl rfl)
theorem dX1_known_7 : decode cX1_known 7 = .ok (.if_icmp .ne 7, 3) := dk_160 0 7 (dk_at dksX1_known_0 7 rfl rfl)
theorem dX1_known_10 : decode cX1_known 10 = .ok (.iconst 2, 1) := dk_5 (dk_at dksX1_known_0 10 rfl rfl)
theorem dX1_known_11 : decode cX1_known 11 = .ok (.goto 4, 3) := dk_167 0 4 (dk_at dksX1_known_0 11 rfl rfl)
theorem dX1_known_14 : decode cX1_known 14 = .ok (.iconst 0, 1) := dk_3 (dk_at dksX1_known_0 14 rfl rfl)
theorem dX1_known_15 : decode cX1_known 15 = .ok (.istore_n 2, 1) := dk_61 (dk_at dksX1_known_0 15 rfl rfl)
theorem dX1_known_16 : decode cX1_known 16 = .ok (.iload_n 2, 1) := dk_28 (dk_at dksX1_known_0 16 rfl rfl)
theorem dX1_known_17 : decode cX1_known 17 = .ok (.aload_n 0, 1) := dk_42 (dk_at dksX1_known_0 17 rfl rfl)
theorem dX1_known_18 : decode cX1_known 18 = .ok (.getfield 193, 3) := dk_180 0 193 (dk_at dksX1_known_0 18 rfl rfl)
theorem dX1_known_21 : decode cX1_known 21 = .ok (.arraylength, 1) := dk_190 (dk_at dksX1_known_0 21 rfl rfl)
theorem dX1_known_22 : decode cX1_known 22 = .ok (.if_icmp .ge 53, 3) := dk_162 0 53 (dk_at dksX1_known_1 0 rfl rfl)
theorem dX1_known_25 : decode cX1_known 25 = .ok (.aload_n 0, 1) := dk_42 (dk_at dksX1_known_1 3 rfl rfl)
theorem dX1_known_26 : decode cX1_known 26 = .ok (.getfield 220, 3) := dk_180 0 220 (dk_at dksX1_known_1 4 rfl rfl)
theorem dX1_known_29 : decode cX1_known 29 = .ok (.ifCond .eq 11, 3) := dk_153 0 11 (dk_at dksX1_known_1 7 rfl rfl)
theorem dX1_known_32 : decode cX1_known 32 = .ok (.aload_n 0, 1) := dk_42 (dk_at dksX1_known_1 10 rfl rfl)
theorem dX1_known_33 : decode cX1_known 33 = .ok (.getfield 220, 3) := dk_180 0 220 (dk_at dksX1_known_1 11 rfl rfl)
theorem dX1_known_36 : decode cX1_known 36 = .ok (.iconst 3, 1) := dk_6 (dk_at dksX1_known_1 14 rfl rfl)
theorem dX1_known_37 : decode cX1_known 37 = .ok (.if_icmp .ne 38, 3) := dk_160 0 38 (dk_at dksX1_known_1 15 rfl rfl)
theorem dX1_known_40 : decode cX1_known 40 = .ok (.iload_n 1, 1) := dk_27 (dk_at dksX1_known_1 18 rfl rfl)
theorem dX1_known_41 : decode cX1_known 41 = .ok (.aload_n 0, 1) := dk_42 (dk_at dksX1_known_1 19 rfl rfl)
theorem dX1_known_42 : decode cX1_known 42 = .ok (.getfield 193, 3) := dk_180 0 193 (dk_at dksX1_known_1 20 rfl rfl)
theorem dX1_known_45 : decode cX1_known 45 = .ok (.iload_n 2, 1) := dk_28 (dk_at dksX1_known_1 23 rfl rfl)
theorem dX1_known_46 : decode cX1_known 46 = .ok (.iaload, 1) := dk_46 (dk_at dksX1_known_2 0 rfl rfl)
theorem dX1_known_47 : decode cX1_known 47 = .ok (.bipush 100, 2) := dk_16 100 (dk_at dksX1_known_2 1 rfl rfl)
theorem dX1_known_49 : decode cX1_known 49 = .ok (.if_icmp .lt 17, 3) := dk_161 0 17 (dk_at dksX1_known_2 3 rfl rfl)
theorem dX1_known_52 : decode cX1_known 52 = .ok (.iconst 1, 1) := dk_4 (dk_at dksX1_known_2 6 rfl rfl)
theorem dX1_known_53 : decode cX1_known 53 = .ok (.aload_n 0, 1) := dk_42 (dk_at dksX1_known_2 7 rfl rfl)
theorem dX1_known_54 : decode cX1_known 54 = .ok (.getfield 193, 3) := dk_180 0 193 (dk_at dksX1_known_2 8 rfl rfl)
theorem dX1_known_57 : decode cX1_known 57 = .ok (.iload_n 2, 1) := dk_28 (dk_at dksX1_known_2 11 rfl rfl)
theorem dX1_known_58 : decode cX1_known 58 = .ok (.iaload, 1) := dk_46 (dk_at dksX1_known_2 12 rfl rfl)
theorem dX1_known_59 : decode cX1_known 59 = .ok (.bipush 100, 2) := dk_16 100 (dk_at dksX1_known_2 13 rfl rfl)
theorem dX1_known_61 : decode cX1_known 61 = .ok (.isub, 1) := dk_100 (dk_at dksX1_known_2 15 rfl rfl)
theorem dX1_known_62 : decode cX1_known 62 = .ok (.ishl, 1) := dk_120 (dk_at dksX1_known_2 16 rfl rfl)
theorem dX1_known_63 : decode cX1_known 63 = .ok (.goto 4, 3) := dk_167 0 4 (dk_at dksX1_known_2 17 rfl rfl)
theorem dX1_known_66 : decode cX1_known 66 = .ok (.iconst 0, 1) := dk_3 (dk_at dksX1_known_2 20 rfl rfl)
theorem dX1_known_67 : decode cX1_known 67 = .ok (.ior, 1) := dk_128 (dk_at dksX1_known_2 21 rfl rfl)
theorem dX1_known_68 : decode cX1_known 68 = .ok (.istore_n 1, 1) := dk_60 (dk_at dksX1_known_2 22 rfl rfl)
theorem dX1_known_69 : decode cX1_known 69 = .ok (.iinc 2 1, 3) := dk_132 2 1 (dk_at dksX1_known_3 0 rfl rfl)
theorem dX1_known_72 : decode cX1_known 72 = .ok (.goto (-56), 3) := dk_167 255 200 (dk_at dksX1_known_3 3 rfl rfl)
theorem dX1_known_75 : decode cX1_known 75 = .ok (.iload_n 1, 1) := dk_27 (dk_at dksX1_known_3 6 rfl rfl)
theorem dX1_known_76 : decode cX1_known 76 = .ok (.ireturn, 1) := dk_172 (dk_at dksX1_known_3 7 rfl rfl)
abbrev cX1_drop : ByteArray := prog_1_method_44_code
def yX1_drop : MethodName := ⟨RX1, "drop", "(I)I"⟩
def dkwX1_drop_1 : List UInt8 := [44, 182, 1, 28, 87, 42, 45, 182, 0, 130, 172]
abbrev dktX1_drop_1 : List UInt8 := dkwX1_drop_1 ++ []
def dkwX1_drop_0 : List UInt8 := [42, 180, 0, 21, 180, 1, 18, 27, 184, 1, 24, 77, 42, 180, 0, 21, 182, 0, 117, 78, 45, 180, 1, 18]
abbrev dktX1_drop_0 : List UInt8 := dkwX1_drop_0 ++ dktX1_drop_1
theorem dksX1_drop_0 : cX1_drop.data.toList.drop 0 = dktX1_drop_0 := by decide +kernel
theorem dksX1_drop_1 : cX1_drop.data.toList.drop 24 = dktX1_drop_1 := dk_seg dksX1_drop_0 24 rfl rfl
theorem dX1_drop_0 : decode cX1_drop 0 = .ok (.aload_n 0, 1) := dk_42 (dk_at dksX1_drop_0 0 rfl rfl)
theorem dX1_drop_1 : decode cX1_drop 1 = .ok (.getfield 21, 3) := dk_180 0 21 (dk_at dksX1_drop_0 1 rfl rfl)
theorem dX1_drop_4 : decode cX1_drop 4 = .ok (.getfield 274, 3) := dk_180 1 18 (dk_at dksX1_drop_0 4 rfl rfl)
theorem dX1_drop_7 : decode cX1_drop 7 = .ok (.iload_n 1, 1) := dk_27 (dk_at dksX1_drop_0 7 rfl rfl)
theorem dX1_drop_8 : decode cX1_drop 8 = .ok (.invokestatic 280, 3) := dk_184 1 24 (dk_at dksX1_drop_0 8 rfl rfl)
theorem dX1_drop_11 : decode cX1_drop 11 = .ok (.astore_n 2, 1) := dk_77 (dk_at dksX1_drop_0 11 rfl rfl)
theorem dX1_drop_12 : decode cX1_drop 12 = .ok (.aload_n 0, 1) := dk_42 (dk_at dksX1_drop_0 12 rfl rfl)
theorem dX1_drop_13 : decode cX1_drop 13 = .ok (.getfield 21, 3) := dk_180 0 21 (dk_at dksX1_drop_0 13 rfl rfl)
theorem dX1_drop_16 : decode cX1_drop 16 = .ok (.invokevirtual 117, 3) := dk_182 0 117 (dk_at dksX1_drop_0 16 rfl rfl)
theorem dX1_drop_19 : decode cX1_drop 19 = .ok (.astore_n 3, 1) := dk_78 (dk_at dksX1_drop_0 19 rfl rfl)
theorem dX1_drop_20 : decode cX1_drop 20 = .ok (.aload_n 3, 1) := dk_45 (dk_at dksX1_drop_0 20 rfl rfl)
theorem dX1_drop_21 : decode cX1_drop 21 = .ok (.getfield 274, 3) := dk_180 1 18 (dk_at dksX1_drop_0 21 rfl rfl)
theorem dX1_drop_24 : decode cX1_drop 24 = .ok (.aload_n 2, 1) := dk_44 (dk_at dksX1_drop_1 0 rfl rfl)
theorem dX1_drop_25 : decode cX1_drop 25 = .ok (.invokevirtual 284, 3) := dk_182 1 28 (dk_at dksX1_drop_1 1 rfl rfl)
theorem dX1_drop_28 : decode cX1_drop 28 = .ok (.pop, 1) := dk_87 (dk_at dksX1_drop_1 4 rfl rfl)
theorem dX1_drop_29 : decode cX1_drop 29 = .ok (.aload_n 0, 1) := dk_42 (dk_at dksX1_drop_1 5 rfl rfl)
theorem dX1_drop_30 : decode cX1_drop 30 = .ok (.aload_n 3, 1) := dk_45 (dk_at dksX1_drop_1 6 rfl rfl)
theorem dX1_drop_31 : decode cX1_drop 31 = .ok (.invokevirtual 130, 3) := dk_182 0 130 (dk_at dksX1_drop_1 7 rfl rfl)
theorem dX1_drop_34 : decode cX1_drop 34 = .ok (.ireturn, 1) := dk_172 (dk_at dksX1_drop_1 10 rfl rfl)
abbrev cX1_find : ByteArray := prog_1_method_14_code
def yX1_find : MethodName := ⟨RX1, "find", "(Ljava/util/ArrayList;I)LRulehearth$Clause;"⟩
def dkwX1_find_2 : List UInt8 := [183, 0, 54, 191]
abbrev dktX1_find_2 : List UInt8 := dkwX1_find_2 ++ []
def dkwX1_find_1 : List UInt8 := [160, 0, 12, 42, 28, 182, 0, 70, 192, 0, 89, 176, 132, 2, 1, 167, 255, 221, 187, 0, 52, 89]
abbrev dktX1_find_1 : List UInt8 := dkwX1_find_1 ++ dktX1_find_2
def dkwX1_find_0 : List UInt8 := [3, 61, 28, 42, 182, 0, 58, 162, 0, 33, 42, 28, 182, 0, 70, 192, 0, 89, 180, 0, 91, 27]
abbrev dktX1_find_0 : List UInt8 := dkwX1_find_0 ++ dktX1_find_1
theorem dksX1_find_0 : cX1_find.data.toList.drop 0 = dktX1_find_0 := by decide +kernel
theorem dksX1_find_1 : cX1_find.data.toList.drop 22 = dktX1_find_1 := dk_seg dksX1_find_0 22 rfl rfl
theorem dksX1_find_2 : cX1_find.data.toList.drop 44 = dktX1_find_2 := dk_seg dksX1_find_1 22 rfl rfl
theorem dX1_find_0 : decode cX1_find 0 = .ok (.iconst 0, 1) := dk_3 (dk_at dksX1_find_0 0 rfl rfl)
theorem dX1_find_1 : decode cX1_find 1 = .ok (.istore_n 2, 1) := dk_61 (dk_at dksX1_find_0 1 rfl rfl)
theorem dX1_find_2 : decode cX1_find 2 = .ok (.iload_n 2, 1) := dk_28 (dk_at dksX1_find_0 2 rfl rfl)
theorem dX1_find_3 : decode cX1_find 3 = .ok (.aload_n 0, 1) := dk_42 (dk_at dksX1_find_0 3 rfl rfl)
theorem dX1_find_4 : decode cX1_find 4 = .ok (.invokevirtual 58, 3) := dk_182 0 58 (dk_at dksX1_find_0 4 rfl rfl)
theorem dX1_find_7 : decode cX1_find 7 = .ok (.if_icmp .ge 33, 3) := dk_162 0 33 (dk_at dksX1_find_0 7 rfl rfl)
theorem dX1_find_10 : decode cX1_find 10 = .ok (.aload_n 0, 1) := dk_42 (dk_at dksX1_find_0 10 rfl rfl)
theorem dX1_find_11 : decode cX1_find 11 = .ok (.iload_n 2, 1) := dk_28 (dk_at dksX1_find_0 11 rfl rfl)
theorem dX1_find_12 : decode cX1_find 12 = .ok (.invokevirtual 70, 3) := dk_182 0 70 (dk_at dksX1_find_0 12 rfl rfl)
theorem dX1_find_15 : decode cX1_find 15 = .ok (.checkcast 89, 3) := dk_192 0 89 (dk_at dksX1_find_0 15 rfl rfl)
theorem dX1_find_18 : decode cX1_find 18 = .ok (.getfield 91, 3) := dk_180 0 91 (dk_at dksX1_find_0 18 rfl rfl)
theorem dX1_find_21 : decode cX1_find 21 = .ok (.iload_n 1, 1) := dk_27 (dk_at dksX1_find_0 21 rfl rfl)
theorem dX1_find_22 : decode cX1_find 22 = .ok (.if_icmp .ne 12, 3) := dk_160 0 12 (dk_at dksX1_find_1 0 rfl rfl)
theorem dX1_find_25 : decode cX1_find 25 = .ok (.aload_n 0, 1) := dk_42 (dk_at dksX1_find_1 3 rfl rfl)
theorem dX1_find_26 : decode cX1_find 26 = .ok (.iload_n 2, 1) := dk_28 (dk_at dksX1_find_1 4 rfl rfl)
theorem dX1_find_27 : decode cX1_find 27 = .ok (.invokevirtual 70, 3) := dk_182 0 70 (dk_at dksX1_find_1 5 rfl rfl)
theorem dX1_find_30 : decode cX1_find 30 = .ok (.checkcast 89, 3) := dk_192 0 89 (dk_at dksX1_find_1 8 rfl rfl)
theorem dX1_find_33 : decode cX1_find 33 = .ok (.areturn, 1) := dk_176 (dk_at dksX1_find_1 11 rfl rfl)
theorem dX1_find_34 : decode cX1_find 34 = .ok (.iinc 2 1, 3) := dk_132 2 1 (dk_at dksX1_find_1 12 rfl rfl)
theorem dX1_find_37 : decode cX1_find 37 = .ok (.goto (-35), 3) := dk_167 255 221 (dk_at dksX1_find_1 15 rfl rfl)
theorem dX1_find_40 : decode cX1_find 40 = .ok (.new 52, 3) := dk_187 0 52 (dk_at dksX1_find_1 18 rfl rfl)
theorem dX1_find_43 : decode cX1_find 43 = .ok (.dup, 1) := dk_89 (dk_at dksX1_find_1 21 rfl rfl)
theorem dX1_find_44 : decode cX1_find 44 = .ok (.invokespecial 54, 3) := dk_183 0 54 (dk_at dksX1_find_2 0 rfl rfl)
theorem dX1_find_47 : decode cX1_find 47 = .ok (.athrow, 1) := dk_191 (dk_at dksX1_find_2 3 rfl rfl)
abbrev cX1_dropDeed : ByteArray := prog_1_method_45_code
def yX1_dropDeed : MethodName := ⟨RX1, "dropDeed", "(I)I"⟩
def dkwX1_dropDeed_1 : List UInt8 := [44, 182, 1, 28, 87, 42, 45, 181, 0, 21, 45, 180, 1, 12, 182, 0, 58, 172]
abbrev dktX1_dropDeed_1 : List UInt8 := dkwX1_dropDeed_1 ++ []
def dkwX1_dropDeed_0 : List UInt8 := [42, 180, 0, 21, 180, 1, 12, 27, 184, 1, 24, 77, 42, 180, 0, 21, 182, 0, 117, 78, 45, 180, 1, 12]
abbrev dktX1_dropDeed_0 : List UInt8 := dkwX1_dropDeed_0 ++ dktX1_dropDeed_1
theorem dksX1_dropDeed_0 : cX1_dropDeed.data.toList.drop 0 = dktX1_dropDeed_0 := by decide +kernel
theorem dksX1_dropDeed_1 : cX1_dropDeed.data.toList.drop 24 = dktX1_dropDeed_1 := dk_seg dksX1_dropDeed_0 24 rfl rfl
theorem dX1_dropDeed_0 : decode cX1_dropDeed 0 = .ok (.aload_n 0, 1) := dk_42 (dk_at dksX1_dropDeed_0 0 rfl rfl)
theorem dX1_dropDeed_1 : decode cX1_dropDeed 1 = .ok (.getfield 21, 3) := dk_180 0 21 (dk_at dksX1_dropDeed_0 1 rfl rfl)
theorem dX1_dropDeed_4 : decode cX1_dropDeed 4 = .ok (.getfield 268, 3) := dk_180 1 12 (dk_at dksX1_dropDeed_0 4 rfl rfl)
theorem dX1_dropDeed_7 : decode cX1_dropDeed 7 = .ok (.iload_n 1, 1) := dk_27 (dk_at dksX1_dropDeed_0 7 rfl rfl)
theorem dX1_dropDeed_8 : decode cX1_dropDeed 8 = .ok (.invokestatic 280, 3) := dk_184 1 24 (dk_at dksX1_dropDeed_0 8 rfl rfl)
theorem dX1_dropDeed_11 : decode cX1_dropDeed 11 = .ok (.astore_n 2, 1) := dk_77 (dk_at dksX1_dropDeed_0 11 rfl rfl)
theorem dX1_dropDeed_12 : decode cX1_dropDeed 12 = .ok (.aload_n 0, 1) := dk_42 (dk_at dksX1_dropDeed_0 12 rfl rfl)
theorem dX1_dropDeed_13 : decode cX1_dropDeed 13 = .ok (.getfield 21, 3) := dk_180 0 21 (dk_at dksX1_dropDeed_0 13 rfl rfl)
theorem dX1_dropDeed_16 : decode cX1_dropDeed 16 = .ok (.invokevirtual 117, 3) := dk_182 0 117 (dk_at dksX1_dropDeed_0 16 rfl rfl)
theorem dX1_dropDeed_19 : decode cX1_dropDeed 19 = .ok (.astore_n 3, 1) := dk_78 (dk_at dksX1_dropDeed_0 19 rfl rfl)
theorem dX1_dropDeed_20 : decode cX1_dropDeed 20 = .ok (.aload_n 3, 1) := dk_45 (dk_at dksX1_dropDeed_0 20 rfl rfl)
theorem dX1_dropDeed_21 : decode cX1_dropDeed 21 = .ok (.getfield 268, 3) := dk_180 1 12 (dk_at dksX1_dropDeed_0 21 rfl rfl)
theorem dX1_dropDeed_24 : decode cX1_dropDeed 24 = .ok (.aload_n 2, 1) := dk_44 (dk_at dksX1_dropDeed_1 0 rfl rfl)
theorem dX1_dropDeed_25 : decode cX1_dropDeed 25 = .ok (.invokevirtual 284, 3) := dk_182 1 28 (dk_at dksX1_dropDeed_1 1 rfl rfl)
theorem dX1_dropDeed_28 : decode cX1_dropDeed 28 = .ok (.pop, 1) := dk_87 (dk_at dksX1_dropDeed_1 4 rfl rfl)
theorem dX1_dropDeed_29 : decode cX1_dropDeed 29 = .ok (.aload_n 0, 1) := dk_42 (dk_at dksX1_dropDeed_1 5 rfl rfl)
theorem dX1_dropDeed_30 : decode cX1_dropDeed 30 = .ok (.aload_n 3, 1) := dk_45 (dk_at dksX1_dropDeed_1 6 rfl rfl)
theorem dX1_dropDeed_31 : decode cX1_dropDeed 31 = .ok (.putfield 21, 3) := dk_181 0 21 (dk_at dksX1_dropDeed_1 7 rfl rfl)
theorem dX1_dropDeed_34 : decode cX1_dropDeed 34 = .ok (.aload_n 3, 1) := dk_45 (dk_at dksX1_dropDeed_1 10 rfl rfl)
theorem dX1_dropDeed_35 : decode cX1_dropDeed 35 = .ok (.getfield 268, 3) := dk_180 1 12 (dk_at dksX1_dropDeed_1 11 rfl rfl)
theorem dX1_dropDeed_38 : decode cX1_dropDeed 38 = .ok (.invokevirtual 58, 3) := dk_182 0 58 (dk_at dksX1_dropDeed_1 14 rfl rfl)
theorem dX1_dropDeed_41 : decode cX1_dropDeed 41 = .ok (.ireturn, 1) := dk_172 (dk_at dksX1_dropDeed_1 17 rfl rfl)
abbrev cX1_stratum : ByteArray := prog_1_method_46_code
def yX1_stratum : MethodName := ⟨RX1, "stratum", "(I)I"⟩
def dkwX1_stratum_1 : List UInt8 := [183, 0, 102, 191]
abbrev dktX1_stratum_1 : List UInt8 := dkwX1_stratum_1 ++ []
def dkwX1_stratum_0 : List UInt8 := [42, 27, 182, 0, 166, 42, 180, 0, 21, 182, 0, 146, 27, 46, 172, 77, 187, 0, 49, 89, 1, 44]
abbrev dktX1_stratum_0 : List UInt8 := dkwX1_stratum_0 ++ dktX1_stratum_1
theorem dksX1_stratum_0 : cX1_stratum.data.toList.drop 0 = dktX1_stratum_0 := by decide +kernel
theorem dksX1_stratum_1 : cX1_stratum.data.toList.drop 22 = dktX1_stratum_1 := dk_seg dksX1_stratum_0 22 rfl rfl
theorem dX1_stratum_0 : decode cX1_stratum 0 = .ok (.aload_n 0, 1) := dk_42 (dk_at dksX1_stratum_0 0 rfl rfl)
theorem dX1_stratum_1 : decode cX1_stratum 1 = .ok (.iload_n 1, 1) := dk_27 (dk_at dksX1_stratum_0 1 rfl rfl)
theorem dX1_stratum_2 : decode cX1_stratum 2 = .ok (.invokevirtual 166, 3) := dk_182 0 166 (dk_at dksX1_stratum_0 2 rfl rfl)
theorem dX1_stratum_5 : decode cX1_stratum 5 = .ok (.aload_n 0, 1) := dk_42 (dk_at dksX1_stratum_0 5 rfl rfl)
theorem dX1_stratum_6 : decode cX1_stratum 6 = .ok (.getfield 21, 3) := dk_180 0 21 (dk_at dksX1_stratum_0 6 rfl rfl)
theorem dX1_stratum_9 : decode cX1_stratum 9 = .ok (.invokevirtual 146, 3) := dk_182 0 146 (dk_at dksX1_stratum_0 9 rfl rfl)
theorem dX1_stratum_12 : decode cX1_stratum 12 = .ok (.iload_n 1, 1) := dk_27 (dk_at dksX1_stratum_0 12 rfl rfl)
theorem dX1_stratum_13 : decode cX1_stratum 13 = .ok (.iaload, 1) := dk_46 (dk_at dksX1_stratum_0 13 rfl rfl)
theorem dX1_stratum_14 : decode cX1_stratum 14 = .ok (.ireturn, 1) := dk_172 (dk_at dksX1_stratum_0 14 rfl rfl)
theorem dX1_stratum_15 : decode cX1_stratum 15 = .ok (.astore_n 2, 1) := dk_77 (dk_at dksX1_stratum_0 15 rfl rfl)
theorem dX1_stratum_16 : decode cX1_stratum 16 = .ok (.new 49, 3) := dk_187 0 49 (dk_at dksX1_stratum_0 16 rfl rfl)
theorem dX1_stratum_19 : decode cX1_stratum 19 = .ok (.dup, 1) := dk_89 (dk_at dksX1_stratum_0 19 rfl rfl)
theorem dX1_stratum_20 : decode cX1_stratum 20 = .ok (.aconst_null, 1) := dk_1 (dk_at dksX1_stratum_0 20 rfl rfl)
theorem dX1_stratum_21 : decode cX1_stratum 21 = .ok (.aload_n 2, 1) := dk_44 (dk_at dksX1_stratum_0 21 rfl rfl)
theorem dX1_stratum_22 : decode cX1_stratum 22 = .ok (.invokespecial 102, 3) := dk_183 0 102 (dk_at dksX1_stratum_1 0 rfl rfl)
theorem dX1_stratum_25 : decode cX1_stratum 25 = .ok (.athrow, 1) := dk_191 (dk_at dksX1_stratum_1 3 rfl rfl)
abbrev cX1_depth : ByteArray := prog_1_method_51_code
def yX1_depth : MethodName := ⟨RX1, "depth", "(I)I"⟩
def dkwX1_depth_1 : List UInt8 := [167, 0, 12, 42, 182, 1, 63, 180, 1, 66, 28, 46, 172]
abbrev dktX1_depth_1 : List UInt8 := dkwX1_depth_1 ++ []
def dkwX1_depth_0 : List UInt8 := [42, 27, 182, 0, 121, 42, 180, 0, 21, 180, 0, 105, 27, 182, 1, 41, 61, 28, 2, 160, 0, 7, 2]
abbrev dktX1_depth_0 : List UInt8 := dkwX1_depth_0 ++ dktX1_depth_1
theorem dksX1_depth_0 : cX1_depth.data.toList.drop 0 = dktX1_depth_0 := by decide +kernel
theorem dksX1_depth_1 : cX1_depth.data.toList.drop 23 = dktX1_depth_1 := dk_seg dksX1_depth_0 23 rfl rfl
theorem dX1_depth_0 : decode cX1_depth 0 = .ok (.aload_n 0, 1) := dk_42 (dk_at dksX1_depth_0 0 rfl rfl)
theorem dX1_depth_1 : decode cX1_depth 1 = .ok (.iload_n 1, 1) := dk_27 (dk_at dksX1_depth_0 1 rfl rfl)
theorem dX1_depth_2 : decode cX1_depth 2 = .ok (.invokevirtual 121, 3) := dk_182 0 121 (dk_at dksX1_depth_0 2 rfl rfl)
theorem dX1_depth_5 : decode cX1_depth 5 = .ok (.aload_n 0, 1) := dk_42 (dk_at dksX1_depth_0 5 rfl rfl)
theorem dX1_depth_6 : decode cX1_depth 6 = .ok (.getfield 21, 3) := dk_180 0 21 (dk_at dksX1_depth_0 6 rfl rfl)
theorem dX1_depth_9 : decode cX1_depth 9 = .ok (.getfield 105, 3) := dk_180 0 105 (dk_at dksX1_depth_0 9 rfl rfl)
theorem dX1_depth_12 : decode cX1_depth 12 = .ok (.iload_n 1, 1) := dk_27 (dk_at dksX1_depth_0 12 rfl rfl)
theorem dX1_depth_13 : decode cX1_depth 13 = .ok (.invokevirtual 297, 3) := dk_182 1 41 (dk_at dksX1_depth_0 13 rfl rfl)
theorem dX1_depth_16 : decode cX1_depth 16 = .ok (.istore_n 2, 1) := dk_61 (dk_at dksX1_depth_0 16 rfl rfl)
theorem dX1_depth_17 : decode cX1_depth 17 = .ok (.iload_n 2, 1) := dk_28 (dk_at dksX1_depth_0 17 rfl rfl)
theorem dX1_depth_18 : decode cX1_depth 18 = .ok (.iconst (-1), 1) := dk_2 (dk_at dksX1_depth_0 18 rfl rfl)
theorem dX1_depth_19 : decode cX1_depth 19 = .ok (.if_icmp .ne 7, 3) := dk_160 0 7 (dk_at dksX1_depth_0 19 rfl rfl)
theorem dX1_depth_22 : decode cX1_depth 22 = .ok (.iconst (-1), 1) := dk_2 (dk_at dksX1_depth_0 22 rfl rfl)
theorem dX1_depth_23 : decode cX1_depth 23 = .ok (.goto 12, 3) := dk_167 0 12 (dk_at dksX1_depth_1 0 rfl rfl)
theorem dX1_depth_26 : decode cX1_depth 26 = .ok (.aload_n 0, 1) := dk_42 (dk_at dksX1_depth_1 3 rfl rfl)
theorem dX1_depth_27 : decode cX1_depth 27 = .ok (.invokevirtual 319, 3) := dk_182 1 63 (dk_at dksX1_depth_1 4 rfl rfl)
theorem dX1_depth_30 : decode cX1_depth 30 = .ok (.getfield 322, 3) := dk_180 1 66 (dk_at dksX1_depth_1 7 rfl rfl)
theorem dX1_depth_33 : decode cX1_depth 33 = .ok (.iload_n 2, 1) := dk_28 (dk_at dksX1_depth_1 10 rfl rfl)
theorem dX1_depth_34 : decode cX1_depth 34 = .ok (.iaload, 1) := dk_46 (dk_at dksX1_depth_1 11 rfl rfl)
theorem dX1_depth_35 : decode cX1_depth 35 = .ok (.ireturn, 1) := dk_172 (dk_at dksX1_depth_1 12 rfl rfl)
abbrev cX1_reasonsOfNow : ByteArray := prog_1_method_50_code
def yX1_reasonsOfNow : MethodName := ⟨RX1, "reasonsOfNow", "()LRulehearth$Reasons;"⟩
def dkwX1_reasonsOfNow_1 : List UInt8 := [181, 1, 56, 42, 42, 180, 0, 21, 181, 1, 44, 42, 1, 181, 1, 60, 42, 180, 1, 56, 176]
abbrev dktX1_reasonsOfNow_1 : List UInt8 := dkwX1_reasonsOfNow_1 ++ []
def dkwX1_reasonsOfNow_0 : List UInt8 := [42, 180, 1, 44, 42, 180, 0, 21, 165, 0, 31, 42, 187, 1, 47, 89, 42, 183, 1, 49, 182, 1, 52]
abbrev dktX1_reasonsOfNow_0 : List UInt8 := dkwX1_reasonsOfNow_0 ++ dktX1_reasonsOfNow_1
theorem dksX1_reasonsOfNow_0 : cX1_reasonsOfNow.data.toList.drop 0 = dktX1_reasonsOfNow_0 := by decide +kernel
theorem dksX1_reasonsOfNow_1 : cX1_reasonsOfNow.data.toList.drop 23 = dktX1_reasonsOfNow_1 := dk_seg dksX1_reasonsOfNow_0 23 rfl rfl
theorem dX1_reasonsOfNow_0 : decode cX1_reasonsOfNow 0 = .ok (.aload_n 0, 1) := dk_42 (dk_at dksX1_reasonsOfNow_0 0 rfl rfl)
theorem dX1_reasonsOfNow_1 : decode cX1_reasonsOfNow 1 = .ok (.getfield 300, 3) := dk_180 1 44 (dk_at dksX1_reasonsOfNow_0 1 rfl rfl)
theorem dX1_reasonsOfNow_4 : decode cX1_reasonsOfNow 4 = .ok (.aload_n 0, 1) := dk_42 (dk_at dksX1_reasonsOfNow_0 4 rfl rfl)
theorem dX1_reasonsOfNow_5 : decode cX1_reasonsOfNow 5 = .ok (.getfield 21, 3) := dk_180 0 21 (dk_at dksX1_reasonsOfNow_0 5 rfl rfl)
theorem dX1_reasonsOfNow_8 : decode cX1_reasonsOfNow 8 = .ok (.if_acmp .eq 31, 3) := dk_165 0 31 (dk_at dksX1_reasonsOfNow_0 8 rfl rfl)
theorem dX1_reasonsOfNow_11 : decode cX1_reasonsOfNow 11 = .ok (.aload_n 0, 1) := dk_42 (dk_at dksX1_reasonsOfNow_0 11 rfl rfl)
theorem dX1_reasonsOfNow_12 : decode cX1_reasonsOfNow 12 = .ok (.new 303, 3) := dk_187 1 47 (dk_at dksX1_reasonsOfNow_0 12 rfl rfl)
theorem dX1_reasonsOfNow_15 : decode cX1_reasonsOfNow 15 = .ok (.dup, 1) := dk_89 (dk_at dksX1_reasonsOfNow_0 15 rfl rfl)
theorem dX1_reasonsOfNow_16 : decode cX1_reasonsOfNow 16 = .ok (.aload_n 0, 1) := dk_42 (dk_at dksX1_reasonsOfNow_0 16 rfl rfl)
theorem dX1_reasonsOfNow_17 : decode cX1_reasonsOfNow 17 = .ok (.invokespecial 305, 3) := dk_183 1 49 (dk_at dksX1_reasonsOfNow_0 17 rfl rfl)
theorem dX1_reasonsOfNow_20 : decode cX1_reasonsOfNow 20 = .ok (.invokevirtual 308, 3) := dk_182 1 52 (dk_at dksX1_reasonsOfNow_0 20 rfl rfl)
theorem dX1_reasonsOfNow_23 : decode cX1_reasonsOfNow 23 = .ok (.putfield 312, 3) := dk_181 1 56 (dk_at dksX1_reasonsOfNow_1 0 rfl rfl)
theorem dX1_reasonsOfNow_26 : decode cX1_reasonsOfNow 26 = .ok (.aload_n 0, 1) := dk_42 (dk_at dksX1_reasonsOfNow_1 3 rfl rfl)
theorem dX1_reasonsOfNow_27 : decode cX1_reasonsOfNow 27 = .ok (.aload_n 0, 1) := dk_42 (dk_at dksX1_reasonsOfNow_1 4 rfl rfl)
theorem dX1_reasonsOfNow_28 : decode cX1_reasonsOfNow 28 = .ok (.getfield 21, 3) := dk_180 0 21 (dk_at dksX1_reasonsOfNow_1 5 rfl rfl)
theorem dX1_reasonsOfNow_31 : decode cX1_reasonsOfNow 31 = .ok (.putfield 300, 3) := dk_181 1 44 (dk_at dksX1_reasonsOfNow_1 8 rfl rfl)
theorem dX1_reasonsOfNow_34 : decode cX1_reasonsOfNow 34 = .ok (.aload_n 0, 1) := dk_42 (dk_at dksX1_reasonsOfNow_1 11 rfl rfl)
theorem dX1_reasonsOfNow_35 : decode cX1_reasonsOfNow 35 = .ok (.aconst_null, 1) := dk_1 (dk_at dksX1_reasonsOfNow_1 12 rfl rfl)
theorem dX1_reasonsOfNow_36 : decode cX1_reasonsOfNow 36 = .ok (.putfield 316, 3) := dk_181 1 60 (dk_at dksX1_reasonsOfNow_1 13 rfl rfl)
theorem dX1_reasonsOfNow_39 : decode cX1_reasonsOfNow 39 = .ok (.aload_n 0, 1) := dk_42 (dk_at dksX1_reasonsOfNow_1 16 rfl rfl)
theorem dX1_reasonsOfNow_40 : decode cX1_reasonsOfNow 40 = .ok (.getfield 312, 3) := dk_180 1 56 (dk_at dksX1_reasonsOfNow_1 17 rfl rfl)
theorem dX1_reasonsOfNow_43 : decode cX1_reasonsOfNow 43 = .ok (.areturn, 1) := dk_176 (dk_at dksX1_reasonsOfNow_1 20 rfl rfl)
abbrev cX1_matcher : ByteArray := prog_1_method_48_code
def yX1_matcher : MethodName := ⟨RX1, "matcher", "(LRulehearth$Clause;[ILRulehearth$Taker;)LRulehearth$Matcher;"⟩
def dkwX1_matcher_1 : List UInt8 := [183, 1, 38, 176]
abbrev dktX1_matcher_1 : List UInt8 := dkwX1_matcher_1 ++ []
def dkwX1_matcher_0 : List UInt8 := [187, 1, 31, 89, 43, 180, 0, 217, 43, 180, 0, 217, 182, 0, 58, 42, 180, 0, 21, 180, 0, 105, 44, 45]
abbrev dktX1_matcher_0 : List UInt8 := dkwX1_matcher_0 ++ dktX1_matcher_1
theorem dksX1_matcher_0 : cX1_matcher.data.toList.drop 0 = dktX1_matcher_0 := by decide +kernel
theorem dksX1_matcher_1 : cX1_matcher.data.toList.drop 24 = dktX1_matcher_1 := dk_seg dksX1_matcher_0 24 rfl rfl
theorem dX1_matcher_0 : decode cX1_matcher 0 = .ok (.new 287, 3) := dk_187 1 31 (dk_at dksX1_matcher_0 0 rfl rfl)
theorem dX1_matcher_3 : decode cX1_matcher 3 = .ok (.dup, 1) := dk_89 (dk_at dksX1_matcher_0 3 rfl rfl)
theorem dX1_matcher_4 : decode cX1_matcher 4 = .ok (.aload_n 1, 1) := dk_43 (dk_at dksX1_matcher_0 4 rfl rfl)
theorem dX1_matcher_5 : decode cX1_matcher 5 = .ok (.getfield 217, 3) := dk_180 0 217 (dk_at dksX1_matcher_0 5 rfl rfl)
theorem dX1_matcher_8 : decode cX1_matcher 8 = .ok (.aload_n 1, 1) := dk_43 (dk_at dksX1_matcher_0 8 rfl rfl)
theorem dX1_matcher_9 : decode cX1_matcher 9 = .ok (.getfield 217, 3) := dk_180 0 217 (dk_at dksX1_matcher_0 9 rfl rfl)
theorem dX1_matcher_12 : decode cX1_matcher 12 = .ok (.invokevirtual 58, 3) := dk_182 0 58 (dk_at dksX1_matcher_0 12 rfl rfl)
theorem dX1_matcher_15 : decode cX1_matcher 15 = .ok (.aload_n 0, 1) := dk_42 (dk_at dksX1_matcher_0 15 rfl rfl)
theorem dX1_matcher_16 : decode cX1_matcher 16 = .ok (.getfield 21, 3) := dk_180 0 21 (dk_at dksX1_matcher_0 16 rfl rfl)
theorem dX1_matcher_19 : decode cX1_matcher 19 = .ok (.getfield 105, 3) := dk_180 0 105 (dk_at dksX1_matcher_0 19 rfl rfl)
theorem dX1_matcher_22 : decode cX1_matcher 22 = .ok (.aload_n 2, 1) := dk_44 (dk_at dksX1_matcher_0 22 rfl rfl)
theorem dX1_matcher_23 : decode cX1_matcher 23 = .ok (.aload_n 3, 1) := dk_45 (dk_at dksX1_matcher_0 23 rfl rfl)
theorem dX1_matcher_24 : decode cX1_matcher 24 = .ok (.invokespecial 294, 3) := dk_183 1 38 (dk_at dksX1_matcher_1 0 rfl rfl)
theorem dX1_matcher_27 : decode cX1_matcher 27 = .ok (.areturn, 1) := dk_176 (dk_at dksX1_matcher_1 3 rfl rfl)
abbrev cX1_why : ByteArray := prog_1_method_54_code
def yX1_why : MethodName := ⟨RX1, "why", "(I)I"⟩
def dkwX1_why_0 : List UInt8 := [42, 27, 182, 0, 121, 42, 27, 182, 1, 123, 77, 44, 199, 0, 7, 2, 167, 0, 7, 44, 180, 1, 75, 172]
abbrev dktX1_why_0 : List UInt8 := dkwX1_why_0 ++ []
theorem dksX1_why_0 : cX1_why.data.toList.drop 0 = dktX1_why_0 := by decide +kernel
theorem dX1_why_0 : decode cX1_why 0 = .ok (.aload_n 0, 1) := dk_42 (dk_at dksX1_why_0 0 rfl rfl)
theorem dX1_why_1 : decode cX1_why 1 = .ok (.iload_n 1, 1) := dk_27 (dk_at dksX1_why_0 1 rfl rfl)
theorem dX1_why_2 : decode cX1_why 2 = .ok (.invokevirtual 121, 3) := dk_182 0 121 (dk_at dksX1_why_0 2 rfl rfl)
theorem dX1_why_5 : decode cX1_why 5 = .ok (.aload_n 0, 1) := dk_42 (dk_at dksX1_why_0 5 rfl rfl)
theorem dX1_why_6 : decode cX1_why 6 = .ok (.iload_n 1, 1) := dk_27 (dk_at dksX1_why_0 6 rfl rfl)
theorem dX1_why_7 : decode cX1_why 7 = .ok (.invokevirtual 379, 3) := dk_182 1 123 (dk_at dksX1_why_0 7 rfl rfl)
theorem dX1_why_10 : decode cX1_why 10 = .ok (.astore_n 2, 1) := dk_77 (dk_at dksX1_why_0 10 rfl rfl)
theorem dX1_why_11 : decode cX1_why 11 = .ok (.aload_n 2, 1) := dk_44 (dk_at dksX1_why_0 11 rfl rfl)
theorem dX1_why_12 : decode cX1_why 12 = .ok (.ifnonnull 7, 3) := dk_199 0 7 (dk_at dksX1_why_0 12 rfl rfl)
theorem dX1_why_15 : decode cX1_why 15 = .ok (.iconst (-1), 1) := dk_2 (dk_at dksX1_why_0 15 rfl rfl)
theorem dX1_why_16 : decode cX1_why 16 = .ok (.goto 7, 3) := dk_167 0 7 (dk_at dksX1_why_0 16 rfl rfl)
theorem dX1_why_19 : decode cX1_why 19 = .ok (.aload_n 2, 1) := dk_44 (dk_at dksX1_why_0 19 rfl rfl)
theorem dX1_why_20 : decode cX1_why 20 = .ok (.getfield 331, 3) := dk_180 1 75 (dk_at dksX1_why_0 20 rfl rfl)
theorem dX1_why_23 : decode cX1_why 23 = .ok (.ireturn, 1) := dk_172 (dk_at dksX1_why_0 23 rfl rfl)
abbrev cX1_whyOf : ByteArray := prog_1_method_52_code
def yX1_whyOf : MethodName := ⟨RX1, "whyOf", "(I)LRulehearth$Why;"⟩
def dkwX1_whyOf_12 : List UInt8 := [25, 5, 176]
abbrev dktX1_whyOf_12 : List UInt8 := dkwX1_whyOf_12 ++ []
def dkwX1_whyOf_11 : List UInt8 := [132, 9, 1, 167, 255, 195, 132, 7, 1, 167, 255, 64, 42, 25, 5, 181, 1, 60, 42, 27, 181, 1, 69]
abbrev dktX1_whyOf_11 : List UInt8 := dkwX1_whyOf_11 ++ dktX1_whyOf_12
def dkwX1_whyOf_10 : List UInt8 := [180, 1, 95, 44, 180, 0, 159, 21, 9, 46, 79, 25, 5, 89, 180, 1, 95, 4, 96, 181, 1, 95]
abbrev dktX1_whyOf_10 : List UInt8 := dkwX1_whyOf_10 ++ dktX1_whyOf_11
def dkwX1_whyOf_9 : List UInt8 := [21, 7, 50, 29, 47, 21, 9, 123, 10, 127, 10, 148, 154, 0, 32, 25, 5, 180, 1, 92, 25, 5]
abbrev dktX1_whyOf_9 : List UInt8 := dkwX1_whyOf_9 ++ dktX1_whyOf_10
def dkwX1_whyOf_8 : List UInt8 := [180, 0, 91, 181, 1, 75, 3, 54, 9, 21, 9, 44, 180, 0, 109, 162, 0, 58, 25, 4, 180, 1, 82]
abbrev dktX1_whyOf_8 : List UInt8 := dkwX1_whyOf_8 ++ dktX1_whyOf_9
def dkwX1_whyOf_7 : List UInt8 := [180, 1, 82, 21, 7, 50, 29, 47, 20, 1, 86, 127, 182, 1, 88, 21, 6, 160, 0, 80, 25, 5, 25, 8]
abbrev dktX1_whyOf_7 : List UInt8 := dkwX1_whyOf_7 ++ dktX1_whyOf_8
def dkwX1_whyOf_6 : List UInt8 := [167, 0, 119, 25, 4, 180, 1, 82, 21, 7, 50, 29, 47, 9, 148, 153, 0, 104, 25, 4, 25, 4]
abbrev dktX1_whyOf_6 : List UInt8 := dkwX1_whyOf_6 ++ dktX1_whyOf_7
def dkwX1_whyOf_5 : List UInt8 := [25, 8, 180, 0, 208, 2, 160, 0, 19, 42, 25, 8, 27, 21, 6, 25, 4, 25, 5, 182, 1, 78]
abbrev dktX1_whyOf_5 : List UInt8 := dkwX1_whyOf_5 ++ dktX1_whyOf_6
def dkwX1_whyOf_4 : List UInt8 := [17, 3, 232, 160, 0, 167, 42, 180, 0, 21, 180, 1, 18, 21, 7, 182, 0, 70, 192, 0, 89, 58, 8]
abbrev dktX1_whyOf_4 : List UInt8 := dkwX1_whyOf_4 ++ dktX1_whyOf_5
def dkwX1_whyOf_3 : List UInt8 := [42, 180, 0, 21, 180, 1, 18, 182, 0, 58, 162, 0, 183, 21, 6, 158, 0, 178, 25, 5, 180, 1, 75]
abbrev dktX1_whyOf_3 : List UInt8 := dkwX1_whyOf_3 ++ dktX1_whyOf_4
def dkwX1_whyOf_2 : List UInt8 := [176, 187, 1, 72, 89, 183, 1, 74, 58, 5, 25, 4, 180, 1, 66, 29, 46, 54, 6, 3, 54, 7, 21, 7]
abbrev dktX1_whyOf_2 : List UInt8 := dkwX1_whyOf_2 ++ dktX1_whyOf_3
def dkwX1_whyOf_1 : List UInt8 := [182, 1, 63, 58, 4, 42, 180, 1, 60, 198, 0, 16, 42, 180, 1, 69, 27, 160, 0, 8, 42, 180, 1, 60]
abbrev dktX1_whyOf_1 : List UInt8 := dkwX1_whyOf_1 ++ dktX1_whyOf_2
def dkwX1_whyOf_0 : List UInt8 := [42, 180, 0, 21, 180, 0, 105, 77, 44, 27, 182, 1, 41, 62, 29, 2, 160, 0, 5, 1, 176, 42]
abbrev dktX1_whyOf_0 : List UInt8 := dkwX1_whyOf_0 ++ dktX1_whyOf_1
theorem dksX1_whyOf_0 : cX1_whyOf.data.toList.drop 0 = dktX1_whyOf_0 := by decide +kernel
theorem dksX1_whyOf_1 : cX1_whyOf.data.toList.drop 22 = dktX1_whyOf_1 := dk_seg dksX1_whyOf_0 22 rfl rfl
theorem dksX1_whyOf_2 : cX1_whyOf.data.toList.drop 46 = dktX1_whyOf_2 := dk_seg dksX1_whyOf_1 24 rfl rfl
theorem dksX1_whyOf_3 : cX1_whyOf.data.toList.drop 70 = dktX1_whyOf_3 := dk_seg dksX1_whyOf_2 24 rfl rfl
theorem dksX1_whyOf_4 : cX1_whyOf.data.toList.drop 93 = dktX1_whyOf_4 := dk_seg dksX1_whyOf_3 23 rfl rfl
theorem dksX1_whyOf_5 : cX1_whyOf.data.toList.drop 116 = dktX1_whyOf_5 := dk_seg dksX1_whyOf_4 23 rfl rfl
theorem dksX1_whyOf_6 : cX1_whyOf.data.toList.drop 138 = dktX1_whyOf_6 := dk_seg dksX1_whyOf_5 22 rfl rfl
theorem dksX1_whyOf_7 : cX1_whyOf.data.toList.drop 160 = dktX1_whyOf_7 := dk_seg dksX1_whyOf_6 22 rfl rfl
theorem dksX1_whyOf_8 : cX1_whyOf.data.toList.drop 184 = dktX1_whyOf_8 := dk_seg dksX1_whyOf_7 24 rfl rfl
theorem dksX1_whyOf_9 : cX1_whyOf.data.toList.drop 207 = dktX1_whyOf_9 := dk_seg dksX1_whyOf_8 23 rfl rfl
theorem dksX1_whyOf_10 : cX1_whyOf.data.toList.drop 229 = dktX1_whyOf_10 := dk_seg dksX1_whyOf_9 22 rfl rfl
theorem dksX1_whyOf_11 : cX1_whyOf.data.toList.drop 251 = dktX1_whyOf_11 := dk_seg dksX1_whyOf_10 22 rfl rfl
theorem dksX1_whyOf_12 : cX1_whyOf.data.toList.drop 274 = dktX1_whyOf_12 := dk_seg dksX1_whyOf_11 23 rfl rfl
theorem dX1_whyOf_0 : decode cX1_whyOf 0 = .ok (.aload_n 0, 1) := dk_42 (dk_at dksX1_whyOf_0 0 rfl rfl)
theorem dX1_whyOf_1 : decode cX1_whyOf 1 = .ok (.getfield 21, 3) := dk_180 0 21 (dk_at dksX1_whyOf_0 1 rfl rfl)
theorem dX1_whyOf_4 : decode cX1_whyOf 4 = .ok (.getfield 105, 3) := dk_180 0 105 (dk_at dksX1_whyOf_0 4 rfl rfl)
theorem dX1_whyOf_7 : decode cX1_whyOf 7 = .ok (.astore_n 2, 1) := dk_77 (dk_at dksX1_whyOf_0 7 rfl rfl)
theorem dX1_whyOf_8 : decode cX1_whyOf 8 = .ok (.aload_n 2, 1) := dk_44 (dk_at dksX1_whyOf_0 8 rfl rfl)
theorem dX1_whyOf_9 : decode cX1_whyOf 9 = .ok (.iload_n 1, 1) := dk_27 (dk_at dksX1_whyOf_0 9 rfl rfl)
theorem dX1_whyOf_10 : decode cX1_whyOf 10 = .ok (.invokevirtual 297, 3) := dk_182 1 41 (dk_at dksX1_whyOf_0 10 rfl rfl)
theorem dX1_whyOf_13 : decode cX1_whyOf 13 = .ok (.istore_n 3, 1) := dk_62 (dk_at dksX1_whyOf_0 13 rfl rfl)
theorem dX1_whyOf_14 : decode cX1_whyOf 14 = .ok (.iload_n 3, 1) := dk_29 (dk_at dksX1_whyOf_0 14 rfl rfl)
theorem dX1_whyOf_15 : decode cX1_whyOf 15 = .ok (.iconst (-1), 1) := dk_2 (dk_at dksX1_whyOf_0 15 rfl rfl)
theorem dX1_whyOf_16 : decode cX1_whyOf 16 = .ok (.if_icmp .ne 5, 3) := dk_160 0 5 (dk_at dksX1_whyOf_0 16 rfl rfl)
theorem dX1_whyOf_19 : decode cX1_whyOf 19 = .ok (.aconst_null, 1) := dk_1 (dk_at dksX1_whyOf_0 19 rfl rfl)
theorem dX1_whyOf_20 : decode cX1_whyOf 20 = .ok (.areturn, 1) := dk_176 (dk_at dksX1_whyOf_0 20 rfl rfl)
theorem dX1_whyOf_21 : decode cX1_whyOf 21 = .ok (.aload_n 0, 1) := dk_42 (dk_at dksX1_whyOf_0 21 rfl rfl)
theorem dX1_whyOf_22 : decode cX1_whyOf 22 = .ok (.invokevirtual 319, 3) := dk_182 1 63 (dk_at dksX1_whyOf_1 0 rfl rfl)
theorem dX1_whyOf_25 : decode cX1_whyOf 25 = .ok (.astore 4, 2) := dk_58 4 (dk_at dksX1_whyOf_1 3 rfl rfl)
theorem dX1_whyOf_27 : decode cX1_whyOf 27 = .ok (.aload_n 0, 1) := dk_42 (dk_at dksX1_whyOf_1 5 rfl rfl)
theorem dX1_whyOf_28 : decode cX1_whyOf 28 = .ok (.getfield 316, 3) := dk_180 1 60 (dk_at dksX1_whyOf_1 6 rfl rfl)
theorem dX1_whyOf_31 : decode cX1_whyOf 31 = .ok (.ifnull 16, 3) := dk_198 0 16 (dk_at dksX1_whyOf_1 9 rfl rfl)
theorem dX1_whyOf_34 : decode cX1_whyOf 34 = .ok (.aload_n 0, 1) := dk_42 (dk_at dksX1_whyOf_1 12 rfl rfl)
theorem dX1_whyOf_35 : decode cX1_whyOf 35 = .ok (.getfield 325, 3) := dk_180 1 69 (dk_at dksX1_whyOf_1 13 rfl rfl)
theorem dX1_whyOf_38 : decode cX1_whyOf 38 = .ok (.iload_n 1, 1) := dk_27 (dk_at dksX1_whyOf_1 16 rfl rfl)
theorem dX1_whyOf_39 : decode cX1_whyOf 39 = .ok (.if_icmp .ne 8, 3) := dk_160 0 8 (dk_at dksX1_whyOf_1 17 rfl rfl)
theorem dX1_whyOf_42 : decode cX1_whyOf 42 = .ok (.aload_n 0, 1) := dk_42 (dk_at dksX1_whyOf_1 20 rfl rfl)
theorem dX1_whyOf_43 : decode cX1_whyOf 43 = .ok (.getfield 316, 3) := dk_180 1 60 (dk_at dksX1_whyOf_1 21 rfl rfl)
theorem dX1_whyOf_46 : decode cX1_whyOf 46 = .ok (.areturn, 1) := dk_176 (dk_at dksX1_whyOf_2 0 rfl rfl)
theorem dX1_whyOf_47 : decode cX1_whyOf 47 = .ok (.new 328, 3) := dk_187 1 72 (dk_at dksX1_whyOf_2 1 rfl rfl)
theorem dX1_whyOf_50 : decode cX1_whyOf 50 = .ok (.dup, 1) := dk_89 (dk_at dksX1_whyOf_2 4 rfl rfl)
theorem dX1_whyOf_51 : decode cX1_whyOf 51 = .ok (.invokespecial 330, 3) := dk_183 1 74 (dk_at dksX1_whyOf_2 5 rfl rfl)
theorem dX1_whyOf_54 : decode cX1_whyOf 54 = .ok (.astore 5, 2) := dk_58 5 (dk_at dksX1_whyOf_2 8 rfl rfl)
theorem dX1_whyOf_56 : decode cX1_whyOf 56 = .ok (.aload 4, 2) := dk_25 4 (dk_at dksX1_whyOf_2 10 rfl rfl)
theorem dX1_whyOf_58 : decode cX1_whyOf 58 = .ok (.getfield 322, 3) := dk_180 1 66 (dk_at dksX1_whyOf_2 12 rfl rfl)
theorem dX1_whyOf_61 : decode cX1_whyOf 61 = .ok (.iload_n 3, 1) := dk_29 (dk_at dksX1_whyOf_2 15 rfl rfl)
theorem dX1_whyOf_62 : decode cX1_whyOf 62 = .ok (.iaload, 1) := dk_46 (dk_at dksX1_whyOf_2 16 rfl rfl)
theorem dX1_whyOf_63 : decode cX1_whyOf 63 = .ok (.istore 6, 2) := dk_54 6 (dk_at dksX1_whyOf_2 17 rfl rfl)
theorem dX1_whyOf_65 : decode cX1_whyOf 65 = .ok (.iconst 0, 1) := dk_3 (dk_at dksX1_whyOf_2 19 rfl rfl)
theorem dX1_whyOf_66 : decode cX1_whyOf 66 = .ok (.istore 7, 2) := dk_54 7 (dk_at dksX1_whyOf_2 20 rfl rfl)
theorem dX1_whyOf_68 : decode cX1_whyOf 68 = .ok (.iload 7, 2) := dk_21 7 (dk_at dksX1_whyOf_2 22 rfl rfl)
theorem dX1_whyOf_70 : decode cX1_whyOf 70 = .ok (.aload_n 0, 1) := dk_42 (dk_at dksX1_whyOf_3 0 rfl rfl)
theorem dX1_whyOf_71 : decode cX1_whyOf 71 = .ok (.getfield 21, 3) := dk_180 0 21 (dk_at dksX1_whyOf_3 1 rfl rfl)
theorem dX1_whyOf_74 : decode cX1_whyOf 74 = .ok (.getfield 274, 3) := dk_180 1 18 (dk_at dksX1_whyOf_3 4 rfl rfl)
theorem dX1_whyOf_77 : decode cX1_whyOf 77 = .ok (.invokevirtual 58, 3) := dk_182 0 58 (dk_at dksX1_whyOf_3 7 rfl rfl)
theorem dX1_whyOf_80 : decode cX1_whyOf 80 = .ok (.if_icmp .ge 183, 3) := dk_162 0 183 (dk_at dksX1_whyOf_3 10 rfl rfl)
theorem dX1_whyOf_83 : decode cX1_whyOf 83 = .ok (.iload 6, 2) := dk_21 6 (dk_at dksX1_whyOf_3 13 rfl rfl)
theorem dX1_whyOf_85 : decode cX1_whyOf 85 = .ok (.ifCond .le 178, 3) := dk_158 0 178 (dk_at dksX1_whyOf_3 15 rfl rfl)
theorem dX1_whyOf_88 : decode cX1_whyOf 88 = .ok (.aload 5, 2) := dk_25 5 (dk_at dksX1_whyOf_3 18 rfl rfl)
theorem dX1_whyOf_90 : decode cX1_whyOf 90 = .ok (.getfield 331, 3) := dk_180 1 75 (dk_at dksX1_whyOf_3 20 rfl rfl)
theorem dX1_whyOf_93 : decode cX1_whyOf 93 = .ok (.sipush 1000, 3) := dk_17 3 232 (dk_at dksX1_whyOf_4 0 rfl rfl)
theorem dX1_whyOf_96 : decode cX1_whyOf 96 = .ok (.if_icmp .ne 167, 3) := dk_160 0 167 (dk_at dksX1_whyOf_4 3 rfl rfl)
theorem dX1_whyOf_99 : decode cX1_whyOf 99 = .ok (.aload_n 0, 1) := dk_42 (dk_at dksX1_whyOf_4 6 rfl rfl)
theorem dX1_whyOf_100 : decode cX1_whyOf 100 = .ok (.getfield 21, 3) := dk_180 0 21 (dk_at dksX1_whyOf_4 7 rfl rfl)
theorem dX1_whyOf_103 : decode cX1_whyOf 103 = .ok (.getfield 274, 3) := dk_180 1 18 (dk_at dksX1_whyOf_4 10 rfl rfl)
theorem dX1_whyOf_106 : decode cX1_whyOf 106 = .ok (.iload 7, 2) := dk_21 7 (dk_at dksX1_whyOf_4 13 rfl rfl)
theorem dX1_whyOf_108 : decode cX1_whyOf 108 = .ok (.invokevirtual 70, 3) := dk_182 0 70 (dk_at dksX1_whyOf_4 15 rfl rfl)
theorem dX1_whyOf_111 : decode cX1_whyOf 111 = .ok (.checkcast 89, 3) := dk_192 0 89 (dk_at dksX1_whyOf_4 18 rfl rfl)
theorem dX1_whyOf_114 : decode cX1_whyOf 114 = .ok (.astore 8, 2) := dk_58 8 (dk_at dksX1_whyOf_4 21 rfl rfl)
theorem dX1_whyOf_116 : decode cX1_whyOf 116 = .ok (.aload 8, 2) := dk_25 8 (dk_at dksX1_whyOf_5 0 rfl rfl)
theorem dX1_whyOf_118 : decode cX1_whyOf 118 = .ok (.getfield 208, 3) := dk_180 0 208 (dk_at dksX1_whyOf_5 2 rfl rfl)
theorem dX1_whyOf_121 : decode cX1_whyOf 121 = .ok (.iconst (-1), 1) := dk_2 (dk_at dksX1_whyOf_5 5 rfl rfl)
theorem dX1_whyOf_122 : decode cX1_whyOf 122 = .ok (.if_icmp .ne 19, 3) := dk_160 0 19 (dk_at dksX1_whyOf_5 6 rfl rfl)
theorem dX1_whyOf_125 : decode cX1_whyOf 125 = .ok (.aload_n 0, 1) := dk_42 (dk_at dksX1_whyOf_5 9 rfl rfl)
theorem dX1_whyOf_126 : decode cX1_whyOf 126 = .ok (.aload 8, 2) := dk_25 8 (dk_at dksX1_whyOf_5 10 rfl rfl)
theorem dX1_whyOf_128 : decode cX1_whyOf 128 = .ok (.iload_n 1, 1) := dk_27 (dk_at dksX1_whyOf_5 12 rfl rfl)
theorem dX1_whyOf_129 : decode cX1_whyOf 129 = .ok (.iload 6, 2) := dk_21 6 (dk_at dksX1_whyOf_5 13 rfl rfl)
theorem dX1_whyOf_131 : decode cX1_whyOf 131 = .ok (.aload 4, 2) := dk_25 4 (dk_at dksX1_whyOf_5 15 rfl rfl)
theorem dX1_whyOf_133 : decode cX1_whyOf 133 = .ok (.aload 5, 2) := dk_25 5 (dk_at dksX1_whyOf_5 17 rfl rfl)
theorem dX1_whyOf_135 : decode cX1_whyOf 135 = .ok (.invokevirtual 334, 3) := dk_182 1 78 (dk_at dksX1_whyOf_5 19 rfl rfl)
theorem dX1_whyOf_138 : decode cX1_whyOf 138 = .ok (.goto 119, 3) := dk_167 0 119 (dk_at dksX1_whyOf_6 0 rfl rfl)
theorem dX1_whyOf_141 : decode cX1_whyOf 141 = .ok (.aload 4, 2) := dk_25 4 (dk_at dksX1_whyOf_6 3 rfl rfl)
theorem dX1_whyOf_143 : decode cX1_whyOf 143 = .ok (.getfield 338, 3) := dk_180 1 82 (dk_at dksX1_whyOf_6 5 rfl rfl)
theorem dX1_whyOf_146 : decode cX1_whyOf 146 = .ok (.iload 7, 2) := dk_21 7 (dk_at dksX1_whyOf_6 8 rfl rfl)
theorem dX1_whyOf_148 : decode cX1_whyOf 148 = .ok (.aaload, 1) := dk_50 (dk_at dksX1_whyOf_6 10 rfl rfl)
theorem dX1_whyOf_149 : decode cX1_whyOf 149 = .ok (.iload_n 3, 1) := dk_29 (dk_at dksX1_whyOf_6 11 rfl rfl)
theorem dX1_whyOf_150 : decode cX1_whyOf 150 = .ok (.laload, 1) := dk_47 (dk_at dksX1_whyOf_6 12 rfl rfl)
theorem dX1_whyOf_151 : decode cX1_whyOf 151 = .ok (.lconst 0, 1) := dk_9 (dk_at dksX1_whyOf_6 13 rfl rfl)
theorem dX1_whyOf_152 : decode cX1_whyOf 152 = .ok (.lcmp, 1) := dk_148 (dk_at dksX1_whyOf_6 14 rfl rfl)
theorem dX1_whyOf_153 : decode cX1_whyOf 153 = .ok (.ifCond .eq 104, 3) := dk_153 0 104 (dk_at dksX1_whyOf_6 15 rfl rfl)
theorem dX1_whyOf_156 : decode cX1_whyOf 156 = .ok (.aload 4, 2) := dk_25 4 (dk_at dksX1_whyOf_6 18 rfl rfl)
theorem dX1_whyOf_158 : decode cX1_whyOf 158 = .ok (.aload 4, 2) := dk_25 4 (dk_at dksX1_whyOf_6 20 rfl rfl)
theorem dX1_whyOf_160 : decode cX1_whyOf 160 = .ok (.getfield 338, 3) := dk_180 1 82 (dk_at dksX1_whyOf_7 0 rfl rfl)
theorem dX1_whyOf_163 : decode cX1_whyOf 163 = .ok (.iload 7, 2) := dk_21 7 (dk_at dksX1_whyOf_7 3 rfl rfl)
theorem dX1_whyOf_165 : decode cX1_whyOf 165 = .ok (.aaload, 1) := dk_50 (dk_at dksX1_whyOf_7 5 rfl rfl)
theorem dX1_whyOf_166 : decode cX1_whyOf 166 = .ok (.iload_n 3, 1) := dk_29 (dk_at dksX1_whyOf_7 6 rfl rfl)
theorem dX1_whyOf_167 : decode cX1_whyOf 167 = .ok (.laload, 1) := dk_47 (dk_at dksX1_whyOf_7 7 rfl rfl)
theorem dX1_whyOf_168 : decode cX1_whyOf 168 = .ok (.ldc2_w 342, 3) := dk_20 1 86 (dk_at dksX1_whyOf_7 8 rfl rfl)
theorem dX1_whyOf_171 : decode cX1_whyOf 171 = .ok (.land, 1) := dk_127 (dk_at dksX1_whyOf_7 11 rfl rfl)
theorem dX1_whyOf_172 : decode cX1_whyOf 172 = .ok (.invokevirtual 344, 3) := dk_182 1 88 (dk_at dksX1_whyOf_7 12 rfl rfl)
theorem dX1_whyOf_175 : decode cX1_whyOf 175 = .ok (.iload 6, 2) := dk_21 6 (dk_at dksX1_whyOf_7 15 rfl rfl)
theorem dX1_whyOf_177 : decode cX1_whyOf 177 = .ok (.if_icmp .ne 80, 3) := dk_160 0 80 (dk_at dksX1_whyOf_7 17 rfl rfl)
theorem dX1_whyOf_180 : decode cX1_whyOf 180 = .ok (.aload 5, 2) := dk_25 5 (dk_at dksX1_whyOf_7 20 rfl rfl)
theorem dX1_whyOf_182 : decode cX1_whyOf 182 = .ok (.aload 8, 2) := dk_25 8 (dk_at dksX1_whyOf_7 22 rfl rfl)
theorem dX1_whyOf_184 : decode cX1_whyOf 184 = .ok (.getfield 91, 3) := dk_180 0 91 (dk_at dksX1_whyOf_8 0 rfl rfl)
theorem dX1_whyOf_187 : decode cX1_whyOf 187 = .ok (.putfield 331, 3) := dk_181 1 75 (dk_at dksX1_whyOf_8 3 rfl rfl)
theorem dX1_whyOf_190 : decode cX1_whyOf 190 = .ok (.iconst 0, 1) := dk_3 (dk_at dksX1_whyOf_8 6 rfl rfl)
theorem dX1_whyOf_191 : decode cX1_whyOf 191 = .ok (.istore 9, 2) := dk_54 9 (dk_at dksX1_whyOf_8 7 rfl rfl)
theorem dX1_whyOf_193 : decode cX1_whyOf 193 = .ok (.iload 9, 2) := dk_21 9 (dk_at dksX1_whyOf_8 9 rfl rfl)
theorem dX1_whyOf_195 : decode cX1_whyOf 195 = .ok (.aload_n 2, 1) := dk_44 (dk_at dksX1_whyOf_8 11 rfl rfl)
theorem dX1_whyOf_196 : decode cX1_whyOf 196 = .ok (.getfield 109, 3) := dk_180 0 109 (dk_at dksX1_whyOf_8 12 rfl rfl)
theorem dX1_whyOf_199 : decode cX1_whyOf 199 = .ok (.if_icmp .ge 58, 3) := dk_162 0 58 (dk_at dksX1_whyOf_8 15 rfl rfl)
theorem dX1_whyOf_202 : decode cX1_whyOf 202 = .ok (.aload 4, 2) := dk_25 4 (dk_at dksX1_whyOf_8 18 rfl rfl)
theorem dX1_whyOf_204 : decode cX1_whyOf 204 = .ok (.getfield 338, 3) := dk_180 1 82 (dk_at dksX1_whyOf_8 20 rfl rfl)
theorem dX1_whyOf_207 : decode cX1_whyOf 207 = .ok (.iload 7, 2) := dk_21 7 (dk_at dksX1_whyOf_9 0 rfl rfl)
theorem dX1_whyOf_209 : decode cX1_whyOf 209 = .ok (.aaload, 1) := dk_50 (dk_at dksX1_whyOf_9 2 rfl rfl)
theorem dX1_whyOf_210 : decode cX1_whyOf 210 = .ok (.iload_n 3, 1) := dk_29 (dk_at dksX1_whyOf_9 3 rfl rfl)
theorem dX1_whyOf_211 : decode cX1_whyOf 211 = .ok (.laload, 1) := dk_47 (dk_at dksX1_whyOf_9 4 rfl rfl)
theorem dX1_whyOf_212 : decode cX1_whyOf 212 = .ok (.iload 9, 2) := dk_21 9 (dk_at dksX1_whyOf_9 5 rfl rfl)
theorem dX1_whyOf_214 : decode cX1_whyOf 214 = .ok (.lshr, 1) := dk_123 (dk_at dksX1_whyOf_9 7 rfl rfl)
theorem dX1_whyOf_215 : decode cX1_whyOf 215 = .ok (.lconst 1, 1) := dk_10 (dk_at dksX1_whyOf_9 8 rfl rfl)
theorem dX1_whyOf_216 : decode cX1_whyOf 216 = .ok (.land, 1) := dk_127 (dk_at dksX1_whyOf_9 9 rfl rfl)
theorem dX1_whyOf_217 : decode cX1_whyOf 217 = .ok (.lconst 1, 1) := dk_10 (dk_at dksX1_whyOf_9 10 rfl rfl)
theorem dX1_whyOf_218 : decode cX1_whyOf 218 = .ok (.lcmp, 1) := dk_148 (dk_at dksX1_whyOf_9 11 rfl rfl)
theorem dX1_whyOf_219 : decode cX1_whyOf 219 = .ok (.ifCond .ne 32, 3) := dk_154 0 32 (dk_at dksX1_whyOf_9 12 rfl rfl)
theorem dX1_whyOf_222 : decode cX1_whyOf 222 = .ok (.aload 5, 2) := dk_25 5 (dk_at dksX1_whyOf_9 15 rfl rfl)
theorem dX1_whyOf_224 : decode cX1_whyOf 224 = .ok (.getfield 348, 3) := dk_180 1 92 (dk_at dksX1_whyOf_9 17 rfl rfl)
theorem dX1_whyOf_227 : decode cX1_whyOf 227 = .ok (.aload 5, 2) := dk_25 5 (dk_at dksX1_whyOf_9 20 rfl rfl)
theorem dX1_whyOf_229 : decode cX1_whyOf 229 = .ok (.getfield 351, 3) := dk_180 1 95 (dk_at dksX1_whyOf_10 0 rfl rfl)
theorem dX1_whyOf_232 : decode cX1_whyOf 232 = .ok (.aload_n 2, 1) := dk_44 (dk_at dksX1_whyOf_10 3 rfl rfl)
theorem dX1_whyOf_233 : decode cX1_whyOf 233 = .ok (.getfield 159, 3) := dk_180 0 159 (dk_at dksX1_whyOf_10 4 rfl rfl)
theorem dX1_whyOf_236 : decode cX1_whyOf 236 = .ok (.iload 9, 2) := dk_21 9 (dk_at dksX1_whyOf_10 7 rfl rfl)
theorem dX1_whyOf_238 : decode cX1_whyOf 238 = .ok (.iaload, 1) := dk_46 (dk_at dksX1_whyOf_10 9 rfl rfl)
theorem dX1_whyOf_239 : decode cX1_whyOf 239 = .ok (.iastore, 1) := dk_79 (dk_at dksX1_whyOf_10 10 rfl rfl)
theorem dX1_whyOf_240 : decode cX1_whyOf 240 = .ok (.aload 5, 2) := dk_25 5 (dk_at dksX1_whyOf_10 11 rfl rfl)
theorem dX1_whyOf_242 : decode cX1_whyOf 242 = .ok (.dup, 1) := dk_89 (dk_at dksX1_whyOf_10 13 rfl rfl)
theorem dX1_whyOf_243 : decode cX1_whyOf 243 = .ok (.getfield 351, 3) := dk_180 1 95 (dk_at dksX1_whyOf_10 14 rfl rfl)
theorem dX1_whyOf_246 : decode cX1_whyOf 246 = .ok (.iconst 1, 1) := dk_4 (dk_at dksX1_whyOf_10 17 rfl rfl)
theorem dX1_whyOf_247 : decode cX1_whyOf 247 = .ok (.iadd, 1) := dk_96 (dk_at dksX1_whyOf_10 18 rfl rfl)
theorem dX1_whyOf_248 : decode cX1_whyOf 248 = .ok (.putfield 351, 3) := dk_181 1 95 (dk_at dksX1_whyOf_10 19 rfl rfl)
theorem dX1_whyOf_251 : decode cX1_whyOf 251 = .ok (.iinc 9 1, 3) := dk_132 9 1 (dk_at dksX1_whyOf_11 0 rfl rfl)
theorem dX1_whyOf_254 : decode cX1_whyOf 254 = .ok (.goto (-61), 3) := dk_167 255 195 (dk_at dksX1_whyOf_11 3 rfl rfl)
theorem dX1_whyOf_257 : decode cX1_whyOf 257 = .ok (.iinc 7 1, 3) := dk_132 7 1 (dk_at dksX1_whyOf_11 6 rfl rfl)
theorem dX1_whyOf_260 : decode cX1_whyOf 260 = .ok (.goto (-192), 3) := dk_167 255 64 (dk_at dksX1_whyOf_11 9 rfl rfl)
theorem dX1_whyOf_263 : decode cX1_whyOf 263 = .ok (.aload_n 0, 1) := dk_42 (dk_at dksX1_whyOf_11 12 rfl rfl)
theorem dX1_whyOf_264 : decode cX1_whyOf 264 = .ok (.aload 5, 2) := dk_25 5 (dk_at dksX1_whyOf_11 13 rfl rfl)
theorem dX1_whyOf_266 : decode cX1_whyOf 266 = .ok (.putfield 316, 3) := dk_181 1 60 (dk_at dksX1_whyOf_11 15 rfl rfl)
theorem dX1_whyOf_269 : decode cX1_whyOf 269 = .ok (.aload_n 0, 1) := dk_42 (dk_at dksX1_whyOf_11 18 rfl rfl)
theorem dX1_whyOf_270 : decode cX1_whyOf 270 = .ok (.iload_n 1, 1) := dk_27 (dk_at dksX1_whyOf_11 19 rfl rfl)
theorem dX1_whyOf_271 : decode cX1_whyOf 271 = .ok (.putfield 325, 3) := dk_181 1 69 (dk_at dksX1_whyOf_11 20 rfl rfl)
theorem dX1_whyOf_274 : decode cX1_whyOf 274 = .ok (.aload 5, 2) := dk_25 5 (dk_at dksX1_whyOf_12 0 rfl rfl)
theorem dX1_whyOf_276 : decode cX1_whyOf 276 = .ok (.areturn, 1) := dk_176 (dk_at dksX1_whyOf_12 2 rfl rfl)
abbrev cX1_firstOf : ByteArray := prog_1_method_53_code
def yX1_firstOf : MethodName := ⟨RX1, "firstOf", "(LRulehearth$Clause;IILRulehearth$Reasons;LRulehearth$Why;)V"⟩
def dkwX1_firstOf_3 : List UInt8 := [182, 0, 223, 181, 1, 95, 25, 7, 180, 1, 116, 3, 25, 5, 180, 1, 92, 3, 6, 184, 1, 117, 177]
abbrev dktX1_firstOf_3 : List UInt8 := dkwX1_firstOf_3 ++ []
def dkwX1_firstOf_2 : List UInt8 := [184, 1, 112, 87, 25, 7, 180, 1, 116, 198, 0, 37, 25, 5, 43, 180, 0, 91, 181, 1, 75, 25, 5, 43]
abbrev dktX1_firstOf_2 : List UInt8 := dkwX1_firstOf_2 ++ dktX1_firstOf_3
def dkwX1_firstOf_1 : List UInt8 := [183, 1, 101, 58, 7, 43, 28, 25, 6, 182, 1, 104, 153, 0, 16, 42, 43, 25, 6, 25, 7, 182, 1, 108]
abbrev dktX1_firstOf_1 : List UInt8 := dkwX1_firstOf_1 ++ dktX1_firstOf_2
def dkwX1_firstOf_0 : List UInt8 := [184, 1, 96, 58, 6, 187, 1, 99, 89, 25, 4, 42, 180, 0, 21, 180, 0, 105, 43, 182, 0, 223, 29]
abbrev dktX1_firstOf_0 : List UInt8 := dkwX1_firstOf_0 ++ dktX1_firstOf_1
theorem dksX1_firstOf_0 : cX1_firstOf.data.toList.drop 0 = dktX1_firstOf_0 := by decide +kernel
theorem dksX1_firstOf_1 : cX1_firstOf.data.toList.drop 23 = dktX1_firstOf_1 := dk_seg dksX1_firstOf_0 23 rfl rfl
theorem dksX1_firstOf_2 : cX1_firstOf.data.toList.drop 47 = dktX1_firstOf_2 := dk_seg dksX1_firstOf_1 24 rfl rfl
theorem dksX1_firstOf_3 : cX1_firstOf.data.toList.drop 71 = dktX1_firstOf_3 := dk_seg dksX1_firstOf_2 24 rfl rfl
theorem dX1_firstOf_0 : decode cX1_firstOf 0 = .ok (.invokestatic 352, 3) := dk_184 1 96 (dk_at dksX1_firstOf_0 0 rfl rfl)
theorem dX1_firstOf_3 : decode cX1_firstOf 3 = .ok (.astore 6, 2) := dk_58 6 (dk_at dksX1_firstOf_0 3 rfl rfl)
theorem dX1_firstOf_5 : decode cX1_firstOf 5 = .ok (.new 355, 3) := dk_187 1 99 (dk_at dksX1_firstOf_0 5 rfl rfl)
theorem dX1_firstOf_8 : decode cX1_firstOf 8 = .ok (.dup, 1) := dk_89 (dk_at dksX1_firstOf_0 8 rfl rfl)
theorem dX1_firstOf_9 : decode cX1_firstOf 9 = .ok (.aload 4, 2) := dk_25 4 (dk_at dksX1_firstOf_0 9 rfl rfl)
theorem dX1_firstOf_11 : decode cX1_firstOf 11 = .ok (.aload_n 0, 1) := dk_42 (dk_at dksX1_firstOf_0 11 rfl rfl)
theorem dX1_firstOf_12 : decode cX1_firstOf 12 = .ok (.getfield 21, 3) := dk_180 0 21 (dk_at dksX1_firstOf_0 12 rfl rfl)
theorem dX1_firstOf_15 : decode cX1_firstOf 15 = .ok (.getfield 105, 3) := dk_180 0 105 (dk_at dksX1_firstOf_0 15 rfl rfl)
theorem dX1_firstOf_18 : decode cX1_firstOf 18 = .ok (.aload_n 1, 1) := dk_43 (dk_at dksX1_firstOf_0 18 rfl rfl)
theorem dX1_firstOf_19 : decode cX1_firstOf 19 = .ok (.invokevirtual 223, 3) := dk_182 0 223 (dk_at dksX1_firstOf_0 19 rfl rfl)
theorem dX1_firstOf_22 : decode cX1_firstOf 22 = .ok (.iload_n 3, 1) := dk_29 (dk_at dksX1_firstOf_0 22 rfl rfl)
theorem dX1_firstOf_23 : decode cX1_firstOf 23 = .ok (.invokespecial 357, 3) := dk_183 1 101 (dk_at dksX1_firstOf_1 0 rfl rfl)
theorem dX1_firstOf_26 : decode cX1_firstOf 26 = .ok (.astore 7, 2) := dk_58 7 (dk_at dksX1_firstOf_1 3 rfl rfl)
theorem dX1_firstOf_28 : decode cX1_firstOf 28 = .ok (.aload_n 1, 1) := dk_43 (dk_at dksX1_firstOf_1 5 rfl rfl)
theorem dX1_firstOf_29 : decode cX1_firstOf 29 = .ok (.iload_n 2, 1) := dk_28 (dk_at dksX1_firstOf_1 6 rfl rfl)
theorem dX1_firstOf_30 : decode cX1_firstOf 30 = .ok (.aload 6, 2) := dk_25 6 (dk_at dksX1_firstOf_1 7 rfl rfl)
theorem dX1_firstOf_32 : decode cX1_firstOf 32 = .ok (.invokevirtual 360, 3) := dk_182 1 104 (dk_at dksX1_firstOf_1 9 rfl rfl)
theorem dX1_firstOf_35 : decode cX1_firstOf 35 = .ok (.ifCond .eq 16, 3) := dk_153 0 16 (dk_at dksX1_firstOf_1 12 rfl rfl)
theorem dX1_firstOf_38 : decode cX1_firstOf 38 = .ok (.aload_n 0, 1) := dk_42 (dk_at dksX1_firstOf_1 15 rfl rfl)
theorem dX1_firstOf_39 : decode cX1_firstOf 39 = .ok (.aload_n 1, 1) := dk_43 (dk_at dksX1_firstOf_1 16 rfl rfl)
theorem dX1_firstOf_40 : decode cX1_firstOf 40 = .ok (.aload 6, 2) := dk_25 6 (dk_at dksX1_firstOf_1 17 rfl rfl)
theorem dX1_firstOf_42 : decode cX1_firstOf 42 = .ok (.aload 7, 2) := dk_25 7 (dk_at dksX1_firstOf_1 19 rfl rfl)
theorem dX1_firstOf_44 : decode cX1_firstOf 44 = .ok (.invokevirtual 364, 3) := dk_182 1 108 (dk_at dksX1_firstOf_1 21 rfl rfl)
theorem dX1_firstOf_47 : decode cX1_firstOf 47 = .ok (.invokestatic 368, 3) := dk_184 1 112 (dk_at dksX1_firstOf_2 0 rfl rfl)
theorem dX1_firstOf_50 : decode cX1_firstOf 50 = .ok (.pop, 1) := dk_87 (dk_at dksX1_firstOf_2 3 rfl rfl)
theorem dX1_firstOf_51 : decode cX1_firstOf 51 = .ok (.aload 7, 2) := dk_25 7 (dk_at dksX1_firstOf_2 4 rfl rfl)
theorem dX1_firstOf_53 : decode cX1_firstOf 53 = .ok (.getfield 372, 3) := dk_180 1 116 (dk_at dksX1_firstOf_2 6 rfl rfl)
theorem dX1_firstOf_56 : decode cX1_firstOf 56 = .ok (.ifnull 37, 3) := dk_198 0 37 (dk_at dksX1_firstOf_2 9 rfl rfl)
theorem dX1_firstOf_59 : decode cX1_firstOf 59 = .ok (.aload 5, 2) := dk_25 5 (dk_at dksX1_firstOf_2 12 rfl rfl)
theorem dX1_firstOf_61 : decode cX1_firstOf 61 = .ok (.aload_n 1, 1) := dk_43 (dk_at dksX1_firstOf_2 14 rfl rfl)
theorem dX1_firstOf_62 : decode cX1_firstOf 62 = .ok (.getfield 91, 3) := dk_180 0 91 (dk_at dksX1_firstOf_2 15 rfl rfl)
theorem dX1_firstOf_65 : decode cX1_firstOf 65 = .ok (.putfield 331, 3) := dk_181 1 75 (dk_at dksX1_firstOf_2 18 rfl rfl)
theorem dX1_firstOf_68 : decode cX1_firstOf 68 = .ok (.aload 5, 2) := dk_25 5 (dk_at dksX1_firstOf_2 21 rfl rfl)
theorem dX1_firstOf_70 : decode cX1_firstOf 70 = .ok (.aload_n 1, 1) := dk_43 (dk_at dksX1_firstOf_2 23 rfl rfl)
theorem dX1_firstOf_71 : decode cX1_firstOf 71 = .ok (.invokevirtual 223, 3) := dk_182 0 223 (dk_at dksX1_firstOf_3 0 rfl rfl)
theorem dX1_firstOf_74 : decode cX1_firstOf 74 = .ok (.putfield 351, 3) := dk_181 1 95 (dk_at dksX1_firstOf_3 3 rfl rfl)
theorem dX1_firstOf_77 : decode cX1_firstOf 77 = .ok (.aload 7, 2) := dk_25 7 (dk_at dksX1_firstOf_3 6 rfl rfl)
theorem dX1_firstOf_79 : decode cX1_firstOf 79 = .ok (.getfield 372, 3) := dk_180 1 116 (dk_at dksX1_firstOf_3 8 rfl rfl)
theorem dX1_firstOf_82 : decode cX1_firstOf 82 = .ok (.iconst 0, 1) := dk_3 (dk_at dksX1_firstOf_3 11 rfl rfl)
theorem dX1_firstOf_83 : decode cX1_firstOf 83 = .ok (.aload 5, 2) := dk_25 5 (dk_at dksX1_firstOf_3 12 rfl rfl)
theorem dX1_firstOf_85 : decode cX1_firstOf 85 = .ok (.getfield 348, 3) := dk_180 1 92 (dk_at dksX1_firstOf_3 14 rfl rfl)
theorem dX1_firstOf_88 : decode cX1_firstOf 88 = .ok (.iconst 0, 1) := dk_3 (dk_at dksX1_firstOf_3 17 rfl rfl)
theorem dX1_firstOf_89 : decode cX1_firstOf 89 = .ok (.iconst 3, 1) := dk_6 (dk_at dksX1_firstOf_3 18 rfl rfl)
theorem dX1_firstOf_90 : decode cX1_firstOf 90 = .ok (.invokestatic 373, 3) := dk_184 1 117 (dk_at dksX1_firstOf_3 19 rfl rfl)
theorem dX1_firstOf_93 : decode cX1_firstOf 93 = .ok (.return_, 1) := dk_177 (dk_at dksX1_firstOf_3 22 rfl rfl)
abbrev cX1_reasons : ByteArray := prog_1_method_55_code
def yX1_reasons : MethodName := ⟨RX1, "reasons", "(I)I"⟩
def dkwX1_reasons_0 : List UInt8 := [42, 27, 182, 0, 121, 42, 27, 182, 1, 123, 77, 44, 199, 0, 7, 3, 167, 0, 7, 44, 180, 1, 95, 172]
abbrev dktX1_reasons_0 : List UInt8 := dkwX1_reasons_0 ++ []
theorem dksX1_reasons_0 : cX1_reasons.data.toList.drop 0 = dktX1_reasons_0 := by decide +kernel
theorem dX1_reasons_0 : decode cX1_reasons 0 = .ok (.aload_n 0, 1) := dk_42 (dk_at dksX1_reasons_0 0 rfl rfl)
theorem dX1_reasons_1 : decode cX1_reasons 1 = .ok (.iload_n 1, 1) := dk_27 (dk_at dksX1_reasons_0 1 rfl rfl)
theorem dX1_reasons_2 : decode cX1_reasons 2 = .ok (.invokevirtual 121, 3) := dk_182 0 121 (dk_at dksX1_reasons_0 2 rfl rfl)
theorem dX1_reasons_5 : decode cX1_reasons 5 = .ok (.aload_n 0, 1) := dk_42 (dk_at dksX1_reasons_0 5 rfl rfl)
theorem dX1_reasons_6 : decode cX1_reasons 6 = .ok (.iload_n 1, 1) := dk_27 (dk_at dksX1_reasons_0 6 rfl rfl)
theorem dX1_reasons_7 : decode cX1_reasons 7 = .ok (.invokevirtual 379, 3) := dk_182 1 123 (dk_at dksX1_reasons_0 7 rfl rfl)
theorem dX1_reasons_10 : decode cX1_reasons 10 = .ok (.astore_n 2, 1) := dk_77 (dk_at dksX1_reasons_0 10 rfl rfl)
theorem dX1_reasons_11 : decode cX1_reasons 11 = .ok (.aload_n 2, 1) := dk_44 (dk_at dksX1_reasons_0 11 rfl rfl)
theorem dX1_reasons_12 : decode cX1_reasons 12 = .ok (.ifnonnull 7, 3) := dk_199 0 7 (dk_at dksX1_reasons_0 12 rfl rfl)
theorem dX1_reasons_15 : decode cX1_reasons 15 = .ok (.iconst 0, 1) := dk_3 (dk_at dksX1_reasons_0 15 rfl rfl)
theorem dX1_reasons_16 : decode cX1_reasons 16 = .ok (.goto 7, 3) := dk_167 0 7 (dk_at dksX1_reasons_0 16 rfl rfl)
theorem dX1_reasons_19 : decode cX1_reasons 19 = .ok (.aload_n 2, 1) := dk_44 (dk_at dksX1_reasons_0 19 rfl rfl)
theorem dX1_reasons_20 : decode cX1_reasons 20 = .ok (.getfield 351, 3) := dk_180 1 95 (dk_at dksX1_reasons_0 20 rfl rfl)
theorem dX1_reasons_23 : decode cX1_reasons 23 = .ok (.ireturn, 1) := dk_172 (dk_at dksX1_reasons_0 23 rfl rfl)
abbrev cX1_reasonAt : ByteArray := prog_1_method_56_code
def yX1_reasonAt : MethodName := ⟨RX1, "reasonAt", "(II)I"⟩
def dkwX1_reasonAt_1 : List UInt8 := [184, 0, 62, 45, 180, 1, 92, 28, 46, 172]
abbrev dktX1_reasonAt_1 : List UInt8 := dkwX1_reasonAt_1 ++ []
def dkwX1_reasonAt_0 : List UInt8 := [42, 27, 182, 0, 121, 42, 27, 182, 1, 123, 78, 28, 45, 199, 0, 7, 3, 167, 0, 7, 45, 180, 1, 95]
abbrev dktX1_reasonAt_0 : List UInt8 := dkwX1_reasonAt_0 ++ dktX1_reasonAt_1
theorem dksX1_reasonAt_0 : cX1_reasonAt.data.toList.drop 0 = dktX1_reasonAt_0 := by decide +kernel
theorem dksX1_reasonAt_1 : cX1_reasonAt.data.toList.drop 24 = dktX1_reasonAt_1 := dk_seg dksX1_reasonAt_0 24 rfl rfl
theorem dX1_reasonAt_0 : decode cX1_reasonAt 0 = .ok (.aload_n 0, 1) := dk_42 (dk_at dksX1_reasonAt_0 0 rfl rfl)
theorem dX1_reasonAt_1 : decode cX1_reasonAt 1 = .ok (.iload_n 1, 1) := dk_27 (dk_at dksX1_reasonAt_0 1 rfl rfl)
theorem dX1_reasonAt_2 : decode cX1_reasonAt 2 = .ok (.invokevirtual 121, 3) := dk_182 0 121 (dk_at dksX1_reasonAt_0 2 rfl rfl)
theorem dX1_reasonAt_5 : decode cX1_reasonAt 5 = .ok (.aload_n 0, 1) := dk_42 (dk_at dksX1_reasonAt_0 5 rfl rfl)
theorem dX1_reasonAt_6 : decode cX1_reasonAt 6 = .ok (.iload_n 1, 1) := dk_27 (dk_at dksX1_reasonAt_0 6 rfl rfl)
theorem dX1_reasonAt_7 : decode cX1_reasonAt 7 = .ok (.invokevirtual 379, 3) := dk_182 1 123 (dk_at dksX1_reasonAt_0 7 rfl rfl)
theorem dX1_reasonAt_10 : decode cX1_reasonAt 10 = .ok (.astore_n 3, 1) := dk_78 (dk_at dksX1_reasonAt_0 10 rfl rfl)
theorem dX1_reasonAt_11 : decode cX1_reasonAt 11 = .ok (.iload_n 2, 1) := dk_28 (dk_at dksX1_reasonAt_0 11 rfl rfl)
theorem dX1_reasonAt_12 : decode cX1_reasonAt 12 = .ok (.aload_n 3, 1) := dk_45 (dk_at dksX1_reasonAt_0 12 rfl rfl)
theorem dX1_reasonAt_13 : decode cX1_reasonAt 13 = .ok (.ifnonnull 7, 3) := dk_199 0 7 (dk_at dksX1_reasonAt_0 13 rfl rfl)
theorem dX1_reasonAt_16 : decode cX1_reasonAt 16 = .ok (.iconst 0, 1) := dk_3 (dk_at dksX1_reasonAt_0 16 rfl rfl)
theorem dX1_reasonAt_17 : decode cX1_reasonAt 17 = .ok (.goto 7, 3) := dk_167 0 7 (dk_at dksX1_reasonAt_0 17 rfl rfl)
theorem dX1_reasonAt_20 : decode cX1_reasonAt 20 = .ok (.aload_n 3, 1) := dk_45 (dk_at dksX1_reasonAt_0 20 rfl rfl)
theorem dX1_reasonAt_21 : decode cX1_reasonAt 21 = .ok (.getfield 351, 3) := dk_180 1 95 (dk_at dksX1_reasonAt_0 21 rfl rfl)
theorem dX1_reasonAt_24 : decode cX1_reasonAt 24 = .ok (.invokestatic 62, 3) := dk_184 0 62 (dk_at dksX1_reasonAt_1 0 rfl rfl)
theorem dX1_reasonAt_27 : decode cX1_reasonAt 27 = .ok (.aload_n 3, 1) := dk_45 (dk_at dksX1_reasonAt_1 3 rfl rfl)
theorem dX1_reasonAt_28 : decode cX1_reasonAt 28 = .ok (.getfield 348, 3) := dk_180 1 92 (dk_at dksX1_reasonAt_1 4 rfl rfl)
theorem dX1_reasonAt_31 : decode cX1_reasonAt 31 = .ok (.iload_n 2, 1) := dk_28 (dk_at dksX1_reasonAt_1 7 rfl rfl)
theorem dX1_reasonAt_32 : decode cX1_reasonAt 32 = .ok (.iaload, 1) := dk_46 (dk_at dksX1_reasonAt_1 8 rfl rfl)
theorem dX1_reasonAt_33 : decode cX1_reasonAt 33 = .ok (.ireturn, 1) := dk_172 (dk_at dksX1_reasonAt_1 9 rfl rfl)
abbrev cX1_dependsOn : ByteArray := prog_1_method_57_code
def yX1_dependsOn : MethodName := ⟨RX1, "dependsOn", "(II)Z"⟩
def dkwX1_dependsOn_8 : List UInt8 := [172]
abbrev dktX1_dependsOn_8 : List UInt8 := dkwX1_dependsOn_8 ++ []
def dkwX1_dependsOn_7 : List UInt8 := [47, 129, 55, 6, 167, 255, 201, 22, 6, 21, 4, 123, 10, 127, 10, 148, 154, 0, 7, 4, 167, 0, 4, 3]
abbrev dktX1_dependsOn_7 : List UInt8 := dkwX1_dependsOn_7 ++ dktX1_dependsOn_8
def dkwX1_dependsOn_6 : List UInt8 := [154, 0, 9, 132, 10, 1, 167, 255, 234, 22, 8, 10, 21, 10, 121, 129, 55, 8, 22, 6, 25, 5, 21, 10]
abbrev dktX1_dependsOn_6 : List UInt8 := dkwX1_dependsOn_6 ++ dktX1_dependsOn_7
def dkwX1_dependsOn_5 : List UInt8 := [153, 0, 53, 3, 54, 10, 22, 6, 22, 8, 20, 1, 131, 131, 127, 21, 10, 123, 10, 127, 9, 148]
abbrev dktX1_dependsOn_5 : List UInt8 := dkwX1_dependsOn_5 ++ dktX1_dependsOn_6
def dkwX1_dependsOn_4 : List UInt8 := [172, 42, 182, 1, 63, 180, 1, 127, 58, 5, 25, 5, 29, 47, 55, 6, 9, 55, 8, 22, 6, 22, 8, 148]
abbrev dktX1_dependsOn_4 : List UInt8 := dkwX1_dependsOn_4 ++ dktX1_dependsOn_5
def dkwX1_dependsOn_3 : List UInt8 := [180, 0, 21, 180, 0, 105, 28, 182, 1, 41, 54, 4, 29, 2, 159, 0, 9, 21, 4, 2, 160, 0, 5, 3]
abbrev dktX1_dependsOn_3 : List UInt8 := dkwX1_dependsOn_3 ++ dktX1_dependsOn_4
def dkwX1_dependsOn_2 : List UInt8 := [153, 0, 7, 4, 167, 0, 4, 3, 184, 0, 85, 42, 180, 0, 21, 180, 0, 105, 27, 182, 1, 41, 62, 42]
abbrev dktX1_dependsOn_2 : List UInt8 := dkwX1_dependsOn_2 ++ dktX1_dependsOn_3
def dkwX1_dependsOn_1 : List UInt8 := [180, 0, 55, 182, 0, 58, 104, 184, 0, 62, 42, 27, 182, 0, 81, 153, 0, 15, 42, 28, 182, 0, 81]
abbrev dktX1_dependsOn_1 : List UInt8 := dkwX1_dependsOn_1 ++ dktX1_dependsOn_2
def dkwX1_dependsOn_0 : List UInt8 := [27, 18, 3, 42, 180, 0, 21, 180, 0, 55, 182, 0, 58, 104, 184, 0, 62, 28, 18, 3, 42, 180, 0, 21]
abbrev dktX1_dependsOn_0 : List UInt8 := dkwX1_dependsOn_0 ++ dktX1_dependsOn_1
theorem dksX1_dependsOn_0 : cX1_dependsOn.data.toList.drop 0 = dktX1_dependsOn_0 := by decide +kernel
theorem dksX1_dependsOn_1 : cX1_dependsOn.data.toList.drop 24 = dktX1_dependsOn_1 := dk_seg dksX1_dependsOn_0 24 rfl rfl
theorem dksX1_dependsOn_2 : cX1_dependsOn.data.toList.drop 47 = dktX1_dependsOn_2 := dk_seg dksX1_dependsOn_1 23 rfl rfl
theorem dksX1_dependsOn_3 : cX1_dependsOn.data.toList.drop 71 = dktX1_dependsOn_3 := dk_seg dksX1_dependsOn_2 24 rfl rfl
theorem dksX1_dependsOn_4 : cX1_dependsOn.data.toList.drop 95 = dktX1_dependsOn_4 := dk_seg dksX1_dependsOn_3 24 rfl rfl
theorem dksX1_dependsOn_5 : cX1_dependsOn.data.toList.drop 119 = dktX1_dependsOn_5 := dk_seg dksX1_dependsOn_4 24 rfl rfl
theorem dksX1_dependsOn_6 : cX1_dependsOn.data.toList.drop 141 = dktX1_dependsOn_6 := dk_seg dksX1_dependsOn_5 22 rfl rfl
theorem dksX1_dependsOn_7 : cX1_dependsOn.data.toList.drop 165 = dktX1_dependsOn_7 := dk_seg dksX1_dependsOn_6 24 rfl rfl
theorem dksX1_dependsOn_8 : cX1_dependsOn.data.toList.drop 189 = dktX1_dependsOn_8 := dk_seg dksX1_dependsOn_7 24 rfl rfl
theorem dX1_dependsOn_0 : decode cX1_dependsOn 0 = .ok (.iload_n 1, 1) := dk_27 (dk_at dksX1_dependsOn_0 0 rfl rfl)
theorem dX1_dependsOn_1 : decode cX1_dependsOn 1 = .ok (.ldc 3, 2) := dk_18 3 (dk_at dksX1_dependsOn_0 1 rfl rfl)
theorem dX1_dependsOn_3 : decode cX1_dependsOn 3 = .ok (.aload_n 0, 1) := dk_42 (dk_at dksX1_dependsOn_0 3 rfl rfl)
theorem dX1_dependsOn_4 : decode cX1_dependsOn 4 = .ok (.getfield 21, 3) := dk_180 0 21 (dk_at dksX1_dependsOn_0 4 rfl rfl)
theorem dX1_dependsOn_7 : decode cX1_dependsOn 7 = .ok (.getfield 55, 3) := dk_180 0 55 (dk_at dksX1_dependsOn_0 7 rfl rfl)
theorem dX1_dependsOn_10 : decode cX1_dependsOn 10 = .ok (.invokevirtual 58, 3) := dk_182 0 58 (dk_at dksX1_dependsOn_0 10 rfl rfl)
theorem dX1_dependsOn_13 : decode cX1_dependsOn 13 = .ok (.imul, 1) := dk_104 (dk_at dksX1_dependsOn_0 13 rfl rfl)
theorem dX1_dependsOn_14 : decode cX1_dependsOn 14 = .ok (.invokestatic 62, 3) := dk_184 0 62 (dk_at dksX1_dependsOn_0 14 rfl rfl)
theorem dX1_dependsOn_17 : decode cX1_dependsOn 17 = .ok (.iload_n 2, 1) := dk_28 (dk_at dksX1_dependsOn_0 17 rfl rfl)
theorem dX1_dependsOn_18 : decode cX1_dependsOn 18 = .ok (.ldc 3, 2) := dk_18 3 (dk_at dksX1_dependsOn_0 18 rfl rfl)
theorem dX1_dependsOn_20 : decode cX1_dependsOn 20 = .ok (.aload_n 0, 1) := dk_42 (dk_at dksX1_dependsOn_0 20 rfl rfl)
theorem dX1_dependsOn_21 : decode cX1_dependsOn 21 = .ok (.getfield 21, 3) := dk_180 0 21 (dk_at dksX1_dependsOn_0 21 rfl rfl)
theorem dX1_dependsOn_24 : decode cX1_dependsOn 24 = .ok (.getfield 55, 3) := dk_180 0 55 (dk_at dksX1_dependsOn_1 0 rfl rfl)
theorem dX1_dependsOn_27 : decode cX1_dependsOn 27 = .ok (.invokevirtual 58, 3) := dk_182 0 58 (dk_at dksX1_dependsOn_1 3 rfl rfl)
theorem dX1_dependsOn_30 : decode cX1_dependsOn 30 = .ok (.imul, 1) := dk_104 (dk_at dksX1_dependsOn_1 6 rfl rfl)
theorem dX1_dependsOn_31 : decode cX1_dependsOn 31 = .ok (.invokestatic 62, 3) := dk_184 0 62 (dk_at dksX1_dependsOn_1 7 rfl rfl)
theorem dX1_dependsOn_34 : decode cX1_dependsOn 34 = .ok (.aload_n 0, 1) := dk_42 (dk_at dksX1_dependsOn_1 10 rfl rfl)
theorem dX1_dependsOn_35 : decode cX1_dependsOn 35 = .ok (.iload_n 1, 1) := dk_27 (dk_at dksX1_dependsOn_1 11 rfl rfl)
theorem dX1_dependsOn_36 : decode cX1_dependsOn 36 = .ok (.invokevirtual 81, 3) := dk_182 0 81 (dk_at dksX1_dependsOn_1 12 rfl rfl)
theorem dX1_dependsOn_39 : decode cX1_dependsOn 39 = .ok (.ifCond .eq 15, 3) := dk_153 0 15 (dk_at dksX1_dependsOn_1 15 rfl rfl)
theorem dX1_dependsOn_42 : decode cX1_dependsOn 42 = .ok (.aload_n 0, 1) := dk_42 (dk_at dksX1_dependsOn_1 18 rfl rfl)
theorem dX1_dependsOn_43 : decode cX1_dependsOn 43 = .ok (.iload_n 2, 1) := dk_28 (dk_at dksX1_dependsOn_1 19 rfl rfl)
theorem dX1_dependsOn_44 : decode cX1_dependsOn 44 = .ok (.invokevirtual 81, 3) := dk_182 0 81 (dk_at dksX1_dependsOn_1 20 rfl rfl)
theorem dX1_dependsOn_47 : decode cX1_dependsOn 47 = .ok (.ifCond .eq 7, 3) := dk_153 0 7 (dk_at dksX1_dependsOn_2 0 rfl rfl)
theorem dX1_dependsOn_50 : decode cX1_dependsOn 50 = .ok (.iconst 1, 1) := dk_4 (dk_at dksX1_dependsOn_2 3 rfl rfl)
theorem dX1_dependsOn_51 : decode cX1_dependsOn 51 = .ok (.goto 4, 3) := dk_167 0 4 (dk_at dksX1_dependsOn_2 4 rfl rfl)
theorem dX1_dependsOn_54 : decode cX1_dependsOn 54 = .ok (.iconst 0, 1) := dk_3 (dk_at dksX1_dependsOn_2 7 rfl rfl)
theorem dX1_dependsOn_55 : decode cX1_dependsOn 55 = .ok (.invokestatic 85, 3) := dk_184 0 85 (dk_at dksX1_dependsOn_2 8 rfl rfl)
theorem dX1_dependsOn_58 : decode cX1_dependsOn 58 = .ok (.aload_n 0, 1) := dk_42 (dk_at dksX1_dependsOn_2 11 rfl rfl)
theorem dX1_dependsOn_59 : decode cX1_dependsOn 59 = .ok (.getfield 21, 3) := dk_180 0 21 (dk_at dksX1_dependsOn_2 12 rfl rfl)
theorem dX1_dependsOn_62 : decode cX1_dependsOn 62 = .ok (.getfield 105, 3) := dk_180 0 105 (dk_at dksX1_dependsOn_2 15 rfl rfl)
theorem dX1_dependsOn_65 : decode cX1_dependsOn 65 = .ok (.iload_n 1, 1) := dk_27 (dk_at dksX1_dependsOn_2 18 rfl rfl)
theorem dX1_dependsOn_66 : decode cX1_dependsOn 66 = .ok (.invokevirtual 297, 3) := dk_182 1 41 (dk_at dksX1_dependsOn_2 19 rfl rfl)
theorem dX1_dependsOn_69 : decode cX1_dependsOn 69 = .ok (.istore_n 3, 1) := dk_62 (dk_at dksX1_dependsOn_2 22 rfl rfl)
theorem dX1_dependsOn_70 : decode cX1_dependsOn 70 = .ok (.aload_n 0, 1) := dk_42 (dk_at dksX1_dependsOn_2 23 rfl rfl)
theorem dX1_dependsOn_71 : decode cX1_dependsOn 71 = .ok (.getfield 21, 3) := dk_180 0 21 (dk_at dksX1_dependsOn_3 0 rfl rfl)
theorem dX1_dependsOn_74 : decode cX1_dependsOn 74 = .ok (.getfield 105, 3) := dk_180 0 105 (dk_at dksX1_dependsOn_3 3 rfl rfl)
theorem dX1_dependsOn_77 : decode cX1_dependsOn 77 = .ok (.iload_n 2, 1) := dk_28 (dk_at dksX1_dependsOn_3 6 rfl rfl)
theorem dX1_dependsOn_78 : decode cX1_dependsOn 78 = .ok (.invokevirtual 297, 3) := dk_182 1 41 (dk_at dksX1_dependsOn_3 7 rfl rfl)
theorem dX1_dependsOn_81 : decode cX1_dependsOn 81 = .ok (.istore 4, 2) := dk_54 4 (dk_at dksX1_dependsOn_3 10 rfl rfl)
theorem dX1_dependsOn_83 : decode cX1_dependsOn 83 = .ok (.iload_n 3, 1) := dk_29 (dk_at dksX1_dependsOn_3 12 rfl rfl)
theorem dX1_dependsOn_84 : decode cX1_dependsOn 84 = .ok (.iconst (-1), 1) := dk_2 (dk_at dksX1_dependsOn_3 13 rfl rfl)
theorem dX1_dependsOn_85 : decode cX1_dependsOn 85 = .ok (.if_icmp .eq 9, 3) := dk_159 0 9 (dk_at dksX1_dependsOn_3 14 rfl rfl)
theorem dX1_dependsOn_88 : decode cX1_dependsOn 88 = .ok (.iload 4, 2) := dk_21 4 (dk_at dksX1_dependsOn_3 17 rfl rfl)
theorem dX1_dependsOn_90 : decode cX1_dependsOn 90 = .ok (.iconst (-1), 1) := dk_2 (dk_at dksX1_dependsOn_3 19 rfl rfl)
theorem dX1_dependsOn_91 : decode cX1_dependsOn 91 = .ok (.if_icmp .ne 5, 3) := dk_160 0 5 (dk_at dksX1_dependsOn_3 20 rfl rfl)
theorem dX1_dependsOn_94 : decode cX1_dependsOn 94 = .ok (.iconst 0, 1) := dk_3 (dk_at dksX1_dependsOn_3 23 rfl rfl)
theorem dX1_dependsOn_95 : decode cX1_dependsOn 95 = .ok (.ireturn, 1) := dk_172 (dk_at dksX1_dependsOn_4 0 rfl rfl)
theorem dX1_dependsOn_96 : decode cX1_dependsOn 96 = .ok (.aload_n 0, 1) := dk_42 (dk_at dksX1_dependsOn_4 1 rfl rfl)
theorem dX1_dependsOn_97 : decode cX1_dependsOn 97 = .ok (.invokevirtual 319, 3) := dk_182 1 63 (dk_at dksX1_dependsOn_4 2 rfl rfl)
theorem dX1_dependsOn_100 : decode cX1_dependsOn 100 = .ok (.getfield 383, 3) := dk_180 1 127 (dk_at dksX1_dependsOn_4 5 rfl rfl)
theorem dX1_dependsOn_103 : decode cX1_dependsOn 103 = .ok (.astore 5, 2) := dk_58 5 (dk_at dksX1_dependsOn_4 8 rfl rfl)
theorem dX1_dependsOn_105 : decode cX1_dependsOn 105 = .ok (.aload 5, 2) := dk_25 5 (dk_at dksX1_dependsOn_4 10 rfl rfl)
theorem dX1_dependsOn_107 : decode cX1_dependsOn 107 = .ok (.iload_n 3, 1) := dk_29 (dk_at dksX1_dependsOn_4 12 rfl rfl)
theorem dX1_dependsOn_108 : decode cX1_dependsOn 108 = .ok (.laload, 1) := dk_47 (dk_at dksX1_dependsOn_4 13 rfl rfl)
theorem dX1_dependsOn_109 : decode cX1_dependsOn 109 = .ok (.lstore 6, 2) := dk_55 6 (dk_at dksX1_dependsOn_4 14 rfl rfl)
theorem dX1_dependsOn_111 : decode cX1_dependsOn 111 = .ok (.lconst 0, 1) := dk_9 (dk_at dksX1_dependsOn_4 16 rfl rfl)
theorem dX1_dependsOn_112 : decode cX1_dependsOn 112 = .ok (.lstore 8, 2) := dk_55 8 (dk_at dksX1_dependsOn_4 17 rfl rfl)
theorem dX1_dependsOn_114 : decode cX1_dependsOn 114 = .ok (.lload 6, 2) := dk_22 6 (dk_at dksX1_dependsOn_4 19 rfl rfl)
theorem dX1_dependsOn_116 : decode cX1_dependsOn 116 = .ok (.lload 8, 2) := dk_22 8 (dk_at dksX1_dependsOn_4 21 rfl rfl)
theorem dX1_dependsOn_118 : decode cX1_dependsOn 118 = .ok (.lcmp, 1) := dk_148 (dk_at dksX1_dependsOn_4 23 rfl rfl)
theorem dX1_dependsOn_119 : decode cX1_dependsOn 119 = .ok (.ifCond .eq 53, 3) := dk_153 0 53 (dk_at dksX1_dependsOn_5 0 rfl rfl)
theorem dX1_dependsOn_122 : decode cX1_dependsOn 122 = .ok (.iconst 0, 1) := dk_3 (dk_at dksX1_dependsOn_5 3 rfl rfl)
theorem dX1_dependsOn_123 : decode cX1_dependsOn 123 = .ok (.istore 10, 2) := dk_54 10 (dk_at dksX1_dependsOn_5 4 rfl rfl)
theorem dX1_dependsOn_125 : decode cX1_dependsOn 125 = .ok (.lload 6, 2) := dk_22 6 (dk_at dksX1_dependsOn_5 6 rfl rfl)
theorem dX1_dependsOn_127 : decode cX1_dependsOn 127 = .ok (.lload 8, 2) := dk_22 8 (dk_at dksX1_dependsOn_5 8 rfl rfl)
theorem dX1_dependsOn_129 : decode cX1_dependsOn 129 = .ok (.ldc2_w 387, 3) := dk_20 1 131 (dk_at dksX1_dependsOn_5 10 rfl rfl)
theorem dX1_dependsOn_132 : decode cX1_dependsOn 132 = .ok (.lxor, 1) := dk_131 (dk_at dksX1_dependsOn_5 13 rfl rfl)
theorem dX1_dependsOn_133 : decode cX1_dependsOn 133 = .ok (.land, 1) := dk_127 (dk_at dksX1_dependsOn_5 14 rfl rfl)
theorem dX1_dependsOn_134 : decode cX1_dependsOn 134 = .ok (.iload 10, 2) := dk_21 10 (dk_at dksX1_dependsOn_5 15 rfl rfl)
theorem dX1_dependsOn_136 : decode cX1_dependsOn 136 = .ok (.lshr, 1) := dk_123 (dk_at dksX1_dependsOn_5 17 rfl rfl)
theorem dX1_dependsOn_137 : decode cX1_dependsOn 137 = .ok (.lconst 1, 1) := dk_10 (dk_at dksX1_dependsOn_5 18 rfl rfl)
theorem dX1_dependsOn_138 : decode cX1_dependsOn 138 = .ok (.land, 1) := dk_127 (dk_at dksX1_dependsOn_5 19 rfl rfl)
theorem dX1_dependsOn_139 : decode cX1_dependsOn 139 = .ok (.lconst 0, 1) := dk_9 (dk_at dksX1_dependsOn_5 20 rfl rfl)
theorem dX1_dependsOn_140 : decode cX1_dependsOn 140 = .ok (.lcmp, 1) := dk_148 (dk_at dksX1_dependsOn_5 21 rfl rfl)
theorem dX1_dependsOn_141 : decode cX1_dependsOn 141 = .ok (.ifCond .ne 9, 3) := dk_154 0 9 (dk_at dksX1_dependsOn_6 0 rfl rfl)
theorem dX1_dependsOn_144 : decode cX1_dependsOn 144 = .ok (.iinc 10 1, 3) := dk_132 10 1 (dk_at dksX1_dependsOn_6 3 rfl rfl)
theorem dX1_dependsOn_147 : decode cX1_dependsOn 147 = .ok (.goto (-22), 3) := dk_167 255 234 (dk_at dksX1_dependsOn_6 6 rfl rfl)
theorem dX1_dependsOn_150 : decode cX1_dependsOn 150 = .ok (.lload 8, 2) := dk_22 8 (dk_at dksX1_dependsOn_6 9 rfl rfl)
theorem dX1_dependsOn_152 : decode cX1_dependsOn 152 = .ok (.lconst 1, 1) := dk_10 (dk_at dksX1_dependsOn_6 11 rfl rfl)
theorem dX1_dependsOn_153 : decode cX1_dependsOn 153 = .ok (.iload 10, 2) := dk_21 10 (dk_at dksX1_dependsOn_6 12 rfl rfl)
theorem dX1_dependsOn_155 : decode cX1_dependsOn 155 = .ok (.lshl, 1) := dk_121 (dk_at dksX1_dependsOn_6 14 rfl rfl)
theorem dX1_dependsOn_156 : decode cX1_dependsOn 156 = .ok (.lor, 1) := dk_129 (dk_at dksX1_dependsOn_6 15 rfl rfl)
theorem dX1_dependsOn_157 : decode cX1_dependsOn 157 = .ok (.lstore 8, 2) := dk_55 8 (dk_at dksX1_dependsOn_6 16 rfl rfl)
theorem dX1_dependsOn_159 : decode cX1_dependsOn 159 = .ok (.lload 6, 2) := dk_22 6 (dk_at dksX1_dependsOn_6 18 rfl rfl)
theorem dX1_dependsOn_161 : decode cX1_dependsOn 161 = .ok (.aload 5, 2) := dk_25 5 (dk_at dksX1_dependsOn_6 20 rfl rfl)
theorem dX1_dependsOn_163 : decode cX1_dependsOn 163 = .ok (.iload 10, 2) := dk_21 10 (dk_at dksX1_dependsOn_6 22 rfl rfl)
theorem dX1_dependsOn_165 : decode cX1_dependsOn 165 = .ok (.laload, 1) := dk_47 (dk_at dksX1_dependsOn_7 0 rfl rfl)
theorem dX1_dependsOn_166 : decode cX1_dependsOn 166 = .ok (.lor, 1) := dk_129 (dk_at dksX1_dependsOn_7 1 rfl rfl)
theorem dX1_dependsOn_167 : decode cX1_dependsOn 167 = .ok (.lstore 6, 2) := dk_55 6 (dk_at dksX1_dependsOn_7 2 rfl rfl)
theorem dX1_dependsOn_169 : decode cX1_dependsOn 169 = .ok (.goto (-55), 3) := dk_167 255 201 (dk_at dksX1_dependsOn_7 4 rfl rfl)
theorem dX1_dependsOn_172 : decode cX1_dependsOn 172 = .ok (.lload 6, 2) := dk_22 6 (dk_at dksX1_dependsOn_7 7 rfl rfl)
theorem dX1_dependsOn_174 : decode cX1_dependsOn 174 = .ok (.iload 4, 2) := dk_21 4 (dk_at dksX1_dependsOn_7 9 rfl rfl)
theorem dX1_dependsOn_176 : decode cX1_dependsOn 176 = .ok (.lshr, 1) := dk_123 (dk_at dksX1_dependsOn_7 11 rfl rfl)
theorem dX1_dependsOn_177 : decode cX1_dependsOn 177 = .ok (.lconst 1, 1) := dk_10 (dk_at dksX1_dependsOn_7 12 rfl rfl)
theorem dX1_dependsOn_178 : decode cX1_dependsOn 178 = .ok (.land, 1) := dk_127 (dk_at dksX1_dependsOn_7 13 rfl rfl)
theorem dX1_dependsOn_179 : decode cX1_dependsOn 179 = .ok (.lconst 1, 1) := dk_10 (dk_at dksX1_dependsOn_7 14 rfl rfl)
theorem dX1_dependsOn_180 : decode cX1_dependsOn 180 = .ok (.lcmp, 1) := dk_148 (dk_at dksX1_dependsOn_7 15 rfl rfl)
theorem dX1_dependsOn_181 : decode cX1_dependsOn 181 = .ok (.ifCond .ne 7, 3) := dk_154 0 7 (dk_at dksX1_dependsOn_7 16 rfl rfl)
theorem dX1_dependsOn_184 : decode cX1_dependsOn 184 = .ok (.iconst 1, 1) := dk_4 (dk_at dksX1_dependsOn_7 19 rfl rfl)
theorem dX1_dependsOn_185 : decode cX1_dependsOn 185 = .ok (.goto 4, 3) := dk_167 0 4 (dk_at dksX1_dependsOn_7 20 rfl rfl)
theorem dX1_dependsOn_188 : decode cX1_dependsOn 188 = .ok (.iconst 0, 1) := dk_3 (dk_at dksX1_dependsOn_7 23 rfl rfl)
theorem dX1_dependsOn_189 : decode cX1_dependsOn 189 = .ok (.ireturn, 1) := dk_172 (dk_at dksX1_dependsOn_8 0 rfl rfl)
abbrev cX1_whyNot : ByteArray := prog_1_method_58_code
def yX1_whyNot : MethodName := ⟨RX1, "whyNot", "(II)I"⟩
def dkwX1_whyNot_2 : List UInt8 := [182, 1, 108, 184, 1, 112, 167, 0, 4, 2, 172]
abbrev dktX1_whyNot_2 : List UInt8 := dkwX1_whyNot_2 ++ []
def dkwX1_whyNot_1 : List UInt8 := [186, 1, 133, 0, 0, 58, 5, 45, 28, 25, 4, 182, 1, 104, 153, 0, 18, 42, 45, 25, 4, 25, 5]
abbrev dktX1_whyNot_1 : List UInt8 := dkwX1_whyNot_1 ++ dktX1_whyNot_2
def dkwX1_whyNot_0 : List UInt8 := [42, 180, 0, 21, 180, 1, 18, 27, 184, 1, 24, 78, 42, 28, 182, 0, 121, 184, 1, 96, 58, 4]
abbrev dktX1_whyNot_0 : List UInt8 := dkwX1_whyNot_0 ++ dktX1_whyNot_1
theorem dksX1_whyNot_0 : cX1_whyNot.data.toList.drop 0 = dktX1_whyNot_0 := by decide +kernel
theorem dksX1_whyNot_1 : cX1_whyNot.data.toList.drop 22 = dktX1_whyNot_1 := dk_seg dksX1_whyNot_0 22 rfl rfl
theorem dksX1_whyNot_2 : cX1_whyNot.data.toList.drop 45 = dktX1_whyNot_2 := dk_seg dksX1_whyNot_1 23 rfl rfl
theorem dX1_whyNot_0 : decode cX1_whyNot 0 = .ok (.aload_n 0, 1) := dk_42 (dk_at dksX1_whyNot_0 0 rfl rfl)
theorem dX1_whyNot_1 : decode cX1_whyNot 1 = .ok (.getfield 21, 3) := dk_180 0 21 (dk_at dksX1_whyNot_0 1 rfl rfl)
theorem dX1_whyNot_4 : decode cX1_whyNot 4 = .ok (.getfield 274, 3) := dk_180 1 18 (dk_at dksX1_whyNot_0 4 rfl rfl)
theorem dX1_whyNot_7 : decode cX1_whyNot 7 = .ok (.iload_n 1, 1) := dk_27 (dk_at dksX1_whyNot_0 7 rfl rfl)
theorem dX1_whyNot_8 : decode cX1_whyNot 8 = .ok (.invokestatic 280, 3) := dk_184 1 24 (dk_at dksX1_whyNot_0 8 rfl rfl)
theorem dX1_whyNot_11 : decode cX1_whyNot 11 = .ok (.astore_n 3, 1) := dk_78 (dk_at dksX1_whyNot_0 11 rfl rfl)
theorem dX1_whyNot_12 : decode cX1_whyNot 12 = .ok (.aload_n 0, 1) := dk_42 (dk_at dksX1_whyNot_0 12 rfl rfl)
theorem dX1_whyNot_13 : decode cX1_whyNot 13 = .ok (.iload_n 2, 1) := dk_28 (dk_at dksX1_whyNot_0 13 rfl rfl)
theorem dX1_whyNot_14 : decode cX1_whyNot 14 = .ok (.invokevirtual 121, 3) := dk_182 0 121 (dk_at dksX1_whyNot_0 14 rfl rfl)
theorem dX1_whyNot_17 : decode cX1_whyNot 17 = .ok (.invokestatic 352, 3) := dk_184 1 96 (dk_at dksX1_whyNot_0 17 rfl rfl)
theorem dX1_whyNot_20 : decode cX1_whyNot 20 = .ok (.astore 4, 2) := dk_58 4 (dk_at dksX1_whyNot_0 20 rfl rfl)
theorem dX1_whyNot_22 : decode cX1_whyNot 22 = .ok (.invokedynamic 389, 5) := by decide +kernel
theorem dX1_whyNot_27 : decode cX1_whyNot 27 = .ok (.astore 5, 2) := dk_58 5 (dk_at dksX1_whyNot_1 5 rfl rfl)
theorem dX1_whyNot_29 : decode cX1_whyNot 29 = .ok (.aload_n 3, 1) := dk_45 (dk_at dksX1_whyNot_1 7 rfl rfl)
theorem dX1_whyNot_30 : decode cX1_whyNot 30 = .ok (.iload_n 2, 1) := dk_28 (dk_at dksX1_whyNot_1 8 rfl rfl)
theorem dX1_whyNot_31 : decode cX1_whyNot 31 = .ok (.aload 4, 2) := dk_25 4 (dk_at dksX1_whyNot_1 9 rfl rfl)
theorem dX1_whyNot_33 : decode cX1_whyNot 33 = .ok (.invokevirtual 360, 3) := dk_182 1 104 (dk_at dksX1_whyNot_1 11 rfl rfl)
theorem dX1_whyNot_36 : decode cX1_whyNot 36 = .ok (.ifCond .eq 18, 3) := dk_153 0 18 (dk_at dksX1_whyNot_1 14 rfl rfl)
theorem dX1_whyNot_39 : decode cX1_whyNot 39 = .ok (.aload_n 0, 1) := dk_42 (dk_at dksX1_whyNot_1 17 rfl rfl)
theorem dX1_whyNot_40 : decode cX1_whyNot 40 = .ok (.aload_n 3, 1) := dk_45 (dk_at dksX1_whyNot_1 18 rfl rfl)
theorem dX1_whyNot_41 : decode cX1_whyNot 41 = .ok (.aload 4, 2) := dk_25 4 (dk_at dksX1_whyNot_1 19 rfl rfl)
theorem dX1_whyNot_43 : decode cX1_whyNot 43 = .ok (.aload 5, 2) := dk_25 5 (dk_at dksX1_whyNot_1 21 rfl rfl)
theorem dX1_whyNot_45 : decode cX1_whyNot 45 = .ok (.invokevirtual 364, 3) := dk_182 1 108 (dk_at dksX1_whyNot_2 0 rfl rfl)
theorem dX1_whyNot_48 : decode cX1_whyNot 48 = .ok (.invokestatic 368, 3) := dk_184 1 112 (dk_at dksX1_whyNot_2 3 rfl rfl)
theorem dX1_whyNot_51 : decode cX1_whyNot 51 = .ok (.goto 4, 3) := dk_167 0 4 (dk_at dksX1_whyNot_2 6 rfl rfl)
theorem dX1_whyNot_54 : decode cX1_whyNot 54 = .ok (.iconst (-1), 1) := dk_2 (dk_at dksX1_whyNot_2 9 rfl rfl)
theorem dX1_whyNot_55 : decode cX1_whyNot 55 = .ok (.ireturn, 1) := dk_172 (dk_at dksX1_whyNot_2 10 rfl rfl)
abbrev cX1_lambda_whyNot_0 : ByteArray := prog_1_method_86_code
def yX1_lambda_whyNot_0 : MethodName := ⟨RX1, "lambda$whyNot$0", "([I[I)Z"⟩
theorem dX1_lambda_whyNot_0_0 : decode cX1_lambda_whyNot_0 0 = .ok (.iconst 0, 1) := by decide +kernel
theorem dX1_lambda_whyNot_0_1 : decode cX1_lambda_whyNot_0 1 = .ok (.ireturn, 1) := by decide +kernel
abbrev cX1_answers : ByteArray := prog_1_method_60_code
def yX1_answers : MethodName := ⟨RX1, "answers", "(IIII)I"⟩
def dkwX1_answers_6 : List UInt8 := [21, 5, 172]
abbrev dktX1_answers_6 : List UInt8 := dkwX1_answers_6 ++ []
def dkwX1_answers_5 : List UInt8 := [3, 54, 8, 21, 5, 21, 8, 153, 0, 7, 4, 167, 0, 4, 3, 96, 54, 5, 132, 6, 1, 167, 255, 133]
abbrev dktX1_answers_5 : List UInt8 := dkwX1_answers_5 ++ dktX1_answers_6
def dkwX1_answers_4 : List UInt8 := [160, 0, 24, 21, 4, 2, 159, 0, 14, 21, 4, 21, 7, 5, 184, 0, 77, 160, 0, 7, 4, 167, 0, 4]
abbrev dktX1_answers_4 : List UInt8 := dkwX1_answers_4 ++ dktX1_answers_5
def dkwX1_answers_3 : List UInt8 := [167, 0, 4, 3, 54, 8, 21, 8, 153, 0, 39, 29, 2, 159, 0, 13, 29, 21, 7, 4, 184, 0, 77]
abbrev dktX1_answers_3 : List UInt8 := dkwX1_answers_3 ++ dktX1_answers_4
def dkwX1_answers_2 : List UInt8 := [184, 0, 66, 27, 160, 0, 22, 28, 2, 159, 0, 13, 28, 21, 7, 3, 184, 0, 77, 160, 0, 7, 4]
abbrev dktX1_answers_2 : List UInt8 := dkwX1_answers_2 ++ dktX1_answers_3
def dkwX1_answers_1 : List UInt8 := [180, 0, 109, 162, 0, 114, 42, 180, 0, 21, 180, 0, 105, 180, 0, 159, 21, 6, 46, 54, 7, 21, 7]
abbrev dktX1_answers_1 : List UInt8 := dkwX1_answers_1 ++ dktX1_answers_2
def dkwX1_answers_0 : List UInt8 := [42, 27, 28, 29, 21, 4, 182, 1, 137, 3, 54, 5, 3, 54, 6, 21, 6, 42, 180, 0, 21, 180, 0, 105]
abbrev dktX1_answers_0 : List UInt8 := dkwX1_answers_0 ++ dktX1_answers_1
theorem dksX1_answers_0 : cX1_answers.data.toList.drop 0 = dktX1_answers_0 := by decide +kernel
theorem dksX1_answers_1 : cX1_answers.data.toList.drop 24 = dktX1_answers_1 := dk_seg dksX1_answers_0 24 rfl rfl
theorem dksX1_answers_2 : cX1_answers.data.toList.drop 47 = dktX1_answers_2 := dk_seg dksX1_answers_1 23 rfl rfl
theorem dksX1_answers_3 : cX1_answers.data.toList.drop 70 = dktX1_answers_3 := dk_seg dksX1_answers_2 23 rfl rfl
theorem dksX1_answers_4 : cX1_answers.data.toList.drop 93 = dktX1_answers_4 := dk_seg dksX1_answers_3 23 rfl rfl
theorem dksX1_answers_5 : cX1_answers.data.toList.drop 117 = dktX1_answers_5 := dk_seg dksX1_answers_4 24 rfl rfl
theorem dksX1_answers_6 : cX1_answers.data.toList.drop 141 = dktX1_answers_6 := dk_seg dksX1_answers_5 24 rfl rfl
theorem dX1_answers_0 : decode cX1_answers 0 = .ok (.aload_n 0, 1) := dk_42 (dk_at dksX1_answers_0 0 rfl rfl)
theorem dX1_answers_1 : decode cX1_answers 1 = .ok (.iload_n 1, 1) := dk_27 (dk_at dksX1_answers_0 1 rfl rfl)
theorem dX1_answers_2 : decode cX1_answers 2 = .ok (.iload_n 2, 1) := dk_28 (dk_at dksX1_answers_0 2 rfl rfl)
theorem dX1_answers_3 : decode cX1_answers 3 = .ok (.iload_n 3, 1) := dk_29 (dk_at dksX1_answers_0 3 rfl rfl)
theorem dX1_answers_4 : decode cX1_answers 4 = .ok (.iload 4, 2) := dk_21 4 (dk_at dksX1_answers_0 4 rfl rfl)
theorem dX1_answers_6 : decode cX1_answers 6 = .ok (.invokevirtual 393, 3) := dk_182 1 137 (dk_at dksX1_answers_0 6 rfl rfl)
theorem dX1_answers_9 : decode cX1_answers 9 = .ok (.iconst 0, 1) := dk_3 (dk_at dksX1_answers_0 9 rfl rfl)
theorem dX1_answers_10 : decode cX1_answers 10 = .ok (.istore 5, 2) := dk_54 5 (dk_at dksX1_answers_0 10 rfl rfl)
theorem dX1_answers_12 : decode cX1_answers 12 = .ok (.iconst 0, 1) := dk_3 (dk_at dksX1_answers_0 12 rfl rfl)
theorem dX1_answers_13 : decode cX1_answers 13 = .ok (.istore 6, 2) := dk_54 6 (dk_at dksX1_answers_0 13 rfl rfl)
theorem dX1_answers_15 : decode cX1_answers 15 = .ok (.iload 6, 2) := dk_21 6 (dk_at dksX1_answers_0 15 rfl rfl)
theorem dX1_answers_17 : decode cX1_answers 17 = .ok (.aload_n 0, 1) := dk_42 (dk_at dksX1_answers_0 17 rfl rfl)
theorem dX1_answers_18 : decode cX1_answers 18 = .ok (.getfield 21, 3) := dk_180 0 21 (dk_at dksX1_answers_0 18 rfl rfl)
theorem dX1_answers_21 : decode cX1_answers 21 = .ok (.getfield 105, 3) := dk_180 0 105 (dk_at dksX1_answers_0 21 rfl rfl)
theorem dX1_answers_24 : decode cX1_answers 24 = .ok (.getfield 109, 3) := dk_180 0 109 (dk_at dksX1_answers_1 0 rfl rfl)
theorem dX1_answers_27 : decode cX1_answers 27 = .ok (.if_icmp .ge 114, 3) := dk_162 0 114 (dk_at dksX1_answers_1 3 rfl rfl)
theorem dX1_answers_30 : decode cX1_answers 30 = .ok (.aload_n 0, 1) := dk_42 (dk_at dksX1_answers_1 6 rfl rfl)
theorem dX1_answers_31 : decode cX1_answers 31 = .ok (.getfield 21, 3) := dk_180 0 21 (dk_at dksX1_answers_1 7 rfl rfl)
theorem dX1_answers_34 : decode cX1_answers 34 = .ok (.getfield 105, 3) := dk_180 0 105 (dk_at dksX1_answers_1 10 rfl rfl)
theorem dX1_answers_37 : decode cX1_answers 37 = .ok (.getfield 159, 3) := dk_180 0 159 (dk_at dksX1_answers_1 13 rfl rfl)
theorem dX1_answers_40 : decode cX1_answers 40 = .ok (.iload 6, 2) := dk_21 6 (dk_at dksX1_answers_1 16 rfl rfl)
theorem dX1_answers_42 : decode cX1_answers 42 = .ok (.iaload, 1) := dk_46 (dk_at dksX1_answers_1 18 rfl rfl)
theorem dX1_answers_43 : decode cX1_answers 43 = .ok (.istore 7, 2) := dk_54 7 (dk_at dksX1_answers_1 19 rfl rfl)
theorem dX1_answers_45 : decode cX1_answers 45 = .ok (.iload 7, 2) := dk_21 7 (dk_at dksX1_answers_1 21 rfl rfl)
theorem dX1_answers_47 : decode cX1_answers 47 = .ok (.invokestatic 66, 3) := dk_184 0 66 (dk_at dksX1_answers_2 0 rfl rfl)
theorem dX1_answers_50 : decode cX1_answers 50 = .ok (.iload_n 1, 1) := dk_27 (dk_at dksX1_answers_2 3 rfl rfl)
theorem dX1_answers_51 : decode cX1_answers 51 = .ok (.if_icmp .ne 22, 3) := dk_160 0 22 (dk_at dksX1_answers_2 4 rfl rfl)
theorem dX1_answers_54 : decode cX1_answers 54 = .ok (.iload_n 2, 1) := dk_28 (dk_at dksX1_answers_2 7 rfl rfl)
theorem dX1_answers_55 : decode cX1_answers 55 = .ok (.iconst (-1), 1) := dk_2 (dk_at dksX1_answers_2 8 rfl rfl)
theorem dX1_answers_56 : decode cX1_answers 56 = .ok (.if_icmp .eq 13, 3) := dk_159 0 13 (dk_at dksX1_answers_2 9 rfl rfl)
theorem dX1_answers_59 : decode cX1_answers 59 = .ok (.iload_n 2, 1) := dk_28 (dk_at dksX1_answers_2 12 rfl rfl)
theorem dX1_answers_60 : decode cX1_answers 60 = .ok (.iload 7, 2) := dk_21 7 (dk_at dksX1_answers_2 13 rfl rfl)
theorem dX1_answers_62 : decode cX1_answers 62 = .ok (.iconst 0, 1) := dk_3 (dk_at dksX1_answers_2 15 rfl rfl)
theorem dX1_answers_63 : decode cX1_answers 63 = .ok (.invokestatic 77, 3) := dk_184 0 77 (dk_at dksX1_answers_2 16 rfl rfl)
theorem dX1_answers_66 : decode cX1_answers 66 = .ok (.if_icmp .ne 7, 3) := dk_160 0 7 (dk_at dksX1_answers_2 19 rfl rfl)
theorem dX1_answers_69 : decode cX1_answers 69 = .ok (.iconst 1, 1) := dk_4 (dk_at dksX1_answers_2 22 rfl rfl)
theorem dX1_answers_70 : decode cX1_answers 70 = .ok (.goto 4, 3) := dk_167 0 4 (dk_at dksX1_answers_3 0 rfl rfl)
theorem dX1_answers_73 : decode cX1_answers 73 = .ok (.iconst 0, 1) := dk_3 (dk_at dksX1_answers_3 3 rfl rfl)
theorem dX1_answers_74 : decode cX1_answers 74 = .ok (.istore 8, 2) := dk_54 8 (dk_at dksX1_answers_3 4 rfl rfl)
theorem dX1_answers_76 : decode cX1_answers 76 = .ok (.iload 8, 2) := dk_21 8 (dk_at dksX1_answers_3 6 rfl rfl)
theorem dX1_answers_78 : decode cX1_answers 78 = .ok (.ifCond .eq 39, 3) := dk_153 0 39 (dk_at dksX1_answers_3 8 rfl rfl)
theorem dX1_answers_81 : decode cX1_answers 81 = .ok (.iload_n 3, 1) := dk_29 (dk_at dksX1_answers_3 11 rfl rfl)
theorem dX1_answers_82 : decode cX1_answers 82 = .ok (.iconst (-1), 1) := dk_2 (dk_at dksX1_answers_3 12 rfl rfl)
theorem dX1_answers_83 : decode cX1_answers 83 = .ok (.if_icmp .eq 13, 3) := dk_159 0 13 (dk_at dksX1_answers_3 13 rfl rfl)
theorem dX1_answers_86 : decode cX1_answers 86 = .ok (.iload_n 3, 1) := dk_29 (dk_at dksX1_answers_3 16 rfl rfl)
theorem dX1_answers_87 : decode cX1_answers 87 = .ok (.iload 7, 2) := dk_21 7 (dk_at dksX1_answers_3 17 rfl rfl)
theorem dX1_answers_89 : decode cX1_answers 89 = .ok (.iconst 1, 1) := dk_4 (dk_at dksX1_answers_3 19 rfl rfl)
theorem dX1_answers_90 : decode cX1_answers 90 = .ok (.invokestatic 77, 3) := dk_184 0 77 (dk_at dksX1_answers_3 20 rfl rfl)
theorem dX1_answers_93 : decode cX1_answers 93 = .ok (.if_icmp .ne 24, 3) := dk_160 0 24 (dk_at dksX1_answers_4 0 rfl rfl)
theorem dX1_answers_96 : decode cX1_answers 96 = .ok (.iload 4, 2) := dk_21 4 (dk_at dksX1_answers_4 3 rfl rfl)
theorem dX1_answers_98 : decode cX1_answers 98 = .ok (.iconst (-1), 1) := dk_2 (dk_at dksX1_answers_4 5 rfl rfl)
theorem dX1_answers_99 : decode cX1_answers 99 = .ok (.if_icmp .eq 14, 3) := dk_159 0 14 (dk_at dksX1_answers_4 6 rfl rfl)
theorem dX1_answers_102 : decode cX1_answers 102 = .ok (.iload 4, 2) := dk_21 4 (dk_at dksX1_answers_4 9 rfl rfl)
theorem dX1_answers_104 : decode cX1_answers 104 = .ok (.iload 7, 2) := dk_21 7 (dk_at dksX1_answers_4 11 rfl rfl)
theorem dX1_answers_106 : decode cX1_answers 106 = .ok (.iconst 2, 1) := dk_5 (dk_at dksX1_answers_4 13 rfl rfl)
theorem dX1_answers_107 : decode cX1_answers 107 = .ok (.invokestatic 77, 3) := dk_184 0 77 (dk_at dksX1_answers_4 14 rfl rfl)
theorem dX1_answers_110 : decode cX1_answers 110 = .ok (.if_icmp .ne 7, 3) := dk_160 0 7 (dk_at dksX1_answers_4 17 rfl rfl)
theorem dX1_answers_113 : decode cX1_answers 113 = .ok (.iconst 1, 1) := dk_4 (dk_at dksX1_answers_4 20 rfl rfl)
theorem dX1_answers_114 : decode cX1_answers 114 = .ok (.goto 4, 3) := dk_167 0 4 (dk_at dksX1_answers_4 21 rfl rfl)
theorem dX1_answers_117 : decode cX1_answers 117 = .ok (.iconst 0, 1) := dk_3 (dk_at dksX1_answers_5 0 rfl rfl)
theorem dX1_answers_118 : decode cX1_answers 118 = .ok (.istore 8, 2) := dk_54 8 (dk_at dksX1_answers_5 1 rfl rfl)
theorem dX1_answers_120 : decode cX1_answers 120 = .ok (.iload 5, 2) := dk_21 5 (dk_at dksX1_answers_5 3 rfl rfl)
theorem dX1_answers_122 : decode cX1_answers 122 = .ok (.iload 8, 2) := dk_21 8 (dk_at dksX1_answers_5 5 rfl rfl)
theorem dX1_answers_124 : decode cX1_answers 124 = .ok (.ifCond .eq 7, 3) := dk_153 0 7 (dk_at dksX1_answers_5 7 rfl rfl)
theorem dX1_answers_127 : decode cX1_answers 127 = .ok (.iconst 1, 1) := dk_4 (dk_at dksX1_answers_5 10 rfl rfl)
theorem dX1_answers_128 : decode cX1_answers 128 = .ok (.goto 4, 3) := dk_167 0 4 (dk_at dksX1_answers_5 11 rfl rfl)
theorem dX1_answers_131 : decode cX1_answers 131 = .ok (.iconst 0, 1) := dk_3 (dk_at dksX1_answers_5 14 rfl rfl)
theorem dX1_answers_132 : decode cX1_answers 132 = .ok (.iadd, 1) := dk_96 (dk_at dksX1_answers_5 15 rfl rfl)
theorem dX1_answers_133 : decode cX1_answers 133 = .ok (.istore 5, 2) := dk_54 5 (dk_at dksX1_answers_5 16 rfl rfl)
theorem dX1_answers_135 : decode cX1_answers 135 = .ok (.iinc 6 1, 3) := dk_132 6 1 (dk_at dksX1_answers_5 18 rfl rfl)
theorem dX1_answers_138 : decode cX1_answers 138 = .ok (.goto (-123), 3) := dk_167 255 133 (dk_at dksX1_answers_5 21 rfl rfl)
theorem dX1_answers_141 : decode cX1_answers 141 = .ok (.iload 5, 2) := dk_21 5 (dk_at dksX1_answers_6 0 rfl rfl)
theorem dX1_answers_143 : decode cX1_answers 143 = .ok (.ireturn, 1) := dk_172 (dk_at dksX1_answers_6 2 rfl rfl)
abbrev cX1_checkGoal : ByteArray := prog_1_method_59_code
def yX1_checkGoal : MethodName := ⟨RX1, "checkGoal", "(IIII)V"⟩
def dkwX1_checkGoal_4 : List UInt8 := [167, 0, 4, 3, 184, 0, 85, 177]
abbrev dktX1_checkGoal_4 : List UInt8 := dkwX1_checkGoal_4 ++ []
def dkwX1_checkGoal_3 : List UInt8 := [21, 4, 2, 161, 0, 24, 21, 4, 21, 5, 5, 164, 0, 8, 16, 100, 167, 0, 4, 3, 162, 0, 7, 4]
abbrev dktX1_checkGoal_3 : List UInt8 := dkwX1_checkGoal_3 ++ dktX1_checkGoal_4
def dkwX1_checkGoal_2 : List UInt8 := [29, 21, 5, 4, 164, 0, 8, 16, 100, 167, 0, 4, 3, 162, 0, 7, 4, 167, 0, 4, 3, 184, 0, 85]
abbrev dktX1_checkGoal_2 : List UInt8 := dkwX1_checkGoal_2 ++ dktX1_checkGoal_3
def dkwX1_checkGoal_1 : List UInt8 := [28, 2, 161, 0, 13, 28, 16, 100, 162, 0, 7, 4, 167, 0, 4, 3, 184, 0, 85, 29, 2, 161, 0, 23]
abbrev dktX1_checkGoal_1 : List UInt8 := dkwX1_checkGoal_1 ++ dktX1_checkGoal_2
def dkwX1_checkGoal_0 : List UInt8 := [42, 27, 182, 0, 166, 42, 180, 0, 21, 180, 0, 55, 27, 182, 0, 70, 192, 0, 38, 182, 0, 74, 54, 5]
abbrev dktX1_checkGoal_0 : List UInt8 := dkwX1_checkGoal_0 ++ dktX1_checkGoal_1
theorem dksX1_checkGoal_0 : cX1_checkGoal.data.toList.drop 0 = dktX1_checkGoal_0 := by decide +kernel
theorem dksX1_checkGoal_1 : cX1_checkGoal.data.toList.drop 24 = dktX1_checkGoal_1 := dk_seg dksX1_checkGoal_0 24 rfl rfl
theorem dksX1_checkGoal_2 : cX1_checkGoal.data.toList.drop 48 = dktX1_checkGoal_2 := dk_seg dksX1_checkGoal_1 24 rfl rfl
theorem dksX1_checkGoal_3 : cX1_checkGoal.data.toList.drop 72 = dktX1_checkGoal_3 := dk_seg dksX1_checkGoal_2 24 rfl rfl
theorem dksX1_checkGoal_4 : cX1_checkGoal.data.toList.drop 96 = dktX1_checkGoal_4 := dk_seg dksX1_checkGoal_3 24 rfl rfl
theorem dX1_checkGoal_0 : decode cX1_checkGoal 0 = .ok (.aload_n 0, 1) := dk_42 (dk_at dksX1_checkGoal_0 0 rfl rfl)
theorem dX1_checkGoal_1 : decode cX1_checkGoal 1 = .ok (.iload_n 1, 1) := dk_27 (dk_at dksX1_checkGoal_0 1 rfl rfl)
theorem dX1_checkGoal_2 : decode cX1_checkGoal 2 = .ok (.invokevirtual 166, 3) := dk_182 0 166 (dk_at dksX1_checkGoal_0 2 rfl rfl)
theorem dX1_checkGoal_5 : decode cX1_checkGoal 5 = .ok (.aload_n 0, 1) := dk_42 (dk_at dksX1_checkGoal_0 5 rfl rfl)
theorem dX1_checkGoal_6 : decode cX1_checkGoal 6 = .ok (.getfield 21, 3) := dk_180 0 21 (dk_at dksX1_checkGoal_0 6 rfl rfl)
theorem dX1_checkGoal_9 : decode cX1_checkGoal 9 = .ok (.getfield 55, 3) := dk_180 0 55 (dk_at dksX1_checkGoal_0 9 rfl rfl)
theorem dX1_checkGoal_12 : decode cX1_checkGoal 12 = .ok (.iload_n 1, 1) := dk_27 (dk_at dksX1_checkGoal_0 12 rfl rfl)
theorem dX1_checkGoal_13 : decode cX1_checkGoal 13 = .ok (.invokevirtual 70, 3) := dk_182 0 70 (dk_at dksX1_checkGoal_0 13 rfl rfl)
theorem dX1_checkGoal_16 : decode cX1_checkGoal 16 = .ok (.checkcast 38, 3) := dk_192 0 38 (dk_at dksX1_checkGoal_0 16 rfl rfl)
theorem dX1_checkGoal_19 : decode cX1_checkGoal 19 = .ok (.invokevirtual 74, 3) := dk_182 0 74 (dk_at dksX1_checkGoal_0 19 rfl rfl)
theorem dX1_checkGoal_22 : decode cX1_checkGoal 22 = .ok (.istore 5, 2) := dk_54 5 (dk_at dksX1_checkGoal_0 22 rfl rfl)
theorem dX1_checkGoal_24 : decode cX1_checkGoal 24 = .ok (.iload_n 2, 1) := dk_28 (dk_at dksX1_checkGoal_1 0 rfl rfl)
theorem dX1_checkGoal_25 : decode cX1_checkGoal 25 = .ok (.iconst (-1), 1) := dk_2 (dk_at dksX1_checkGoal_1 1 rfl rfl)
theorem dX1_checkGoal_26 : decode cX1_checkGoal 26 = .ok (.if_icmp .lt 13, 3) := dk_161 0 13 (dk_at dksX1_checkGoal_1 2 rfl rfl)
theorem dX1_checkGoal_29 : decode cX1_checkGoal 29 = .ok (.iload_n 2, 1) := dk_28 (dk_at dksX1_checkGoal_1 5 rfl rfl)
theorem dX1_checkGoal_30 : decode cX1_checkGoal 30 = .ok (.bipush 100, 2) := dk_16 100 (dk_at dksX1_checkGoal_1 6 rfl rfl)
theorem dX1_checkGoal_32 : decode cX1_checkGoal 32 = .ok (.if_icmp .ge 7, 3) := dk_162 0 7 (dk_at dksX1_checkGoal_1 8 rfl rfl)
theorem dX1_checkGoal_35 : decode cX1_checkGoal 35 = .ok (.iconst 1, 1) := dk_4 (dk_at dksX1_checkGoal_1 11 rfl rfl)
theorem dX1_checkGoal_36 : decode cX1_checkGoal 36 = .ok (.goto 4, 3) := dk_167 0 4 (dk_at dksX1_checkGoal_1 12 rfl rfl)
theorem dX1_checkGoal_39 : decode cX1_checkGoal 39 = .ok (.iconst 0, 1) := dk_3 (dk_at dksX1_checkGoal_1 15 rfl rfl)
theorem dX1_checkGoal_40 : decode cX1_checkGoal 40 = .ok (.invokestatic 85, 3) := dk_184 0 85 (dk_at dksX1_checkGoal_1 16 rfl rfl)
theorem dX1_checkGoal_43 : decode cX1_checkGoal 43 = .ok (.iload_n 3, 1) := dk_29 (dk_at dksX1_checkGoal_1 19 rfl rfl)
theorem dX1_checkGoal_44 : decode cX1_checkGoal 44 = .ok (.iconst (-1), 1) := dk_2 (dk_at dksX1_checkGoal_1 20 rfl rfl)
theorem dX1_checkGoal_45 : decode cX1_checkGoal 45 = .ok (.if_icmp .lt 23, 3) := dk_161 0 23 (dk_at dksX1_checkGoal_1 21 rfl rfl)
theorem dX1_checkGoal_48 : decode cX1_checkGoal 48 = .ok (.iload_n 3, 1) := dk_29 (dk_at dksX1_checkGoal_2 0 rfl rfl)
theorem dX1_checkGoal_49 : decode cX1_checkGoal 49 = .ok (.iload 5, 2) := dk_21 5 (dk_at dksX1_checkGoal_2 1 rfl rfl)
theorem dX1_checkGoal_51 : decode cX1_checkGoal 51 = .ok (.iconst 1, 1) := dk_4 (dk_at dksX1_checkGoal_2 3 rfl rfl)
theorem dX1_checkGoal_52 : decode cX1_checkGoal 52 = .ok (.if_icmp .le 8, 3) := dk_164 0 8 (dk_at dksX1_checkGoal_2 4 rfl rfl)
theorem dX1_checkGoal_55 : decode cX1_checkGoal 55 = .ok (.bipush 100, 2) := dk_16 100 (dk_at dksX1_checkGoal_2 7 rfl rfl)
theorem dX1_checkGoal_57 : decode cX1_checkGoal 57 = .ok (.goto 4, 3) := dk_167 0 4 (dk_at dksX1_checkGoal_2 9 rfl rfl)
theorem dX1_checkGoal_60 : decode cX1_checkGoal 60 = .ok (.iconst 0, 1) := dk_3 (dk_at dksX1_checkGoal_2 12 rfl rfl)
theorem dX1_checkGoal_61 : decode cX1_checkGoal 61 = .ok (.if_icmp .ge 7, 3) := dk_162 0 7 (dk_at dksX1_checkGoal_2 13 rfl rfl)
theorem dX1_checkGoal_64 : decode cX1_checkGoal 64 = .ok (.iconst 1, 1) := dk_4 (dk_at dksX1_checkGoal_2 16 rfl rfl)
theorem dX1_checkGoal_65 : decode cX1_checkGoal 65 = .ok (.goto 4, 3) := dk_167 0 4 (dk_at dksX1_checkGoal_2 17 rfl rfl)
theorem dX1_checkGoal_68 : decode cX1_checkGoal 68 = .ok (.iconst 0, 1) := dk_3 (dk_at dksX1_checkGoal_2 20 rfl rfl)
theorem dX1_checkGoal_69 : decode cX1_checkGoal 69 = .ok (.invokestatic 85, 3) := dk_184 0 85 (dk_at dksX1_checkGoal_2 21 rfl rfl)
theorem dX1_checkGoal_72 : decode cX1_checkGoal 72 = .ok (.iload 4, 2) := dk_21 4 (dk_at dksX1_checkGoal_3 0 rfl rfl)
theorem dX1_checkGoal_74 : decode cX1_checkGoal 74 = .ok (.iconst (-1), 1) := dk_2 (dk_at dksX1_checkGoal_3 2 rfl rfl)
theorem dX1_checkGoal_75 : decode cX1_checkGoal 75 = .ok (.if_icmp .lt 24, 3) := dk_161 0 24 (dk_at dksX1_checkGoal_3 3 rfl rfl)
theorem dX1_checkGoal_78 : decode cX1_checkGoal 78 = .ok (.iload 4, 2) := dk_21 4 (dk_at dksX1_checkGoal_3 6 rfl rfl)
theorem dX1_checkGoal_80 : decode cX1_checkGoal 80 = .ok (.iload 5, 2) := dk_21 5 (dk_at dksX1_checkGoal_3 8 rfl rfl)
theorem dX1_checkGoal_82 : decode cX1_checkGoal 82 = .ok (.iconst 2, 1) := dk_5 (dk_at dksX1_checkGoal_3 10 rfl rfl)
theorem dX1_checkGoal_83 : decode cX1_checkGoal 83 = .ok (.if_icmp .le 8, 3) := dk_164 0 8 (dk_at dksX1_checkGoal_3 11 rfl rfl)
theorem dX1_checkGoal_86 : decode cX1_checkGoal 86 = .ok (.bipush 100, 2) := dk_16 100 (dk_at dksX1_checkGoal_3 14 rfl rfl)
theorem dX1_checkGoal_88 : decode cX1_checkGoal 88 = .ok (.goto 4, 3) := dk_167 0 4 (dk_at dksX1_checkGoal_3 16 rfl rfl)
theorem dX1_checkGoal_91 : decode cX1_checkGoal 91 = .ok (.iconst 0, 1) := dk_3 (dk_at dksX1_checkGoal_3 19 rfl rfl)
theorem dX1_checkGoal_92 : decode cX1_checkGoal 92 = .ok (.if_icmp .ge 7, 3) := dk_162 0 7 (dk_at dksX1_checkGoal_3 20 rfl rfl)
theorem dX1_checkGoal_95 : decode cX1_checkGoal 95 = .ok (.iconst 1, 1) := dk_4 (dk_at dksX1_checkGoal_3 23 rfl rfl)
theorem dX1_checkGoal_96 : decode cX1_checkGoal 96 = .ok (.goto 4, 3) := dk_167 0 4 (dk_at dksX1_checkGoal_4 0 rfl rfl)
theorem dX1_checkGoal_99 : decode cX1_checkGoal 99 = .ok (.iconst 0, 1) := dk_3 (dk_at dksX1_checkGoal_4 3 rfl rfl)
theorem dX1_checkGoal_100 : decode cX1_checkGoal 100 = .ok (.invokestatic 85, 3) := dk_184 0 85 (dk_at dksX1_checkGoal_4 4 rfl rfl)
theorem dX1_checkGoal_103 : decode cX1_checkGoal 103 = .ok (.return_, 1) := dk_177 (dk_at dksX1_checkGoal_4 7 rfl rfl)
abbrev cX1_goals : ByteArray := prog_1_method_61_code
def yX1_goals : MethodName := ⟨RX1, "goals", "(IIII)I"⟩
def dkwX1_goals_1 : List UInt8 := [104, 28, 96, 4, 96, 21, 5, 104, 29, 96, 4, 96, 21, 5, 104, 21, 4, 96, 4, 96, 182, 1, 144, 172]
abbrev dktX1_goals_1 : List UInt8 := dkwX1_goals_1 ++ []
def dkwX1_goals_0 : List UInt8 := [42, 27, 28, 29, 21, 4, 182, 1, 137, 16, 101, 54, 5, 187, 1, 141, 89, 42, 183, 1, 143, 27, 21, 5]
abbrev dktX1_goals_0 : List UInt8 := dkwX1_goals_0 ++ dktX1_goals_1
theorem dksX1_goals_0 : cX1_goals.data.toList.drop 0 = dktX1_goals_0 := by decide +kernel
theorem dksX1_goals_1 : cX1_goals.data.toList.drop 24 = dktX1_goals_1 := dk_seg dksX1_goals_0 24 rfl rfl
theorem dX1_goals_0 : decode cX1_goals 0 = .ok (.aload_n 0, 1) := dk_42 (dk_at dksX1_goals_0 0 rfl rfl)
theorem dX1_goals_1 : decode cX1_goals 1 = .ok (.iload_n 1, 1) := dk_27 (dk_at dksX1_goals_0 1 rfl rfl)
theorem dX1_goals_2 : decode cX1_goals 2 = .ok (.iload_n 2, 1) := dk_28 (dk_at dksX1_goals_0 2 rfl rfl)
theorem dX1_goals_3 : decode cX1_goals 3 = .ok (.iload_n 3, 1) := dk_29 (dk_at dksX1_goals_0 3 rfl rfl)
theorem dX1_goals_4 : decode cX1_goals 4 = .ok (.iload 4, 2) := dk_21 4 (dk_at dksX1_goals_0 4 rfl rfl)
theorem dX1_goals_6 : decode cX1_goals 6 = .ok (.invokevirtual 393, 3) := dk_182 1 137 (dk_at dksX1_goals_0 6 rfl rfl)
theorem dX1_goals_9 : decode cX1_goals 9 = .ok (.bipush 101, 2) := dk_16 101 (dk_at dksX1_goals_0 9 rfl rfl)
theorem dX1_goals_11 : decode cX1_goals 11 = .ok (.istore 5, 2) := dk_54 5 (dk_at dksX1_goals_0 11 rfl rfl)
theorem dX1_goals_13 : decode cX1_goals 13 = .ok (.new 397, 3) := dk_187 1 141 (dk_at dksX1_goals_0 13 rfl rfl)
theorem dX1_goals_16 : decode cX1_goals 16 = .ok (.dup, 1) := dk_89 (dk_at dksX1_goals_0 16 rfl rfl)
theorem dX1_goals_17 : decode cX1_goals 17 = .ok (.aload_n 0, 1) := dk_42 (dk_at dksX1_goals_0 17 rfl rfl)
theorem dX1_goals_18 : decode cX1_goals 18 = .ok (.invokespecial 399, 3) := dk_183 1 143 (dk_at dksX1_goals_0 18 rfl rfl)
theorem dX1_goals_21 : decode cX1_goals 21 = .ok (.iload_n 1, 1) := dk_27 (dk_at dksX1_goals_0 21 rfl rfl)
theorem dX1_goals_22 : decode cX1_goals 22 = .ok (.iload 5, 2) := dk_21 5 (dk_at dksX1_goals_0 22 rfl rfl)
theorem dX1_goals_24 : decode cX1_goals 24 = .ok (.imul, 1) := dk_104 (dk_at dksX1_goals_1 0 rfl rfl)
theorem dX1_goals_25 : decode cX1_goals 25 = .ok (.iload_n 2, 1) := dk_28 (dk_at dksX1_goals_1 1 rfl rfl)
theorem dX1_goals_26 : decode cX1_goals 26 = .ok (.iadd, 1) := dk_96 (dk_at dksX1_goals_1 2 rfl rfl)
theorem dX1_goals_27 : decode cX1_goals 27 = .ok (.iconst 1, 1) := dk_4 (dk_at dksX1_goals_1 3 rfl rfl)
theorem dX1_goals_28 : decode cX1_goals 28 = .ok (.iadd, 1) := dk_96 (dk_at dksX1_goals_1 4 rfl rfl)
theorem dX1_goals_29 : decode cX1_goals 29 = .ok (.iload 5, 2) := dk_21 5 (dk_at dksX1_goals_1 5 rfl rfl)
theorem dX1_goals_31 : decode cX1_goals 31 = .ok (.imul, 1) := dk_104 (dk_at dksX1_goals_1 7 rfl rfl)
theorem dX1_goals_32 : decode cX1_goals 32 = .ok (.iload_n 3, 1) := dk_29 (dk_at dksX1_goals_1 8 rfl rfl)
theorem dX1_goals_33 : decode cX1_goals 33 = .ok (.iadd, 1) := dk_96 (dk_at dksX1_goals_1 9 rfl rfl)
theorem dX1_goals_34 : decode cX1_goals 34 = .ok (.iconst 1, 1) := dk_4 (dk_at dksX1_goals_1 10 rfl rfl)
theorem dX1_goals_35 : decode cX1_goals 35 = .ok (.iadd, 1) := dk_96 (dk_at dksX1_goals_1 11 rfl rfl)
theorem dX1_goals_36 : decode cX1_goals 36 = .ok (.iload 5, 2) := dk_21 5 (dk_at dksX1_goals_1 12 rfl rfl)
theorem dX1_goals_38 : decode cX1_goals 38 = .ok (.imul, 1) := dk_104 (dk_at dksX1_goals_1 14 rfl rfl)
theorem dX1_goals_39 : decode cX1_goals 39 = .ok (.iload 4, 2) := dk_21 4 (dk_at dksX1_goals_1 15 rfl rfl)
theorem dX1_goals_41 : decode cX1_goals 41 = .ok (.iadd, 1) := dk_96 (dk_at dksX1_goals_1 17 rfl rfl)
theorem dX1_goals_42 : decode cX1_goals 42 = .ok (.iconst 1, 1) := dk_4 (dk_at dksX1_goals_1 18 rfl rfl)
theorem dX1_goals_43 : decode cX1_goals 43 = .ok (.iadd, 1) := dk_96 (dk_at dksX1_goals_1 19 rfl rfl)
theorem dX1_goals_44 : decode cX1_goals 44 = .ok (.invokevirtual 400, 3) := dk_182 1 144 (dk_at dksX1_goals_1 20 rfl rfl)
theorem dX1_goals_47 : decode cX1_goals 47 = .ok (.ireturn, 1) := dk_172 (dk_at dksX1_goals_1 23 rfl rfl)
abbrev cX1_matches : ByteArray := prog_1_method_66_code
def yX1_matches : MethodName := ⟨RX1, "matches", "(II)I"⟩
def dkwX1_matches_1 : List UInt8 := [182, 0, 58, 163, 0, 7, 4, 167, 0, 4, 3, 184, 0, 85, 42, 45, 180, 0, 217, 28, 182, 1, 167, 172]
abbrev dktX1_matches_1 : List UInt8 := dkwX1_matches_1 ++ []
def dkwX1_matches_0 : List UInt8 := [42, 180, 0, 21, 180, 1, 18, 27, 184, 1, 24, 78, 28, 4, 161, 0, 18, 28, 45, 180, 0, 217]
abbrev dktX1_matches_0 : List UInt8 := dkwX1_matches_0 ++ dktX1_matches_1
theorem dksX1_matches_0 : cX1_matches.data.toList.drop 0 = dktX1_matches_0 := by decide +kernel
theorem dksX1_matches_1 : cX1_matches.data.toList.drop 22 = dktX1_matches_1 := dk_seg dksX1_matches_0 22 rfl rfl
theorem dX1_matches_0 : decode cX1_matches 0 = .ok (.aload_n 0, 1) := dk_42 (dk_at dksX1_matches_0 0 rfl rfl)
theorem dX1_matches_1 : decode cX1_matches 1 = .ok (.getfield 21, 3) := dk_180 0 21 (dk_at dksX1_matches_0 1 rfl rfl)
theorem dX1_matches_4 : decode cX1_matches 4 = .ok (.getfield 274, 3) := dk_180 1 18 (dk_at dksX1_matches_0 4 rfl rfl)
theorem dX1_matches_7 : decode cX1_matches 7 = .ok (.iload_n 1, 1) := dk_27 (dk_at dksX1_matches_0 7 rfl rfl)
theorem dX1_matches_8 : decode cX1_matches 8 = .ok (.invokestatic 280, 3) := dk_184 1 24 (dk_at dksX1_matches_0 8 rfl rfl)
theorem dX1_matches_11 : decode cX1_matches 11 = .ok (.astore_n 3, 1) := dk_78 (dk_at dksX1_matches_0 11 rfl rfl)
theorem dX1_matches_12 : decode cX1_matches 12 = .ok (.iload_n 2, 1) := dk_28 (dk_at dksX1_matches_0 12 rfl rfl)
theorem dX1_matches_13 : decode cX1_matches 13 = .ok (.iconst 1, 1) := dk_4 (dk_at dksX1_matches_0 13 rfl rfl)
theorem dX1_matches_14 : decode cX1_matches 14 = .ok (.if_icmp .lt 18, 3) := dk_161 0 18 (dk_at dksX1_matches_0 14 rfl rfl)
theorem dX1_matches_17 : decode cX1_matches 17 = .ok (.iload_n 2, 1) := dk_28 (dk_at dksX1_matches_0 17 rfl rfl)
theorem dX1_matches_18 : decode cX1_matches 18 = .ok (.aload_n 3, 1) := dk_45 (dk_at dksX1_matches_0 18 rfl rfl)
theorem dX1_matches_19 : decode cX1_matches 19 = .ok (.getfield 217, 3) := dk_180 0 217 (dk_at dksX1_matches_0 19 rfl rfl)
theorem dX1_matches_22 : decode cX1_matches 22 = .ok (.invokevirtual 58, 3) := dk_182 0 58 (dk_at dksX1_matches_1 0 rfl rfl)
theorem dX1_matches_25 : decode cX1_matches 25 = .ok (.if_icmp .gt 7, 3) := dk_163 0 7 (dk_at dksX1_matches_1 3 rfl rfl)
theorem dX1_matches_28 : decode cX1_matches 28 = .ok (.iconst 1, 1) := dk_4 (dk_at dksX1_matches_1 6 rfl rfl)
theorem dX1_matches_29 : decode cX1_matches 29 = .ok (.goto 4, 3) := dk_167 0 4 (dk_at dksX1_matches_1 7 rfl rfl)
theorem dX1_matches_32 : decode cX1_matches 32 = .ok (.iconst 0, 1) := dk_3 (dk_at dksX1_matches_1 10 rfl rfl)
theorem dX1_matches_33 : decode cX1_matches 33 = .ok (.invokestatic 85, 3) := dk_184 0 85 (dk_at dksX1_matches_1 11 rfl rfl)
theorem dX1_matches_36 : decode cX1_matches 36 = .ok (.aload_n 0, 1) := dk_42 (dk_at dksX1_matches_1 14 rfl rfl)
theorem dX1_matches_37 : decode cX1_matches 37 = .ok (.aload_n 3, 1) := dk_45 (dk_at dksX1_matches_1 15 rfl rfl)
theorem dX1_matches_38 : decode cX1_matches 38 = .ok (.getfield 217, 3) := dk_180 0 217 (dk_at dksX1_matches_1 16 rfl rfl)
theorem dX1_matches_41 : decode cX1_matches 41 = .ok (.iload_n 2, 1) := dk_28 (dk_at dksX1_matches_1 19 rfl rfl)
theorem dX1_matches_42 : decode cX1_matches 42 = .ok (.invokevirtual 423, 3) := dk_182 1 167 (dk_at dksX1_matches_1 20 rfl rfl)
theorem dX1_matches_45 : decode cX1_matches 45 = .ok (.ireturn, 1) := dk_172 (dk_at dksX1_matches_1 23 rfl rfl)
abbrev cX1_count : ByteArray := prog_1_method_65_code
def yX1_count : MethodName := ⟨RX1, "count", "(Ljava/util/ArrayList;I)I"⟩
def dkwX1_count_1 : List UInt8 := [180, 0, 105, 184, 1, 96, 25, 4, 183, 1, 38, 184, 1, 112, 87, 45, 3, 46, 172]
abbrev dktX1_count_1 : List UInt8 := dkwX1_count_1 ++ []
def dkwX1_count_0 : List UInt8 := [4, 188, 10, 78, 45, 186, 1, 164, 0, 0, 58, 4, 187, 1, 31, 89, 43, 28, 42, 180, 0, 21]
abbrev dktX1_count_0 : List UInt8 := dkwX1_count_0 ++ dktX1_count_1
theorem dksX1_count_0 : cX1_count.data.toList.drop 0 = dktX1_count_0 := by decide +kernel
theorem dksX1_count_1 : cX1_count.data.toList.drop 22 = dktX1_count_1 := dk_seg dksX1_count_0 22 rfl rfl
theorem dX1_count_0 : decode cX1_count 0 = .ok (.iconst 1, 1) := dk_4 (dk_at dksX1_count_0 0 rfl rfl)
theorem dX1_count_1 : decode cX1_count 1 = .ok (.newarray .int, 2) := dk_188_10 (dk_at dksX1_count_0 1 rfl rfl)
theorem dX1_count_3 : decode cX1_count 3 = .ok (.astore_n 3, 1) := dk_78 (dk_at dksX1_count_0 3 rfl rfl)
theorem dX1_count_4 : decode cX1_count 4 = .ok (.aload_n 3, 1) := dk_45 (dk_at dksX1_count_0 4 rfl rfl)
theorem dX1_count_5 : decode cX1_count 5 = .ok (.invokedynamic 420, 5) := by decide +kernel
theorem dX1_count_10 : decode cX1_count 10 = .ok (.astore 4, 2) := dk_58 4 (dk_at dksX1_count_0 10 rfl rfl)
theorem dX1_count_12 : decode cX1_count 12 = .ok (.new 287, 3) := dk_187 1 31 (dk_at dksX1_count_0 12 rfl rfl)
theorem dX1_count_15 : decode cX1_count 15 = .ok (.dup, 1) := dk_89 (dk_at dksX1_count_0 15 rfl rfl)
theorem dX1_count_16 : decode cX1_count 16 = .ok (.aload_n 1, 1) := dk_43 (dk_at dksX1_count_0 16 rfl rfl)
theorem dX1_count_17 : decode cX1_count 17 = .ok (.iload_n 2, 1) := dk_28 (dk_at dksX1_count_0 17 rfl rfl)
theorem dX1_count_18 : decode cX1_count 18 = .ok (.aload_n 0, 1) := dk_42 (dk_at dksX1_count_0 18 rfl rfl)
theorem dX1_count_19 : decode cX1_count 19 = .ok (.getfield 21, 3) := dk_180 0 21 (dk_at dksX1_count_0 19 rfl rfl)
theorem dX1_count_22 : decode cX1_count 22 = .ok (.getfield 105, 3) := dk_180 0 105 (dk_at dksX1_count_1 0 rfl rfl)
theorem dX1_count_25 : decode cX1_count 25 = .ok (.invokestatic 352, 3) := dk_184 1 96 (dk_at dksX1_count_1 3 rfl rfl)
theorem dX1_count_28 : decode cX1_count 28 = .ok (.aload 4, 2) := dk_25 4 (dk_at dksX1_count_1 6 rfl rfl)
theorem dX1_count_30 : decode cX1_count 30 = .ok (.invokespecial 294, 3) := dk_183 1 38 (dk_at dksX1_count_1 8 rfl rfl)
theorem dX1_count_33 : decode cX1_count 33 = .ok (.invokestatic 368, 3) := dk_184 1 112 (dk_at dksX1_count_1 11 rfl rfl)
theorem dX1_count_36 : decode cX1_count 36 = .ok (.pop, 1) := dk_87 (dk_at dksX1_count_1 14 rfl rfl)
theorem dX1_count_37 : decode cX1_count 37 = .ok (.aload_n 3, 1) := dk_45 (dk_at dksX1_count_1 15 rfl rfl)
theorem dX1_count_38 : decode cX1_count 38 = .ok (.iconst 0, 1) := dk_3 (dk_at dksX1_count_1 16 rfl rfl)
theorem dX1_count_39 : decode cX1_count 39 = .ok (.iaload, 1) := dk_46 (dk_at dksX1_count_1 17 rfl rfl)
theorem dX1_count_40 : decode cX1_count 40 = .ok (.ireturn, 1) := dk_172 (dk_at dksX1_count_1 18 rfl rfl)
abbrev cX1_lambda_count_1 : ByteArray := prog_1_method_85_code
def yX1_lambda_count_1 : MethodName := ⟨RX1, "lambda$count$1", "([I[I[I)Z"⟩
def dkwX1_lambda_count_1_0 : List UInt8 := [42, 3, 92, 46, 4, 96, 79, 4, 172]
abbrev dktX1_lambda_count_1_0 : List UInt8 := dkwX1_lambda_count_1_0 ++ []
theorem dksX1_lambda_count_1_0 : cX1_lambda_count_1.data.toList.drop 0 = dktX1_lambda_count_1_0 := by decide +kernel
theorem dX1_lambda_count_1_0 : decode cX1_lambda_count_1 0 = .ok (.aload_n 0, 1) := dk_42 (dk_at dksX1_lambda_count_1_0 0 rfl rfl)
theorem dX1_lambda_count_1_1 : decode cX1_lambda_count_1 1 = .ok (.iconst 0, 1) := dk_3 (dk_at dksX1_lambda_count_1_0 1 rfl rfl)
theorem dX1_lambda_count_1_2 : decode cX1_lambda_count_1 2 = .ok (.dup2, 1) := dk_92 (dk_at dksX1_lambda_count_1_0 2 rfl rfl)
theorem dX1_lambda_count_1_3 : decode cX1_lambda_count_1 3 = .ok (.iaload, 1) := dk_46 (dk_at dksX1_lambda_count_1_0 3 rfl rfl)
theorem dX1_lambda_count_1_4 : decode cX1_lambda_count_1 4 = .ok (.iconst 1, 1) := dk_4 (dk_at dksX1_lambda_count_1_0 4 rfl rfl)
theorem dX1_lambda_count_1_5 : decode cX1_lambda_count_1 5 = .ok (.iadd, 1) := dk_96 (dk_at dksX1_lambda_count_1_0 5 rfl rfl)
theorem dX1_lambda_count_1_6 : decode cX1_lambda_count_1 6 = .ok (.iastore, 1) := dk_79 (dk_at dksX1_lambda_count_1_0 6 rfl rfl)
theorem dX1_lambda_count_1_7 : decode cX1_lambda_count_1 7 = .ok (.iconst 1, 1) := dk_4 (dk_at dksX1_lambda_count_1_0 7 rfl rfl)
theorem dX1_lambda_count_1_8 : decode cX1_lambda_count_1 8 = .ok (.ireturn, 1) := dk_172 (dk_at dksX1_lambda_count_1_0 8 rfl rfl)
abbrev cX1_planAt : ByteArray := prog_1_method_70_code
def yX1_planAt : MethodName := ⟨RX1, "planAt", "(II)I"⟩
def dkwX1_planAt_1 : List UInt8 := [42, 45, 182, 1, 184, 28, 182, 0, 70, 182, 1, 187, 172]
abbrev dktX1_planAt_1 : List UInt8 := dkwX1_planAt_1 ++ []
def dkwX1_planAt_0 : List UInt8 := [42, 180, 0, 21, 180, 1, 18, 27, 184, 1, 24, 78, 28, 45, 182, 0, 223, 184, 0, 62, 45, 180, 0, 217]
abbrev dktX1_planAt_0 : List UInt8 := dkwX1_planAt_0 ++ dktX1_planAt_1
theorem dksX1_planAt_0 : cX1_planAt.data.toList.drop 0 = dktX1_planAt_0 := by decide +kernel
theorem dksX1_planAt_1 : cX1_planAt.data.toList.drop 24 = dktX1_planAt_1 := dk_seg dksX1_planAt_0 24 rfl rfl
theorem dX1_planAt_0 : decode cX1_planAt 0 = .ok (.aload_n 0, 1) := dk_42 (dk_at dksX1_planAt_0 0 rfl rfl)
theorem dX1_planAt_1 : decode cX1_planAt 1 = .ok (.getfield 21, 3) := dk_180 0 21 (dk_at dksX1_planAt_0 1 rfl rfl)
theorem dX1_planAt_4 : decode cX1_planAt 4 = .ok (.getfield 274, 3) := dk_180 1 18 (dk_at dksX1_planAt_0 4 rfl rfl)
theorem dX1_planAt_7 : decode cX1_planAt 7 = .ok (.iload_n 1, 1) := dk_27 (dk_at dksX1_planAt_0 7 rfl rfl)
theorem dX1_planAt_8 : decode cX1_planAt 8 = .ok (.invokestatic 280, 3) := dk_184 1 24 (dk_at dksX1_planAt_0 8 rfl rfl)
theorem dX1_planAt_11 : decode cX1_planAt 11 = .ok (.astore_n 3, 1) := dk_78 (dk_at dksX1_planAt_0 11 rfl rfl)
theorem dX1_planAt_12 : decode cX1_planAt 12 = .ok (.iload_n 2, 1) := dk_28 (dk_at dksX1_planAt_0 12 rfl rfl)
theorem dX1_planAt_13 : decode cX1_planAt 13 = .ok (.aload_n 3, 1) := dk_45 (dk_at dksX1_planAt_0 13 rfl rfl)
theorem dX1_planAt_14 : decode cX1_planAt 14 = .ok (.invokevirtual 223, 3) := dk_182 0 223 (dk_at dksX1_planAt_0 14 rfl rfl)
theorem dX1_planAt_17 : decode cX1_planAt 17 = .ok (.invokestatic 62, 3) := dk_184 0 62 (dk_at dksX1_planAt_0 17 rfl rfl)
theorem dX1_planAt_20 : decode cX1_planAt 20 = .ok (.aload_n 3, 1) := dk_45 (dk_at dksX1_planAt_0 20 rfl rfl)
theorem dX1_planAt_21 : decode cX1_planAt 21 = .ok (.getfield 217, 3) := dk_180 0 217 (dk_at dksX1_planAt_0 21 rfl rfl)
theorem dX1_planAt_24 : decode cX1_planAt 24 = .ok (.aload_n 0, 1) := dk_42 (dk_at dksX1_planAt_1 0 rfl rfl)
theorem dX1_planAt_25 : decode cX1_planAt 25 = .ok (.aload_n 3, 1) := dk_45 (dk_at dksX1_planAt_1 1 rfl rfl)
theorem dX1_planAt_26 : decode cX1_planAt 26 = .ok (.invokevirtual 440, 3) := dk_182 1 184 (dk_at dksX1_planAt_1 2 rfl rfl)
theorem dX1_planAt_29 : decode cX1_planAt 29 = .ok (.iload_n 2, 1) := dk_28 (dk_at dksX1_planAt_1 5 rfl rfl)
theorem dX1_planAt_30 : decode cX1_planAt 30 = .ok (.invokevirtual 70, 3) := dk_182 0 70 (dk_at dksX1_planAt_1 6 rfl rfl)
theorem dX1_planAt_33 : decode cX1_planAt 33 = .ok (.invokevirtual 443, 3) := dk_182 1 187 (dk_at dksX1_planAt_1 9 rfl rfl)
theorem dX1_planAt_36 : decode cX1_planAt 36 = .ok (.ireturn, 1) := dk_172 (dk_at dksX1_planAt_1 12 rfl rfl)
abbrev cX1_plan : ByteArray := prog_1_method_69_code
def yX1_plan : MethodName := ⟨RX1, "plan", "(LRulehearth$Clause;)Ljava/util/ArrayList;"⟩
def dkwX1_plan_8 : List UInt8 := [167, 255, 80, 45, 176]
abbrev dktX1_plan_8 : List UInt8 := dkwX1_plan_8 ++ []
def dkwX1_plan_7 : List UInt8 := [21, 8, 54, 5, 132, 6, 1, 167, 255, 113, 45, 25, 4, 182, 0, 42, 87, 44, 25, 4, 182, 1, 28, 87]
abbrev dktX1_plan_7 : List UInt8 := dkwX1_plan_7 ++ dktX1_plan_8
def dkwX1_plan_6 : List UInt8 := [153, 0, 8, 21, 5, 153, 0, 15, 21, 8, 21, 5, 160, 0, 16, 21, 9, 153, 0, 11, 25, 7, 58, 4]
abbrev dktX1_plan_6 : List UInt8 := dkwX1_plan_6 ++ dktX1_plan_7
def dkwX1_plan_5 : List UInt8 := [180, 1, 149, 182, 1, 181, 162, 0, 7, 4, 167, 0, 4, 3, 54, 9, 25, 4, 198, 0, 25, 21, 8]
abbrev dktX1_plan_5 : List UInt8 := dkwX1_plan_5 ++ dktX1_plan_6
def dkwX1_plan_4 : List UInt8 := [180, 0, 21, 180, 0, 105, 25, 7, 180, 1, 149, 182, 1, 181, 42, 180, 0, 21, 180, 0, 105, 25, 4]
abbrev dktX1_plan_4 : List UInt8 := dkwX1_plan_4 ++ dktX1_plan_5
def dkwX1_plan_3 : List UInt8 := [182, 0, 70, 192, 0, 169, 184, 1, 177, 128, 54, 8, 132, 9, 1, 167, 255, 225, 25, 4, 198, 0, 40, 42]
abbrev dktX1_plan_3 : List UInt8 := dkwX1_plan_3 ++ dktX1_plan_4
def dkwX1_plan_2 : List UInt8 := [58, 7, 3, 54, 8, 3, 54, 9, 21, 9, 45, 182, 0, 58, 162, 0, 28, 21, 8, 25, 7, 45, 21, 9]
abbrev dktX1_plan_2 : List UInt8 := dkwX1_plan_2 ++ dktX1_plan_3
def dkwX1_plan_1 : List UInt8 := [3, 54, 5, 3, 54, 6, 21, 6, 44, 182, 0, 58, 162, 0, 140, 44, 21, 6, 182, 0, 70, 192, 0, 169]
abbrev dktX1_plan_1 : List UInt8 := dkwX1_plan_1 ++ dktX1_plan_2
def dkwX1_plan_0 : List UInt8 := [43, 184, 1, 173, 77, 187, 0, 25, 89, 6, 183, 0, 27, 78, 44, 182, 0, 230, 154, 0, 175, 1, 58, 4]
abbrev dktX1_plan_0 : List UInt8 := dkwX1_plan_0 ++ dktX1_plan_1
theorem dksX1_plan_0 : cX1_plan.data.toList.drop 0 = dktX1_plan_0 := by decide +kernel
theorem dksX1_plan_1 : cX1_plan.data.toList.drop 24 = dktX1_plan_1 := dk_seg dksX1_plan_0 24 rfl rfl
theorem dksX1_plan_2 : cX1_plan.data.toList.drop 48 = dktX1_plan_2 := dk_seg dksX1_plan_1 24 rfl rfl
theorem dksX1_plan_3 : cX1_plan.data.toList.drop 72 = dktX1_plan_3 := dk_seg dksX1_plan_2 24 rfl rfl
theorem dksX1_plan_4 : cX1_plan.data.toList.drop 96 = dktX1_plan_4 := dk_seg dksX1_plan_3 24 rfl rfl
theorem dksX1_plan_5 : cX1_plan.data.toList.drop 119 = dktX1_plan_5 := dk_seg dksX1_plan_4 23 rfl rfl
theorem dksX1_plan_6 : cX1_plan.data.toList.drop 142 = dktX1_plan_6 := dk_seg dksX1_plan_5 23 rfl rfl
theorem dksX1_plan_7 : cX1_plan.data.toList.drop 166 = dktX1_plan_7 := dk_seg dksX1_plan_6 24 rfl rfl
theorem dksX1_plan_8 : cX1_plan.data.toList.drop 190 = dktX1_plan_8 := dk_seg dksX1_plan_7 24 rfl rfl
theorem dX1_plan_0 : decode cX1_plan 0 = .ok (.aload_n 1, 1) := dk_43 (dk_at dksX1_plan_0 0 rfl rfl)
theorem dX1_plan_1 : decode cX1_plan 1 = .ok (.invokestatic 429, 3) := dk_184 1 173 (dk_at dksX1_plan_0 1 rfl rfl)
theorem dX1_plan_4 : decode cX1_plan 4 = .ok (.astore_n 2, 1) := dk_77 (dk_at dksX1_plan_0 4 rfl rfl)
theorem dX1_plan_5 : decode cX1_plan 5 = .ok (.new 25, 3) := dk_187 0 25 (dk_at dksX1_plan_0 5 rfl rfl)
theorem dX1_plan_8 : decode cX1_plan 8 = .ok (.dup, 1) := dk_89 (dk_at dksX1_plan_0 8 rfl rfl)
theorem dX1_plan_9 : decode cX1_plan 9 = .ok (.iconst 3, 1) := dk_6 (dk_at dksX1_plan_0 9 rfl rfl)
theorem dX1_plan_10 : decode cX1_plan 10 = .ok (.invokespecial 27, 3) := dk_183 0 27 (dk_at dksX1_plan_0 10 rfl rfl)
theorem dX1_plan_13 : decode cX1_plan 13 = .ok (.astore_n 3, 1) := dk_78 (dk_at dksX1_plan_0 13 rfl rfl)
theorem dX1_plan_14 : decode cX1_plan 14 = .ok (.aload_n 2, 1) := dk_44 (dk_at dksX1_plan_0 14 rfl rfl)
theorem dX1_plan_15 : decode cX1_plan 15 = .ok (.invokevirtual 230, 3) := dk_182 0 230 (dk_at dksX1_plan_0 15 rfl rfl)
theorem dX1_plan_18 : decode cX1_plan 18 = .ok (.ifCond .ne 175, 3) := dk_154 0 175 (dk_at dksX1_plan_0 18 rfl rfl)
theorem dX1_plan_21 : decode cX1_plan 21 = .ok (.aconst_null, 1) := dk_1 (dk_at dksX1_plan_0 21 rfl rfl)
theorem dX1_plan_22 : decode cX1_plan 22 = .ok (.astore 4, 2) := dk_58 4 (dk_at dksX1_plan_0 22 rfl rfl)
theorem dX1_plan_24 : decode cX1_plan 24 = .ok (.iconst 0, 1) := dk_3 (dk_at dksX1_plan_1 0 rfl rfl)
theorem dX1_plan_25 : decode cX1_plan 25 = .ok (.istore 5, 2) := dk_54 5 (dk_at dksX1_plan_1 1 rfl rfl)
theorem dX1_plan_27 : decode cX1_plan 27 = .ok (.iconst 0, 1) := dk_3 (dk_at dksX1_plan_1 3 rfl rfl)
theorem dX1_plan_28 : decode cX1_plan 28 = .ok (.istore 6, 2) := dk_54 6 (dk_at dksX1_plan_1 4 rfl rfl)
theorem dX1_plan_30 : decode cX1_plan 30 = .ok (.iload 6, 2) := dk_21 6 (dk_at dksX1_plan_1 6 rfl rfl)
theorem dX1_plan_32 : decode cX1_plan 32 = .ok (.aload_n 2, 1) := dk_44 (dk_at dksX1_plan_1 8 rfl rfl)
theorem dX1_plan_33 : decode cX1_plan 33 = .ok (.invokevirtual 58, 3) := dk_182 0 58 (dk_at dksX1_plan_1 9 rfl rfl)
theorem dX1_plan_36 : decode cX1_plan 36 = .ok (.if_icmp .ge 140, 3) := dk_162 0 140 (dk_at dksX1_plan_1 12 rfl rfl)
theorem dX1_plan_39 : decode cX1_plan 39 = .ok (.aload_n 2, 1) := dk_44 (dk_at dksX1_plan_1 15 rfl rfl)
theorem dX1_plan_40 : decode cX1_plan 40 = .ok (.iload 6, 2) := dk_21 6 (dk_at dksX1_plan_1 16 rfl rfl)
theorem dX1_plan_42 : decode cX1_plan 42 = .ok (.invokevirtual 70, 3) := dk_182 0 70 (dk_at dksX1_plan_1 18 rfl rfl)
theorem dX1_plan_45 : decode cX1_plan 45 = .ok (.checkcast 169, 3) := dk_192 0 169 (dk_at dksX1_plan_1 21 rfl rfl)
theorem dX1_plan_48 : decode cX1_plan 48 = .ok (.astore 7, 2) := dk_58 7 (dk_at dksX1_plan_2 0 rfl rfl)
theorem dX1_plan_50 : decode cX1_plan 50 = .ok (.iconst 0, 1) := dk_3 (dk_at dksX1_plan_2 2 rfl rfl)
theorem dX1_plan_51 : decode cX1_plan 51 = .ok (.istore 8, 2) := dk_54 8 (dk_at dksX1_plan_2 3 rfl rfl)
theorem dX1_plan_53 : decode cX1_plan 53 = .ok (.iconst 0, 1) := dk_3 (dk_at dksX1_plan_2 5 rfl rfl)
theorem dX1_plan_54 : decode cX1_plan 54 = .ok (.istore 9, 2) := dk_54 9 (dk_at dksX1_plan_2 6 rfl rfl)
theorem dX1_plan_56 : decode cX1_plan 56 = .ok (.iload 9, 2) := dk_21 9 (dk_at dksX1_plan_2 8 rfl rfl)
theorem dX1_plan_58 : decode cX1_plan 58 = .ok (.aload_n 3, 1) := dk_45 (dk_at dksX1_plan_2 10 rfl rfl)
theorem dX1_plan_59 : decode cX1_plan 59 = .ok (.invokevirtual 58, 3) := dk_182 0 58 (dk_at dksX1_plan_2 11 rfl rfl)
theorem dX1_plan_62 : decode cX1_plan 62 = .ok (.if_icmp .ge 28, 3) := dk_162 0 28 (dk_at dksX1_plan_2 14 rfl rfl)
theorem dX1_plan_65 : decode cX1_plan 65 = .ok (.iload 8, 2) := dk_21 8 (dk_at dksX1_plan_2 17 rfl rfl)
theorem dX1_plan_67 : decode cX1_plan 67 = .ok (.aload 7, 2) := dk_25 7 (dk_at dksX1_plan_2 19 rfl rfl)
theorem dX1_plan_69 : decode cX1_plan 69 = .ok (.aload_n 3, 1) := dk_45 (dk_at dksX1_plan_2 21 rfl rfl)
theorem dX1_plan_70 : decode cX1_plan 70 = .ok (.iload 9, 2) := dk_21 9 (dk_at dksX1_plan_2 22 rfl rfl)
theorem dX1_plan_72 : decode cX1_plan 72 = .ok (.invokevirtual 70, 3) := dk_182 0 70 (dk_at dksX1_plan_3 0 rfl rfl)
theorem dX1_plan_75 : decode cX1_plan 75 = .ok (.checkcast 169, 3) := dk_192 0 169 (dk_at dksX1_plan_3 3 rfl rfl)
theorem dX1_plan_78 : decode cX1_plan 78 = .ok (.invokestatic 433, 3) := dk_184 1 177 (dk_at dksX1_plan_3 6 rfl rfl)
theorem dX1_plan_81 : decode cX1_plan 81 = .ok (.ior, 1) := dk_128 (dk_at dksX1_plan_3 9 rfl rfl)
theorem dX1_plan_82 : decode cX1_plan 82 = .ok (.istore 8, 2) := dk_54 8 (dk_at dksX1_plan_3 10 rfl rfl)
theorem dX1_plan_84 : decode cX1_plan 84 = .ok (.iinc 9 1, 3) := dk_132 9 1 (dk_at dksX1_plan_3 12 rfl rfl)
theorem dX1_plan_87 : decode cX1_plan 87 = .ok (.goto (-31), 3) := dk_167 255 225 (dk_at dksX1_plan_3 15 rfl rfl)
theorem dX1_plan_90 : decode cX1_plan 90 = .ok (.aload 4, 2) := dk_25 4 (dk_at dksX1_plan_3 18 rfl rfl)
theorem dX1_plan_92 : decode cX1_plan 92 = .ok (.ifnull 40, 3) := dk_198 0 40 (dk_at dksX1_plan_3 20 rfl rfl)
theorem dX1_plan_95 : decode cX1_plan 95 = .ok (.aload_n 0, 1) := dk_42 (dk_at dksX1_plan_3 23 rfl rfl)
theorem dX1_plan_96 : decode cX1_plan 96 = .ok (.getfield 21, 3) := dk_180 0 21 (dk_at dksX1_plan_4 0 rfl rfl)
theorem dX1_plan_99 : decode cX1_plan 99 = .ok (.getfield 105, 3) := dk_180 0 105 (dk_at dksX1_plan_4 3 rfl rfl)
theorem dX1_plan_102 : decode cX1_plan 102 = .ok (.aload 7, 2) := dk_25 7 (dk_at dksX1_plan_4 6 rfl rfl)
theorem dX1_plan_104 : decode cX1_plan 104 = .ok (.getfield 405, 3) := dk_180 1 149 (dk_at dksX1_plan_4 8 rfl rfl)
theorem dX1_plan_107 : decode cX1_plan 107 = .ok (.invokevirtual 437, 3) := dk_182 1 181 (dk_at dksX1_plan_4 11 rfl rfl)
theorem dX1_plan_110 : decode cX1_plan 110 = .ok (.aload_n 0, 1) := dk_42 (dk_at dksX1_plan_4 14 rfl rfl)
theorem dX1_plan_111 : decode cX1_plan 111 = .ok (.getfield 21, 3) := dk_180 0 21 (dk_at dksX1_plan_4 15 rfl rfl)
theorem dX1_plan_114 : decode cX1_plan 114 = .ok (.getfield 105, 3) := dk_180 0 105 (dk_at dksX1_plan_4 18 rfl rfl)
theorem dX1_plan_117 : decode cX1_plan 117 = .ok (.aload 4, 2) := dk_25 4 (dk_at dksX1_plan_4 21 rfl rfl)
theorem dX1_plan_119 : decode cX1_plan 119 = .ok (.getfield 405, 3) := dk_180 1 149 (dk_at dksX1_plan_5 0 rfl rfl)
theorem dX1_plan_122 : decode cX1_plan 122 = .ok (.invokevirtual 437, 3) := dk_182 1 181 (dk_at dksX1_plan_5 3 rfl rfl)
theorem dX1_plan_125 : decode cX1_plan 125 = .ok (.if_icmp .ge 7, 3) := dk_162 0 7 (dk_at dksX1_plan_5 6 rfl rfl)
theorem dX1_plan_128 : decode cX1_plan 128 = .ok (.iconst 1, 1) := dk_4 (dk_at dksX1_plan_5 9 rfl rfl)
theorem dX1_plan_129 : decode cX1_plan 129 = .ok (.goto 4, 3) := dk_167 0 4 (dk_at dksX1_plan_5 10 rfl rfl)
theorem dX1_plan_132 : decode cX1_plan 132 = .ok (.iconst 0, 1) := dk_3 (dk_at dksX1_plan_5 13 rfl rfl)
theorem dX1_plan_133 : decode cX1_plan 133 = .ok (.istore 9, 2) := dk_54 9 (dk_at dksX1_plan_5 14 rfl rfl)
theorem dX1_plan_135 : decode cX1_plan 135 = .ok (.aload 4, 2) := dk_25 4 (dk_at dksX1_plan_5 16 rfl rfl)
theorem dX1_plan_137 : decode cX1_plan 137 = .ok (.ifnull 25, 3) := dk_198 0 25 (dk_at dksX1_plan_5 18 rfl rfl)
theorem dX1_plan_140 : decode cX1_plan 140 = .ok (.iload 8, 2) := dk_21 8 (dk_at dksX1_plan_5 21 rfl rfl)
theorem dX1_plan_142 : decode cX1_plan 142 = .ok (.ifCond .eq 8, 3) := dk_153 0 8 (dk_at dksX1_plan_6 0 rfl rfl)
theorem dX1_plan_145 : decode cX1_plan 145 = .ok (.iload 5, 2) := dk_21 5 (dk_at dksX1_plan_6 3 rfl rfl)
theorem dX1_plan_147 : decode cX1_plan 147 = .ok (.ifCond .eq 15, 3) := dk_153 0 15 (dk_at dksX1_plan_6 5 rfl rfl)
theorem dX1_plan_150 : decode cX1_plan 150 = .ok (.iload 8, 2) := dk_21 8 (dk_at dksX1_plan_6 8 rfl rfl)
theorem dX1_plan_152 : decode cX1_plan 152 = .ok (.iload 5, 2) := dk_21 5 (dk_at dksX1_plan_6 10 rfl rfl)
theorem dX1_plan_154 : decode cX1_plan 154 = .ok (.if_icmp .ne 16, 3) := dk_160 0 16 (dk_at dksX1_plan_6 12 rfl rfl)
theorem dX1_plan_157 : decode cX1_plan 157 = .ok (.iload 9, 2) := dk_21 9 (dk_at dksX1_plan_6 15 rfl rfl)
theorem dX1_plan_159 : decode cX1_plan 159 = .ok (.ifCond .eq 11, 3) := dk_153 0 11 (dk_at dksX1_plan_6 17 rfl rfl)
theorem dX1_plan_162 : decode cX1_plan 162 = .ok (.aload 7, 2) := dk_25 7 (dk_at dksX1_plan_6 20 rfl rfl)
theorem dX1_plan_164 : decode cX1_plan 164 = .ok (.astore 4, 2) := dk_58 4 (dk_at dksX1_plan_6 22 rfl rfl)
theorem dX1_plan_166 : decode cX1_plan 166 = .ok (.iload 8, 2) := dk_21 8 (dk_at dksX1_plan_7 0 rfl rfl)
theorem dX1_plan_168 : decode cX1_plan 168 = .ok (.istore 5, 2) := dk_54 5 (dk_at dksX1_plan_7 2 rfl rfl)
theorem dX1_plan_170 : decode cX1_plan 170 = .ok (.iinc 6 1, 3) := dk_132 6 1 (dk_at dksX1_plan_7 4 rfl rfl)
theorem dX1_plan_173 : decode cX1_plan 173 = .ok (.goto (-143), 3) := dk_167 255 113 (dk_at dksX1_plan_7 7 rfl rfl)
theorem dX1_plan_176 : decode cX1_plan 176 = .ok (.aload_n 3, 1) := dk_45 (dk_at dksX1_plan_7 10 rfl rfl)
theorem dX1_plan_177 : decode cX1_plan 177 = .ok (.aload 4, 2) := dk_25 4 (dk_at dksX1_plan_7 11 rfl rfl)
theorem dX1_plan_179 : decode cX1_plan 179 = .ok (.invokevirtual 42, 3) := dk_182 0 42 (dk_at dksX1_plan_7 13 rfl rfl)
theorem dX1_plan_182 : decode cX1_plan 182 = .ok (.pop, 1) := dk_87 (dk_at dksX1_plan_7 16 rfl rfl)
theorem dX1_plan_183 : decode cX1_plan 183 = .ok (.aload_n 2, 1) := dk_44 (dk_at dksX1_plan_7 17 rfl rfl)
theorem dX1_plan_184 : decode cX1_plan 184 = .ok (.aload 4, 2) := dk_25 4 (dk_at dksX1_plan_7 18 rfl rfl)
theorem dX1_plan_186 : decode cX1_plan 186 = .ok (.invokevirtual 284, 3) := dk_182 1 28 (dk_at dksX1_plan_7 20 rfl rfl)
theorem dX1_plan_189 : decode cX1_plan 189 = .ok (.pop, 1) := dk_87 (dk_at dksX1_plan_7 23 rfl rfl)
theorem dX1_plan_190 : decode cX1_plan 190 = .ok (.goto (-176), 3) := dk_167 255 80 (dk_at dksX1_plan_8 0 rfl rfl)
theorem dX1_plan_193 : decode cX1_plan 193 = .ok (.aload_n 3, 1) := dk_45 (dk_at dksX1_plan_8 3 rfl rfl)
theorem dX1_plan_194 : decode cX1_plan 194 = .ok (.areturn, 1) := dk_176 (dk_at dksX1_plan_8 4 rfl rfl)
abbrev cX1_atomsOf : ByteArray := prog_1_method_68_code
def yX1_atomsOf : MethodName := ⟨RX1, "atomsOf", "(LRulehearth$Clause;)Ljava/util/ArrayList;"⟩
def dkwX1_atomsOf_2 : List UInt8 := [182, 0, 70, 192, 0, 169, 182, 0, 42, 87, 132, 2, 1, 167, 255, 209, 43, 176]
abbrev dktX1_atomsOf_2 : List UInt8 := dkwX1_atomsOf_2 ++ []
def dkwX1_atomsOf_1 : List UInt8 := [180, 0, 217, 28, 182, 0, 70, 192, 0, 169, 180, 0, 220, 154, 0, 19, 43, 42, 180, 0, 217, 28]
abbrev dktX1_atomsOf_1 : List UInt8 := dkwX1_atomsOf_1 ++ dktX1_atomsOf_2
def dkwX1_atomsOf_0 : List UInt8 := [187, 0, 25, 89, 6, 183, 0, 27, 76, 3, 61, 28, 42, 180, 0, 217, 182, 0, 58, 162, 0, 42, 42]
abbrev dktX1_atomsOf_0 : List UInt8 := dkwX1_atomsOf_0 ++ dktX1_atomsOf_1
theorem dksX1_atomsOf_0 : cX1_atomsOf.data.toList.drop 0 = dktX1_atomsOf_0 := by decide +kernel
theorem dksX1_atomsOf_1 : cX1_atomsOf.data.toList.drop 23 = dktX1_atomsOf_1 := dk_seg dksX1_atomsOf_0 23 rfl rfl
theorem dksX1_atomsOf_2 : cX1_atomsOf.data.toList.drop 45 = dktX1_atomsOf_2 := dk_seg dksX1_atomsOf_1 22 rfl rfl
theorem dX1_atomsOf_0 : decode cX1_atomsOf 0 = .ok (.new 25, 3) := dk_187 0 25 (dk_at dksX1_atomsOf_0 0 rfl rfl)
theorem dX1_atomsOf_3 : decode cX1_atomsOf 3 = .ok (.dup, 1) := dk_89 (dk_at dksX1_atomsOf_0 3 rfl rfl)
theorem dX1_atomsOf_4 : decode cX1_atomsOf 4 = .ok (.iconst 3, 1) := dk_6 (dk_at dksX1_atomsOf_0 4 rfl rfl)
theorem dX1_atomsOf_5 : decode cX1_atomsOf 5 = .ok (.invokespecial 27, 3) := dk_183 0 27 (dk_at dksX1_atomsOf_0 5 rfl rfl)
theorem dX1_atomsOf_8 : decode cX1_atomsOf 8 = .ok (.astore_n 1, 1) := dk_76 (dk_at dksX1_atomsOf_0 8 rfl rfl)
theorem dX1_atomsOf_9 : decode cX1_atomsOf 9 = .ok (.iconst 0, 1) := dk_3 (dk_at dksX1_atomsOf_0 9 rfl rfl)
theorem dX1_atomsOf_10 : decode cX1_atomsOf 10 = .ok (.istore_n 2, 1) := dk_61 (dk_at dksX1_atomsOf_0 10 rfl rfl)
theorem dX1_atomsOf_11 : decode cX1_atomsOf 11 = .ok (.iload_n 2, 1) := dk_28 (dk_at dksX1_atomsOf_0 11 rfl rfl)
theorem dX1_atomsOf_12 : decode cX1_atomsOf 12 = .ok (.aload_n 0, 1) := dk_42 (dk_at dksX1_atomsOf_0 12 rfl rfl)
theorem dX1_atomsOf_13 : decode cX1_atomsOf 13 = .ok (.getfield 217, 3) := dk_180 0 217 (dk_at dksX1_atomsOf_0 13 rfl rfl)
theorem dX1_atomsOf_16 : decode cX1_atomsOf 16 = .ok (.invokevirtual 58, 3) := dk_182 0 58 (dk_at dksX1_atomsOf_0 16 rfl rfl)
theorem dX1_atomsOf_19 : decode cX1_atomsOf 19 = .ok (.if_icmp .ge 42, 3) := dk_162 0 42 (dk_at dksX1_atomsOf_0 19 rfl rfl)
theorem dX1_atomsOf_22 : decode cX1_atomsOf 22 = .ok (.aload_n 0, 1) := dk_42 (dk_at dksX1_atomsOf_0 22 rfl rfl)
theorem dX1_atomsOf_23 : decode cX1_atomsOf 23 = .ok (.getfield 217, 3) := dk_180 0 217 (dk_at dksX1_atomsOf_1 0 rfl rfl)
theorem dX1_atomsOf_26 : decode cX1_atomsOf 26 = .ok (.iload_n 2, 1) := dk_28 (dk_at dksX1_atomsOf_1 3 rfl rfl)
theorem dX1_atomsOf_27 : decode cX1_atomsOf 27 = .ok (.invokevirtual 70, 3) := dk_182 0 70 (dk_at dksX1_atomsOf_1 4 rfl rfl)
theorem dX1_atomsOf_30 : decode cX1_atomsOf 30 = .ok (.checkcast 169, 3) := dk_192 0 169 (dk_at dksX1_atomsOf_1 7 rfl rfl)
theorem dX1_atomsOf_33 : decode cX1_atomsOf 33 = .ok (.getfield 220, 3) := dk_180 0 220 (dk_at dksX1_atomsOf_1 10 rfl rfl)
theorem dX1_atomsOf_36 : decode cX1_atomsOf 36 = .ok (.ifCond .ne 19, 3) := dk_154 0 19 (dk_at dksX1_atomsOf_1 13 rfl rfl)
theorem dX1_atomsOf_39 : decode cX1_atomsOf 39 = .ok (.aload_n 1, 1) := dk_43 (dk_at dksX1_atomsOf_1 16 rfl rfl)
theorem dX1_atomsOf_40 : decode cX1_atomsOf 40 = .ok (.aload_n 0, 1) := dk_42 (dk_at dksX1_atomsOf_1 17 rfl rfl)
theorem dX1_atomsOf_41 : decode cX1_atomsOf 41 = .ok (.getfield 217, 3) := dk_180 0 217 (dk_at dksX1_atomsOf_1 18 rfl rfl)
theorem dX1_atomsOf_44 : decode cX1_atomsOf 44 = .ok (.iload_n 2, 1) := dk_28 (dk_at dksX1_atomsOf_1 21 rfl rfl)
theorem dX1_atomsOf_45 : decode cX1_atomsOf 45 = .ok (.invokevirtual 70, 3) := dk_182 0 70 (dk_at dksX1_atomsOf_2 0 rfl rfl)
theorem dX1_atomsOf_48 : decode cX1_atomsOf 48 = .ok (.checkcast 169, 3) := dk_192 0 169 (dk_at dksX1_atomsOf_2 3 rfl rfl)
theorem dX1_atomsOf_51 : decode cX1_atomsOf 51 = .ok (.invokevirtual 42, 3) := dk_182 0 42 (dk_at dksX1_atomsOf_2 6 rfl rfl)
theorem dX1_atomsOf_54 : decode cX1_atomsOf 54 = .ok (.pop, 1) := dk_87 (dk_at dksX1_atomsOf_2 9 rfl rfl)
theorem dX1_atomsOf_55 : decode cX1_atomsOf 55 = .ok (.iinc 2 1, 3) := dk_132 2 1 (dk_at dksX1_atomsOf_2 10 rfl rfl)
theorem dX1_atomsOf_58 : decode cX1_atomsOf 58 = .ok (.goto (-47), 3) := dk_167 255 209 (dk_at dksX1_atomsOf_2 13 rfl rfl)
theorem dX1_atomsOf_61 : decode cX1_atomsOf 61 = .ok (.aload_n 1, 1) := dk_43 (dk_at dksX1_atomsOf_2 16 rfl rfl)
theorem dX1_atomsOf_62 : decode cX1_atomsOf 62 = .ok (.areturn, 1) := dk_176 (dk_at dksX1_atomsOf_2 17 rfl rfl)
abbrev cX1_haveCommon : ByteArray := prog_1_method_67_code
def yX1_haveCommon : MethodName := ⟨RX1, "haveCommon", "(LRulehearth$Item;LRulehearth$Item;)Z"⟩
def dkwX1_haveCommon_1 : List UInt8 := [153, 0, 7, 4, 167, 0, 4, 3, 128, 61, 132, 3, 1, 167, 255, 223, 28, 172]
abbrev dktX1_haveCommon_1 : List UInt8 := dkwX1_haveCommon_1 ++ []
def dkwX1_haveCommon_0 : List UInt8 := [3, 61, 3, 62, 29, 16, 8, 162, 0, 33, 28, 42, 29, 182, 1, 170, 153, 0, 15, 43, 29, 182, 1, 170]
abbrev dktX1_haveCommon_0 : List UInt8 := dkwX1_haveCommon_0 ++ dktX1_haveCommon_1
theorem dksX1_haveCommon_0 : cX1_haveCommon.data.toList.drop 0 = dktX1_haveCommon_0 := by decide +kernel
theorem dksX1_haveCommon_1 : cX1_haveCommon.data.toList.drop 24 = dktX1_haveCommon_1 := dk_seg dksX1_haveCommon_0 24 rfl rfl
theorem dX1_haveCommon_0 : decode cX1_haveCommon 0 = .ok (.iconst 0, 1) := dk_3 (dk_at dksX1_haveCommon_0 0 rfl rfl)
theorem dX1_haveCommon_1 : decode cX1_haveCommon 1 = .ok (.istore_n 2, 1) := dk_61 (dk_at dksX1_haveCommon_0 1 rfl rfl)
theorem dX1_haveCommon_2 : decode cX1_haveCommon 2 = .ok (.iconst 0, 1) := dk_3 (dk_at dksX1_haveCommon_0 2 rfl rfl)
theorem dX1_haveCommon_3 : decode cX1_haveCommon 3 = .ok (.istore_n 3, 1) := dk_62 (dk_at dksX1_haveCommon_0 3 rfl rfl)
theorem dX1_haveCommon_4 : decode cX1_haveCommon 4 = .ok (.iload_n 3, 1) := dk_29 (dk_at dksX1_haveCommon_0 4 rfl rfl)
theorem dX1_haveCommon_5 : decode cX1_haveCommon 5 = .ok (.bipush 8, 2) := dk_16 8 (dk_at dksX1_haveCommon_0 5 rfl rfl)
theorem dX1_haveCommon_7 : decode cX1_haveCommon 7 = .ok (.if_icmp .ge 33, 3) := dk_162 0 33 (dk_at dksX1_haveCommon_0 7 rfl rfl)
theorem dX1_haveCommon_10 : decode cX1_haveCommon 10 = .ok (.iload_n 2, 1) := dk_28 (dk_at dksX1_haveCommon_0 10 rfl rfl)
theorem dX1_haveCommon_11 : decode cX1_haveCommon 11 = .ok (.aload_n 0, 1) := dk_42 (dk_at dksX1_haveCommon_0 11 rfl rfl)
theorem dX1_haveCommon_12 : decode cX1_haveCommon 12 = .ok (.iload_n 3, 1) := dk_29 (dk_at dksX1_haveCommon_0 12 rfl rfl)
theorem dX1_haveCommon_13 : decode cX1_haveCommon 13 = .ok (.invokevirtual 426, 3) := dk_182 1 170 (dk_at dksX1_haveCommon_0 13 rfl rfl)
theorem dX1_haveCommon_16 : decode cX1_haveCommon 16 = .ok (.ifCond .eq 15, 3) := dk_153 0 15 (dk_at dksX1_haveCommon_0 16 rfl rfl)
theorem dX1_haveCommon_19 : decode cX1_haveCommon 19 = .ok (.aload_n 1, 1) := dk_43 (dk_at dksX1_haveCommon_0 19 rfl rfl)
theorem dX1_haveCommon_20 : decode cX1_haveCommon 20 = .ok (.iload_n 3, 1) := dk_29 (dk_at dksX1_haveCommon_0 20 rfl rfl)
theorem dX1_haveCommon_21 : decode cX1_haveCommon 21 = .ok (.invokevirtual 426, 3) := dk_182 1 170 (dk_at dksX1_haveCommon_0 21 rfl rfl)
theorem dX1_haveCommon_24 : decode cX1_haveCommon 24 = .ok (.ifCond .eq 7, 3) := dk_153 0 7 (dk_at dksX1_haveCommon_1 0 rfl rfl)
theorem dX1_haveCommon_27 : decode cX1_haveCommon 27 = .ok (.iconst 1, 1) := dk_4 (dk_at dksX1_haveCommon_1 3 rfl rfl)
theorem dX1_haveCommon_28 : decode cX1_haveCommon 28 = .ok (.goto 4, 3) := dk_167 0 4 (dk_at dksX1_haveCommon_1 4 rfl rfl)
theorem dX1_haveCommon_31 : decode cX1_haveCommon 31 = .ok (.iconst 0, 1) := dk_3 (dk_at dksX1_haveCommon_1 7 rfl rfl)
theorem dX1_haveCommon_32 : decode cX1_haveCommon 32 = .ok (.ior, 1) := dk_128 (dk_at dksX1_haveCommon_1 8 rfl rfl)
theorem dX1_haveCommon_33 : decode cX1_haveCommon 33 = .ok (.istore_n 2, 1) := dk_61 (dk_at dksX1_haveCommon_1 9 rfl rfl)
theorem dX1_haveCommon_34 : decode cX1_haveCommon 34 = .ok (.iinc 3 1, 3) := dk_132 3 1 (dk_at dksX1_haveCommon_1 10 rfl rfl)
theorem dX1_haveCommon_37 : decode cX1_haveCommon 37 = .ok (.goto (-33), 3) := dk_167 255 223 (dk_at dksX1_haveCommon_1 13 rfl rfl)
theorem dX1_haveCommon_40 : decode cX1_haveCommon 40 = .ok (.iload_n 2, 1) := dk_28 (dk_at dksX1_haveCommon_1 16 rfl rfl)
theorem dX1_haveCommon_41 : decode cX1_haveCommon 41 = .ok (.ireturn, 1) := dk_172 (dk_at dksX1_haveCommon_1 17 rfl rfl)
abbrev cX1_work : ByteArray := prog_1_method_71_code
def yX1_work : MethodName := ⟨RX1, "work", "(IZ)I"⟩
def dkwX1_work_2 : List UInt8 := [42, 25, 4, 21, 6, 182, 1, 167, 96, 54, 5, 132, 6, 1, 167, 255, 230, 21, 5, 172]
abbrev dktX1_work_2 : List UInt8 := dkwX1_work_2 ++ []
def dkwX1_work_1 : List UInt8 := [45, 184, 1, 173, 58, 4, 3, 54, 5, 4, 54, 6, 21, 6, 25, 4, 182, 0, 58, 163, 0, 22, 21, 5]
abbrev dktX1_work_1 : List UInt8 := dkwX1_work_1 ++ dktX1_work_2
def dkwX1_work_0 : List UInt8 := [42, 180, 0, 21, 180, 1, 18, 27, 184, 1, 24, 78, 28, 153, 0, 11, 42, 45, 182, 1, 184, 167, 0, 7]
abbrev dktX1_work_0 : List UInt8 := dkwX1_work_0 ++ dktX1_work_1
theorem dksX1_work_0 : cX1_work.data.toList.drop 0 = dktX1_work_0 := by decide +kernel
theorem dksX1_work_1 : cX1_work.data.toList.drop 24 = dktX1_work_1 := dk_seg dksX1_work_0 24 rfl rfl
theorem dksX1_work_2 : cX1_work.data.toList.drop 48 = dktX1_work_2 := dk_seg dksX1_work_1 24 rfl rfl
theorem dX1_work_0 : decode cX1_work 0 = .ok (.aload_n 0, 1) := dk_42 (dk_at dksX1_work_0 0 rfl rfl)
theorem dX1_work_1 : decode cX1_work 1 = .ok (.getfield 21, 3) := dk_180 0 21 (dk_at dksX1_work_0 1 rfl rfl)
theorem dX1_work_4 : decode cX1_work 4 = .ok (.getfield 274, 3) := dk_180 1 18 (dk_at dksX1_work_0 4 rfl rfl)
theorem dX1_work_7 : decode cX1_work 7 = .ok (.iload_n 1, 1) := dk_27 (dk_at dksX1_work_0 7 rfl rfl)
theorem dX1_work_8 : decode cX1_work 8 = .ok (.invokestatic 280, 3) := dk_184 1 24 (dk_at dksX1_work_0 8 rfl rfl)
theorem dX1_work_11 : decode cX1_work 11 = .ok (.astore_n 3, 1) := dk_78 (dk_at dksX1_work_0 11 rfl rfl)
theorem dX1_work_12 : decode cX1_work 12 = .ok (.iload_n 2, 1) := dk_28 (dk_at dksX1_work_0 12 rfl rfl)
theorem dX1_work_13 : decode cX1_work 13 = .ok (.ifCond .eq 11, 3) := dk_153 0 11 (dk_at dksX1_work_0 13 rfl rfl)
theorem dX1_work_16 : decode cX1_work 16 = .ok (.aload_n 0, 1) := dk_42 (dk_at dksX1_work_0 16 rfl rfl)
theorem dX1_work_17 : decode cX1_work 17 = .ok (.aload_n 3, 1) := dk_45 (dk_at dksX1_work_0 17 rfl rfl)
theorem dX1_work_18 : decode cX1_work 18 = .ok (.invokevirtual 440, 3) := dk_182 1 184 (dk_at dksX1_work_0 18 rfl rfl)
theorem dX1_work_21 : decode cX1_work 21 = .ok (.goto 7, 3) := dk_167 0 7 (dk_at dksX1_work_0 21 rfl rfl)
theorem dX1_work_24 : decode cX1_work 24 = .ok (.aload_n 3, 1) := dk_45 (dk_at dksX1_work_1 0 rfl rfl)
theorem dX1_work_25 : decode cX1_work 25 = .ok (.invokestatic 429, 3) := dk_184 1 173 (dk_at dksX1_work_1 1 rfl rfl)
theorem dX1_work_28 : decode cX1_work 28 = .ok (.astore 4, 2) := dk_58 4 (dk_at dksX1_work_1 4 rfl rfl)
theorem dX1_work_30 : decode cX1_work 30 = .ok (.iconst 0, 1) := dk_3 (dk_at dksX1_work_1 6 rfl rfl)
theorem dX1_work_31 : decode cX1_work 31 = .ok (.istore 5, 2) := dk_54 5 (dk_at dksX1_work_1 7 rfl rfl)
theorem dX1_work_33 : decode cX1_work 33 = .ok (.iconst 1, 1) := dk_4 (dk_at dksX1_work_1 9 rfl rfl)
theorem dX1_work_34 : decode cX1_work 34 = .ok (.istore 6, 2) := dk_54 6 (dk_at dksX1_work_1 10 rfl rfl)
theorem dX1_work_36 : decode cX1_work 36 = .ok (.iload 6, 2) := dk_21 6 (dk_at dksX1_work_1 12 rfl rfl)
theorem dX1_work_38 : decode cX1_work 38 = .ok (.aload 4, 2) := dk_25 4 (dk_at dksX1_work_1 14 rfl rfl)
theorem dX1_work_40 : decode cX1_work 40 = .ok (.invokevirtual 58, 3) := dk_182 0 58 (dk_at dksX1_work_1 16 rfl rfl)
theorem dX1_work_43 : decode cX1_work 43 = .ok (.if_icmp .gt 22, 3) := dk_163 0 22 (dk_at dksX1_work_1 19 rfl rfl)
theorem dX1_work_46 : decode cX1_work 46 = .ok (.iload 5, 2) := dk_21 5 (dk_at dksX1_work_1 22 rfl rfl)
theorem dX1_work_48 : decode cX1_work 48 = .ok (.aload_n 0, 1) := dk_42 (dk_at dksX1_work_2 0 rfl rfl)
theorem dX1_work_49 : decode cX1_work 49 = .ok (.aload 4, 2) := dk_25 4 (dk_at dksX1_work_2 1 rfl rfl)
theorem dX1_work_51 : decode cX1_work 51 = .ok (.iload 6, 2) := dk_21 6 (dk_at dksX1_work_2 3 rfl rfl)
theorem dX1_work_53 : decode cX1_work 53 = .ok (.invokevirtual 423, 3) := dk_182 1 167 (dk_at dksX1_work_2 5 rfl rfl)
theorem dX1_work_56 : decode cX1_work 56 = .ok (.iadd, 1) := dk_96 (dk_at dksX1_work_2 8 rfl rfl)
theorem dX1_work_57 : decode cX1_work 57 = .ok (.istore 5, 2) := dk_54 5 (dk_at dksX1_work_2 9 rfl rfl)
theorem dX1_work_59 : decode cX1_work 59 = .ok (.iinc 6 1, 3) := dk_132 6 1 (dk_at dksX1_work_2 11 rfl rfl)
theorem dX1_work_62 : decode cX1_work 62 = .ok (.goto (-26), 3) := dk_167 255 230 (dk_at dksX1_work_2 14 rfl rfl)
theorem dX1_work_65 : decode cX1_work 65 = .ok (.iload 5, 2) := dk_21 5 (dk_at dksX1_work_2 17 rfl rfl)
theorem dX1_work_67 : decode cX1_work 67 = .ok (.ireturn, 1) := dk_172 (dk_at dksX1_work_2 19 rfl rfl)
abbrev cX1_agenda : ByteArray := prog_1_method_72_code
def yX1_agenda : MethodName := ⟨RX1, "agenda", "(I)I"⟩
def dkwX1_agenda_1 : List UInt8 := [180, 0, 21, 27, 183, 1, 192, 182, 1, 195, 180, 1, 199, 172]
abbrev dktX1_agenda_1 : List UInt8 := dkwX1_agenda_1 ++ []
def dkwX1_agenda_0 : List UInt8 := [27, 155, 0, 12, 27, 7, 162, 0, 7, 4, 167, 0, 4, 3, 184, 0, 85, 187, 1, 190, 89, 42]
abbrev dktX1_agenda_0 : List UInt8 := dkwX1_agenda_0 ++ dktX1_agenda_1
theorem dksX1_agenda_0 : cX1_agenda.data.toList.drop 0 = dktX1_agenda_0 := by decide +kernel
theorem dksX1_agenda_1 : cX1_agenda.data.toList.drop 22 = dktX1_agenda_1 := dk_seg dksX1_agenda_0 22 rfl rfl
theorem dX1_agenda_0 : decode cX1_agenda 0 = .ok (.iload_n 1, 1) := dk_27 (dk_at dksX1_agenda_0 0 rfl rfl)
theorem dX1_agenda_1 : decode cX1_agenda 1 = .ok (.ifCond .lt 12, 3) := dk_155 0 12 (dk_at dksX1_agenda_0 1 rfl rfl)
theorem dX1_agenda_4 : decode cX1_agenda 4 = .ok (.iload_n 1, 1) := dk_27 (dk_at dksX1_agenda_0 4 rfl rfl)
theorem dX1_agenda_5 : decode cX1_agenda 5 = .ok (.iconst 4, 1) := dk_7 (dk_at dksX1_agenda_0 5 rfl rfl)
theorem dX1_agenda_6 : decode cX1_agenda 6 = .ok (.if_icmp .ge 7, 3) := dk_162 0 7 (dk_at dksX1_agenda_0 6 rfl rfl)
theorem dX1_agenda_9 : decode cX1_agenda 9 = .ok (.iconst 1, 1) := dk_4 (dk_at dksX1_agenda_0 9 rfl rfl)
theorem dX1_agenda_10 : decode cX1_agenda 10 = .ok (.goto 4, 3) := dk_167 0 4 (dk_at dksX1_agenda_0 10 rfl rfl)
theorem dX1_agenda_13 : decode cX1_agenda 13 = .ok (.iconst 0, 1) := dk_3 (dk_at dksX1_agenda_0 13 rfl rfl)
theorem dX1_agenda_14 : decode cX1_agenda 14 = .ok (.invokestatic 85, 3) := dk_184 0 85 (dk_at dksX1_agenda_0 14 rfl rfl)
theorem dX1_agenda_17 : decode cX1_agenda 17 = .ok (.new 446, 3) := dk_187 1 190 (dk_at dksX1_agenda_0 17 rfl rfl)
theorem dX1_agenda_20 : decode cX1_agenda 20 = .ok (.dup, 1) := dk_89 (dk_at dksX1_agenda_0 20 rfl rfl)
theorem dX1_agenda_21 : decode cX1_agenda 21 = .ok (.aload_n 0, 1) := dk_42 (dk_at dksX1_agenda_0 21 rfl rfl)
theorem dX1_agenda_22 : decode cX1_agenda 22 = .ok (.getfield 21, 3) := dk_180 0 21 (dk_at dksX1_agenda_1 0 rfl rfl)
theorem dX1_agenda_25 : decode cX1_agenda 25 = .ok (.iload_n 1, 1) := dk_27 (dk_at dksX1_agenda_1 3 rfl rfl)
theorem dX1_agenda_26 : decode cX1_agenda 26 = .ok (.invokespecial 448, 3) := dk_183 1 192 (dk_at dksX1_agenda_1 4 rfl rfl)
theorem dX1_agenda_29 : decode cX1_agenda 29 = .ok (.invokevirtual 451, 3) := dk_182 1 195 (dk_at dksX1_agenda_1 7 rfl rfl)
theorem dX1_agenda_32 : decode cX1_agenda 32 = .ok (.getfield 455, 3) := dk_180 1 199 (dk_at dksX1_agenda_1 10 rfl rfl)
theorem dX1_agenda_35 : decode cX1_agenda 35 = .ok (.ireturn, 1) := dk_172 (dk_at dksX1_agenda_1 13 rfl rfl)
abbrev cX1_fire : ByteArray := prog_1_method_76_code
def yX1_fire : MethodName := ⟨RX1, "fire", "()I"⟩
def dkwX1_fire_11 : List UInt8 := [180, 0, 91, 172]
abbrev dktX1_fire_11 : List UInt8 := dkwX1_fire_11 ++ []
def dkwX1_fire_10 : List UInt8 := [159, 0, 13, 43, 180, 0, 137, 21, 5, 182, 0, 140, 87, 42, 43, 182, 0, 130, 87, 44, 180, 1, 206]
abbrev dktX1_fire_10 : List UInt8 := dkwX1_fire_10 ++ dktX1_fire_11
def dkwX1_fire_9 : List UInt8 := [180, 1, 206, 180, 1, 216, 153, 0, 15, 43, 44, 180, 1, 209, 3, 182, 0, 127, 167, 0, 19, 21, 5, 2]
abbrev dktX1_fire_9 : List UInt8 := dkwX1_fire_9 ++ dktX1_fire_10
def dkwX1_fire_8 : List UInt8 := [167, 255, 229, 43, 180, 1, 213, 25, 4, 182, 0, 42, 87, 43, 44, 180, 1, 209, 182, 0, 134, 54, 5, 44]
abbrev dktX1_fire_8 : List UInt8 := dkwX1_fire_8 ++ dktX1_fire_9
def dkwX1_fire_7 : List UInt8 := [162, 0, 27, 25, 4, 4, 21, 5, 96, 43, 44, 180, 1, 212, 21, 5, 46, 182, 0, 156, 79, 132, 5, 1]
abbrev dktX1_fire_7 : List UInt8 := dkwX1_fire_7 ++ dktX1_fire_8
def dkwX1_fire_6 : List UInt8 := [96, 188, 10, 58, 4, 25, 4, 3, 44, 180, 1, 206, 180, 0, 91, 79, 3, 54, 5, 21, 5, 29]
abbrev dktX1_fire_6 : List UInt8 := dkwX1_fire_6 ++ dktX1_fire_7
def dkwX1_fire_5 : List UInt8 := [44, 180, 1, 206, 199, 0, 10, 42, 43, 181, 0, 21, 2, 172, 44, 180, 1, 206, 182, 0, 223, 62, 4, 29]
abbrev dktX1_fire_5 : List UInt8 := dkwX1_fire_5 ++ dktX1_fire_6
def dkwX1_fire_4 : List UInt8 := [182, 0, 58, 4, 100, 182, 0, 70, 192, 0, 38, 182, 0, 74, 183, 1, 192, 182, 1, 195, 77, 167, 255, 187]
abbrev dktX1_fire_4 : List UInt8 := dkwX1_fire_4 ++ dktX1_fire_5
def dkwX1_fire_3 : List UInt8 := [182, 0, 58, 4, 100, 182, 0, 140, 87, 187, 1, 190, 89, 43, 43, 180, 0, 34, 43, 180, 0, 34]
abbrev dktX1_fire_3 : List UInt8 := dkwX1_fire_3 ++ dktX1_fire_4
def dkwX1_fire_2 : List UInt8 := [154, 0, 68, 43, 180, 0, 34, 182, 0, 58, 4, 164, 0, 57, 43, 180, 0, 34, 43, 180, 0, 34]
abbrev dktX1_fire_2 : List UInt8 := dkwX1_fire_2 ++ dktX1_fire_3
def dkwX1_fire_1 : List UInt8 := [4, 100, 182, 0, 70, 192, 0, 38, 182, 0, 74, 183, 1, 192, 182, 1, 195, 77, 44, 180, 1, 199]
abbrev dktX1_fire_1 : List UInt8 := dkwX1_fire_1 ++ dktX1_fire_2
def dkwX1_fire_0 : List UInt8 := [42, 180, 0, 21, 182, 0, 117, 76, 187, 1, 190, 89, 43, 43, 180, 0, 34, 43, 180, 0, 34, 182, 0, 58]
abbrev dktX1_fire_0 : List UInt8 := dkwX1_fire_0 ++ dktX1_fire_1
theorem dksX1_fire_0 : cX1_fire.data.toList.drop 0 = dktX1_fire_0 := by decide +kernel
theorem dksX1_fire_1 : cX1_fire.data.toList.drop 24 = dktX1_fire_1 := dk_seg dksX1_fire_0 24 rfl rfl
theorem dksX1_fire_2 : cX1_fire.data.toList.drop 46 = dktX1_fire_2 := dk_seg dksX1_fire_1 22 rfl rfl
theorem dksX1_fire_3 : cX1_fire.data.toList.drop 68 = dktX1_fire_3 := dk_seg dksX1_fire_2 22 rfl rfl
theorem dksX1_fire_4 : cX1_fire.data.toList.drop 90 = dktX1_fire_4 := dk_seg dksX1_fire_3 22 rfl rfl
theorem dksX1_fire_5 : cX1_fire.data.toList.drop 114 = dktX1_fire_5 := dk_seg dksX1_fire_4 24 rfl rfl
theorem dksX1_fire_6 : cX1_fire.data.toList.drop 138 = dktX1_fire_6 := dk_seg dksX1_fire_5 24 rfl rfl
theorem dksX1_fire_7 : cX1_fire.data.toList.drop 160 = dktX1_fire_7 := dk_seg dksX1_fire_6 22 rfl rfl
theorem dksX1_fire_8 : cX1_fire.data.toList.drop 184 = dktX1_fire_8 := dk_seg dksX1_fire_7 24 rfl rfl
theorem dksX1_fire_9 : cX1_fire.data.toList.drop 208 = dktX1_fire_9 := dk_seg dksX1_fire_8 24 rfl rfl
theorem dksX1_fire_10 : cX1_fire.data.toList.drop 232 = dktX1_fire_10 := dk_seg dksX1_fire_9 24 rfl rfl
theorem dksX1_fire_11 : cX1_fire.data.toList.drop 255 = dktX1_fire_11 := dk_seg dksX1_fire_10 23 rfl rfl
theorem dX1_fire_0 : decode cX1_fire 0 = .ok (.aload_n 0, 1) := dk_42 (dk_at dksX1_fire_0 0 rfl rfl)
theorem dX1_fire_1 : decode cX1_fire 1 = .ok (.getfield 21, 3) := dk_180 0 21 (dk_at dksX1_fire_0 1 rfl rfl)
theorem dX1_fire_4 : decode cX1_fire 4 = .ok (.invokevirtual 117, 3) := dk_182 0 117 (dk_at dksX1_fire_0 4 rfl rfl)
theorem dX1_fire_7 : decode cX1_fire 7 = .ok (.astore_n 1, 1) := dk_76 (dk_at dksX1_fire_0 7 rfl rfl)
theorem dX1_fire_8 : decode cX1_fire 8 = .ok (.new 446, 3) := dk_187 1 190 (dk_at dksX1_fire_0 8 rfl rfl)
theorem dX1_fire_11 : decode cX1_fire 11 = .ok (.dup, 1) := dk_89 (dk_at dksX1_fire_0 11 rfl rfl)
theorem dX1_fire_12 : decode cX1_fire 12 = .ok (.aload_n 1, 1) := dk_43 (dk_at dksX1_fire_0 12 rfl rfl)
theorem dX1_fire_13 : decode cX1_fire 13 = .ok (.aload_n 1, 1) := dk_43 (dk_at dksX1_fire_0 13 rfl rfl)
theorem dX1_fire_14 : decode cX1_fire 14 = .ok (.getfield 34, 3) := dk_180 0 34 (dk_at dksX1_fire_0 14 rfl rfl)
theorem dX1_fire_17 : decode cX1_fire 17 = .ok (.aload_n 1, 1) := dk_43 (dk_at dksX1_fire_0 17 rfl rfl)
theorem dX1_fire_18 : decode cX1_fire 18 = .ok (.getfield 34, 3) := dk_180 0 34 (dk_at dksX1_fire_0 18 rfl rfl)
theorem dX1_fire_21 : decode cX1_fire 21 = .ok (.invokevirtual 58, 3) := dk_182 0 58 (dk_at dksX1_fire_0 21 rfl rfl)
theorem dX1_fire_24 : decode cX1_fire 24 = .ok (.iconst 1, 1) := dk_4 (dk_at dksX1_fire_1 0 rfl rfl)
theorem dX1_fire_25 : decode cX1_fire 25 = .ok (.isub, 1) := dk_100 (dk_at dksX1_fire_1 1 rfl rfl)
theorem dX1_fire_26 : decode cX1_fire 26 = .ok (.invokevirtual 70, 3) := dk_182 0 70 (dk_at dksX1_fire_1 2 rfl rfl)
theorem dX1_fire_29 : decode cX1_fire 29 = .ok (.checkcast 38, 3) := dk_192 0 38 (dk_at dksX1_fire_1 5 rfl rfl)
theorem dX1_fire_32 : decode cX1_fire 32 = .ok (.invokevirtual 74, 3) := dk_182 0 74 (dk_at dksX1_fire_1 8 rfl rfl)
theorem dX1_fire_35 : decode cX1_fire 35 = .ok (.invokespecial 448, 3) := dk_183 1 192 (dk_at dksX1_fire_1 11 rfl rfl)
theorem dX1_fire_38 : decode cX1_fire 38 = .ok (.invokevirtual 451, 3) := dk_182 1 195 (dk_at dksX1_fire_1 14 rfl rfl)
theorem dX1_fire_41 : decode cX1_fire 41 = .ok (.astore_n 2, 1) := dk_77 (dk_at dksX1_fire_1 17 rfl rfl)
theorem dX1_fire_42 : decode cX1_fire 42 = .ok (.aload_n 2, 1) := dk_44 (dk_at dksX1_fire_1 18 rfl rfl)
theorem dX1_fire_43 : decode cX1_fire 43 = .ok (.getfield 455, 3) := dk_180 1 199 (dk_at dksX1_fire_1 19 rfl rfl)
theorem dX1_fire_46 : decode cX1_fire 46 = .ok (.ifCond .ne 68, 3) := dk_154 0 68 (dk_at dksX1_fire_2 0 rfl rfl)
theorem dX1_fire_49 : decode cX1_fire 49 = .ok (.aload_n 1, 1) := dk_43 (dk_at dksX1_fire_2 3 rfl rfl)
theorem dX1_fire_50 : decode cX1_fire 50 = .ok (.getfield 34, 3) := dk_180 0 34 (dk_at dksX1_fire_2 4 rfl rfl)
theorem dX1_fire_53 : decode cX1_fire 53 = .ok (.invokevirtual 58, 3) := dk_182 0 58 (dk_at dksX1_fire_2 7 rfl rfl)
theorem dX1_fire_56 : decode cX1_fire 56 = .ok (.iconst 1, 1) := dk_4 (dk_at dksX1_fire_2 10 rfl rfl)
theorem dX1_fire_57 : decode cX1_fire 57 = .ok (.if_icmp .le 57, 3) := dk_164 0 57 (dk_at dksX1_fire_2 11 rfl rfl)
theorem dX1_fire_60 : decode cX1_fire 60 = .ok (.aload_n 1, 1) := dk_43 (dk_at dksX1_fire_2 14 rfl rfl)
theorem dX1_fire_61 : decode cX1_fire 61 = .ok (.getfield 34, 3) := dk_180 0 34 (dk_at dksX1_fire_2 15 rfl rfl)
theorem dX1_fire_64 : decode cX1_fire 64 = .ok (.aload_n 1, 1) := dk_43 (dk_at dksX1_fire_2 18 rfl rfl)
theorem dX1_fire_65 : decode cX1_fire 65 = .ok (.getfield 34, 3) := dk_180 0 34 (dk_at dksX1_fire_2 19 rfl rfl)
theorem dX1_fire_68 : decode cX1_fire 68 = .ok (.invokevirtual 58, 3) := dk_182 0 58 (dk_at dksX1_fire_3 0 rfl rfl)
theorem dX1_fire_71 : decode cX1_fire 71 = .ok (.iconst 1, 1) := dk_4 (dk_at dksX1_fire_3 3 rfl rfl)
theorem dX1_fire_72 : decode cX1_fire 72 = .ok (.isub, 1) := dk_100 (dk_at dksX1_fire_3 4 rfl rfl)
theorem dX1_fire_73 : decode cX1_fire 73 = .ok (.invokevirtual 140, 3) := dk_182 0 140 (dk_at dksX1_fire_3 5 rfl rfl)
theorem dX1_fire_76 : decode cX1_fire 76 = .ok (.pop, 1) := dk_87 (dk_at dksX1_fire_3 8 rfl rfl)
theorem dX1_fire_77 : decode cX1_fire 77 = .ok (.new 446, 3) := dk_187 1 190 (dk_at dksX1_fire_3 9 rfl rfl)
theorem dX1_fire_80 : decode cX1_fire 80 = .ok (.dup, 1) := dk_89 (dk_at dksX1_fire_3 12 rfl rfl)
theorem dX1_fire_81 : decode cX1_fire 81 = .ok (.aload_n 1, 1) := dk_43 (dk_at dksX1_fire_3 13 rfl rfl)
theorem dX1_fire_82 : decode cX1_fire 82 = .ok (.aload_n 1, 1) := dk_43 (dk_at dksX1_fire_3 14 rfl rfl)
theorem dX1_fire_83 : decode cX1_fire 83 = .ok (.getfield 34, 3) := dk_180 0 34 (dk_at dksX1_fire_3 15 rfl rfl)
theorem dX1_fire_86 : decode cX1_fire 86 = .ok (.aload_n 1, 1) := dk_43 (dk_at dksX1_fire_3 18 rfl rfl)
theorem dX1_fire_87 : decode cX1_fire 87 = .ok (.getfield 34, 3) := dk_180 0 34 (dk_at dksX1_fire_3 19 rfl rfl)
theorem dX1_fire_90 : decode cX1_fire 90 = .ok (.invokevirtual 58, 3) := dk_182 0 58 (dk_at dksX1_fire_4 0 rfl rfl)
theorem dX1_fire_93 : decode cX1_fire 93 = .ok (.iconst 1, 1) := dk_4 (dk_at dksX1_fire_4 3 rfl rfl)
theorem dX1_fire_94 : decode cX1_fire 94 = .ok (.isub, 1) := dk_100 (dk_at dksX1_fire_4 4 rfl rfl)
theorem dX1_fire_95 : decode cX1_fire 95 = .ok (.invokevirtual 70, 3) := dk_182 0 70 (dk_at dksX1_fire_4 5 rfl rfl)
theorem dX1_fire_98 : decode cX1_fire 98 = .ok (.checkcast 38, 3) := dk_192 0 38 (dk_at dksX1_fire_4 8 rfl rfl)
theorem dX1_fire_101 : decode cX1_fire 101 = .ok (.invokevirtual 74, 3) := dk_182 0 74 (dk_at dksX1_fire_4 11 rfl rfl)
theorem dX1_fire_104 : decode cX1_fire 104 = .ok (.invokespecial 448, 3) := dk_183 1 192 (dk_at dksX1_fire_4 14 rfl rfl)
theorem dX1_fire_107 : decode cX1_fire 107 = .ok (.invokevirtual 451, 3) := dk_182 1 195 (dk_at dksX1_fire_4 17 rfl rfl)
theorem dX1_fire_110 : decode cX1_fire 110 = .ok (.astore_n 2, 1) := dk_77 (dk_at dksX1_fire_4 20 rfl rfl)
theorem dX1_fire_111 : decode cX1_fire 111 = .ok (.goto (-69), 3) := dk_167 255 187 (dk_at dksX1_fire_4 21 rfl rfl)
theorem dX1_fire_114 : decode cX1_fire 114 = .ok (.aload_n 2, 1) := dk_44 (dk_at dksX1_fire_5 0 rfl rfl)
theorem dX1_fire_115 : decode cX1_fire 115 = .ok (.getfield 462, 3) := dk_180 1 206 (dk_at dksX1_fire_5 1 rfl rfl)
theorem dX1_fire_118 : decode cX1_fire 118 = .ok (.ifnonnull 10, 3) := dk_199 0 10 (dk_at dksX1_fire_5 4 rfl rfl)
theorem dX1_fire_121 : decode cX1_fire 121 = .ok (.aload_n 0, 1) := dk_42 (dk_at dksX1_fire_5 7 rfl rfl)
theorem dX1_fire_122 : decode cX1_fire 122 = .ok (.aload_n 1, 1) := dk_43 (dk_at dksX1_fire_5 8 rfl rfl)
theorem dX1_fire_123 : decode cX1_fire 123 = .ok (.putfield 21, 3) := dk_181 0 21 (dk_at dksX1_fire_5 9 rfl rfl)
theorem dX1_fire_126 : decode cX1_fire 126 = .ok (.iconst (-1), 1) := dk_2 (dk_at dksX1_fire_5 12 rfl rfl)
theorem dX1_fire_127 : decode cX1_fire 127 = .ok (.ireturn, 1) := dk_172 (dk_at dksX1_fire_5 13 rfl rfl)
theorem dX1_fire_128 : decode cX1_fire 128 = .ok (.aload_n 2, 1) := dk_44 (dk_at dksX1_fire_5 14 rfl rfl)
theorem dX1_fire_129 : decode cX1_fire 129 = .ok (.getfield 462, 3) := dk_180 1 206 (dk_at dksX1_fire_5 15 rfl rfl)
theorem dX1_fire_132 : decode cX1_fire 132 = .ok (.invokevirtual 223, 3) := dk_182 0 223 (dk_at dksX1_fire_5 18 rfl rfl)
theorem dX1_fire_135 : decode cX1_fire 135 = .ok (.istore_n 3, 1) := dk_62 (dk_at dksX1_fire_5 21 rfl rfl)
theorem dX1_fire_136 : decode cX1_fire 136 = .ok (.iconst 1, 1) := dk_4 (dk_at dksX1_fire_5 22 rfl rfl)
theorem dX1_fire_137 : decode cX1_fire 137 = .ok (.iload_n 3, 1) := dk_29 (dk_at dksX1_fire_5 23 rfl rfl)
theorem dX1_fire_138 : decode cX1_fire 138 = .ok (.iadd, 1) := dk_96 (dk_at dksX1_fire_6 0 rfl rfl)
theorem dX1_fire_139 : decode cX1_fire 139 = .ok (.newarray .int, 2) := dk_188_10 (dk_at dksX1_fire_6 1 rfl rfl)
theorem dX1_fire_141 : decode cX1_fire 141 = .ok (.astore 4, 2) := dk_58 4 (dk_at dksX1_fire_6 3 rfl rfl)
theorem dX1_fire_143 : decode cX1_fire 143 = .ok (.aload 4, 2) := dk_25 4 (dk_at dksX1_fire_6 5 rfl rfl)
theorem dX1_fire_145 : decode cX1_fire 145 = .ok (.iconst 0, 1) := dk_3 (dk_at dksX1_fire_6 7 rfl rfl)
theorem dX1_fire_146 : decode cX1_fire 146 = .ok (.aload_n 2, 1) := dk_44 (dk_at dksX1_fire_6 8 rfl rfl)
theorem dX1_fire_147 : decode cX1_fire 147 = .ok (.getfield 462, 3) := dk_180 1 206 (dk_at dksX1_fire_6 9 rfl rfl)
theorem dX1_fire_150 : decode cX1_fire 150 = .ok (.getfield 91, 3) := dk_180 0 91 (dk_at dksX1_fire_6 12 rfl rfl)
theorem dX1_fire_153 : decode cX1_fire 153 = .ok (.iastore, 1) := dk_79 (dk_at dksX1_fire_6 15 rfl rfl)
theorem dX1_fire_154 : decode cX1_fire 154 = .ok (.iconst 0, 1) := dk_3 (dk_at dksX1_fire_6 16 rfl rfl)
theorem dX1_fire_155 : decode cX1_fire 155 = .ok (.istore 5, 2) := dk_54 5 (dk_at dksX1_fire_6 17 rfl rfl)
theorem dX1_fire_157 : decode cX1_fire 157 = .ok (.iload 5, 2) := dk_21 5 (dk_at dksX1_fire_6 19 rfl rfl)
theorem dX1_fire_159 : decode cX1_fire 159 = .ok (.iload_n 3, 1) := dk_29 (dk_at dksX1_fire_6 21 rfl rfl)
theorem dX1_fire_160 : decode cX1_fire 160 = .ok (.if_icmp .ge 27, 3) := dk_162 0 27 (dk_at dksX1_fire_7 0 rfl rfl)
theorem dX1_fire_163 : decode cX1_fire 163 = .ok (.aload 4, 2) := dk_25 4 (dk_at dksX1_fire_7 3 rfl rfl)
theorem dX1_fire_165 : decode cX1_fire 165 = .ok (.iconst 1, 1) := dk_4 (dk_at dksX1_fire_7 5 rfl rfl)
theorem dX1_fire_166 : decode cX1_fire 166 = .ok (.iload 5, 2) := dk_21 5 (dk_at dksX1_fire_7 6 rfl rfl)
theorem dX1_fire_168 : decode cX1_fire 168 = .ok (.iadd, 1) := dk_96 (dk_at dksX1_fire_7 8 rfl rfl)
theorem dX1_fire_169 : decode cX1_fire 169 = .ok (.aload_n 1, 1) := dk_43 (dk_at dksX1_fire_7 9 rfl rfl)
theorem dX1_fire_170 : decode cX1_fire 170 = .ok (.aload_n 2, 1) := dk_44 (dk_at dksX1_fire_7 10 rfl rfl)
theorem dX1_fire_171 : decode cX1_fire 171 = .ok (.getfield 468, 3) := dk_180 1 212 (dk_at dksX1_fire_7 11 rfl rfl)
theorem dX1_fire_174 : decode cX1_fire 174 = .ok (.iload 5, 2) := dk_21 5 (dk_at dksX1_fire_7 14 rfl rfl)
theorem dX1_fire_176 : decode cX1_fire 176 = .ok (.iaload, 1) := dk_46 (dk_at dksX1_fire_7 16 rfl rfl)
theorem dX1_fire_177 : decode cX1_fire 177 = .ok (.invokevirtual 156, 3) := dk_182 0 156 (dk_at dksX1_fire_7 17 rfl rfl)
theorem dX1_fire_180 : decode cX1_fire 180 = .ok (.iastore, 1) := dk_79 (dk_at dksX1_fire_7 20 rfl rfl)
theorem dX1_fire_181 : decode cX1_fire 181 = .ok (.iinc 5 1, 3) := dk_132 5 1 (dk_at dksX1_fire_7 21 rfl rfl)
theorem dX1_fire_184 : decode cX1_fire 184 = .ok (.goto (-27), 3) := dk_167 255 229 (dk_at dksX1_fire_8 0 rfl rfl)
theorem dX1_fire_187 : decode cX1_fire 187 = .ok (.aload_n 1, 1) := dk_43 (dk_at dksX1_fire_8 3 rfl rfl)
theorem dX1_fire_188 : decode cX1_fire 188 = .ok (.getfield 469, 3) := dk_180 1 213 (dk_at dksX1_fire_8 4 rfl rfl)
theorem dX1_fire_191 : decode cX1_fire 191 = .ok (.aload 4, 2) := dk_25 4 (dk_at dksX1_fire_8 7 rfl rfl)
theorem dX1_fire_193 : decode cX1_fire 193 = .ok (.invokevirtual 42, 3) := dk_182 0 42 (dk_at dksX1_fire_8 9 rfl rfl)
theorem dX1_fire_196 : decode cX1_fire 196 = .ok (.pop, 1) := dk_87 (dk_at dksX1_fire_8 12 rfl rfl)
theorem dX1_fire_197 : decode cX1_fire 197 = .ok (.aload_n 1, 1) := dk_43 (dk_at dksX1_fire_8 13 rfl rfl)
theorem dX1_fire_198 : decode cX1_fire 198 = .ok (.aload_n 2, 1) := dk_44 (dk_at dksX1_fire_8 14 rfl rfl)
theorem dX1_fire_199 : decode cX1_fire 199 = .ok (.getfield 465, 3) := dk_180 1 209 (dk_at dksX1_fire_8 15 rfl rfl)
theorem dX1_fire_202 : decode cX1_fire 202 = .ok (.invokevirtual 134, 3) := dk_182 0 134 (dk_at dksX1_fire_8 18 rfl rfl)
theorem dX1_fire_205 : decode cX1_fire 205 = .ok (.istore 5, 2) := dk_54 5 (dk_at dksX1_fire_8 21 rfl rfl)
theorem dX1_fire_207 : decode cX1_fire 207 = .ok (.aload_n 2, 1) := dk_44 (dk_at dksX1_fire_8 23 rfl rfl)
theorem dX1_fire_208 : decode cX1_fire 208 = .ok (.getfield 462, 3) := dk_180 1 206 (dk_at dksX1_fire_9 0 rfl rfl)
theorem dX1_fire_211 : decode cX1_fire 211 = .ok (.getfield 472, 3) := dk_180 1 216 (dk_at dksX1_fire_9 3 rfl rfl)
theorem dX1_fire_214 : decode cX1_fire 214 = .ok (.ifCond .eq 15, 3) := dk_153 0 15 (dk_at dksX1_fire_9 6 rfl rfl)
theorem dX1_fire_217 : decode cX1_fire 217 = .ok (.aload_n 1, 1) := dk_43 (dk_at dksX1_fire_9 9 rfl rfl)
theorem dX1_fire_218 : decode cX1_fire 218 = .ok (.aload_n 2, 1) := dk_44 (dk_at dksX1_fire_9 10 rfl rfl)
theorem dX1_fire_219 : decode cX1_fire 219 = .ok (.getfield 465, 3) := dk_180 1 209 (dk_at dksX1_fire_9 11 rfl rfl)
theorem dX1_fire_222 : decode cX1_fire 222 = .ok (.iconst 0, 1) := dk_3 (dk_at dksX1_fire_9 14 rfl rfl)
theorem dX1_fire_223 : decode cX1_fire 223 = .ok (.invokevirtual 127, 3) := dk_182 0 127 (dk_at dksX1_fire_9 15 rfl rfl)
theorem dX1_fire_226 : decode cX1_fire 226 = .ok (.goto 19, 3) := dk_167 0 19 (dk_at dksX1_fire_9 18 rfl rfl)
theorem dX1_fire_229 : decode cX1_fire 229 = .ok (.iload 5, 2) := dk_21 5 (dk_at dksX1_fire_9 21 rfl rfl)
theorem dX1_fire_231 : decode cX1_fire 231 = .ok (.iconst (-1), 1) := dk_2 (dk_at dksX1_fire_9 23 rfl rfl)
theorem dX1_fire_232 : decode cX1_fire 232 = .ok (.if_icmp .eq 13, 3) := dk_159 0 13 (dk_at dksX1_fire_10 0 rfl rfl)
theorem dX1_fire_235 : decode cX1_fire 235 = .ok (.aload_n 1, 1) := dk_43 (dk_at dksX1_fire_10 3 rfl rfl)
theorem dX1_fire_236 : decode cX1_fire 236 = .ok (.getfield 137, 3) := dk_180 0 137 (dk_at dksX1_fire_10 4 rfl rfl)
theorem dX1_fire_239 : decode cX1_fire 239 = .ok (.iload 5, 2) := dk_21 5 (dk_at dksX1_fire_10 7 rfl rfl)
theorem dX1_fire_241 : decode cX1_fire 241 = .ok (.invokevirtual 140, 3) := dk_182 0 140 (dk_at dksX1_fire_10 9 rfl rfl)
theorem dX1_fire_244 : decode cX1_fire 244 = .ok (.pop, 1) := dk_87 (dk_at dksX1_fire_10 12 rfl rfl)
theorem dX1_fire_245 : decode cX1_fire 245 = .ok (.aload_n 0, 1) := dk_42 (dk_at dksX1_fire_10 13 rfl rfl)
theorem dX1_fire_246 : decode cX1_fire 246 = .ok (.aload_n 1, 1) := dk_43 (dk_at dksX1_fire_10 14 rfl rfl)
theorem dX1_fire_247 : decode cX1_fire 247 = .ok (.invokevirtual 130, 3) := dk_182 0 130 (dk_at dksX1_fire_10 15 rfl rfl)
theorem dX1_fire_250 : decode cX1_fire 250 = .ok (.pop, 1) := dk_87 (dk_at dksX1_fire_10 18 rfl rfl)
theorem dX1_fire_251 : decode cX1_fire 251 = .ok (.aload_n 2, 1) := dk_44 (dk_at dksX1_fire_10 19 rfl rfl)
theorem dX1_fire_252 : decode cX1_fire 252 = .ok (.getfield 462, 3) := dk_180 1 206 (dk_at dksX1_fire_10 20 rfl rfl)
theorem dX1_fire_255 : decode cX1_fire 255 = .ok (.getfield 91, 3) := dk_180 0 91 (dk_at dksX1_fire_11 0 rfl rfl)
theorem dX1_fire_258 : decode cX1_fire 258 = .ok (.ireturn, 1) := dk_172 (dk_at dksX1_fire_11 3 rfl rfl)
abbrev cX1_run : ByteArray := prog_1_method_77_code
def yX1_run : MethodName := ⟨RX1, "run", "(I)I"⟩
def dkwX1_run_2 : List UInt8 := [172]
abbrev dktX1_run_2 : List UInt8 := dkwX1_run_2 ++ []
def dkwX1_run_1 : List UInt8 := [162, 0, 17, 42, 182, 1, 219, 2, 159, 0, 9, 132, 2, 1, 167, 255, 240, 167, 0, 6, 78, 28, 172, 28]
abbrev dktX1_run_1 : List UInt8 := dkwX1_run_1 ++ dktX1_run_2
def dkwX1_run_0 : List UInt8 := [27, 4, 161, 0, 13, 27, 16, 10, 163, 0, 7, 4, 167, 0, 4, 3, 184, 0, 85, 3, 61, 28, 27]
abbrev dktX1_run_0 : List UInt8 := dkwX1_run_0 ++ dktX1_run_1
theorem dksX1_run_0 : cX1_run.data.toList.drop 0 = dktX1_run_0 := by decide +kernel
theorem dksX1_run_1 : cX1_run.data.toList.drop 23 = dktX1_run_1 := dk_seg dksX1_run_0 23 rfl rfl
theorem dksX1_run_2 : cX1_run.data.toList.drop 47 = dktX1_run_2 := dk_seg dksX1_run_1 24 rfl rfl
theorem dX1_run_0 : decode cX1_run 0 = .ok (.iload_n 1, 1) := dk_27 (dk_at dksX1_run_0 0 rfl rfl)
theorem dX1_run_1 : decode cX1_run 1 = .ok (.iconst 1, 1) := dk_4 (dk_at dksX1_run_0 1 rfl rfl)
theorem dX1_run_2 : decode cX1_run 2 = .ok (.if_icmp .lt 13, 3) := dk_161 0 13 (dk_at dksX1_run_0 2 rfl rfl)
theorem dX1_run_5 : decode cX1_run 5 = .ok (.iload_n 1, 1) := dk_27 (dk_at dksX1_run_0 5 rfl rfl)
theorem dX1_run_6 : decode cX1_run 6 = .ok (.bipush 10, 2) := dk_16 10 (dk_at dksX1_run_0 6 rfl rfl)
theorem dX1_run_8 : decode cX1_run 8 = .ok (.if_icmp .gt 7, 3) := dk_163 0 7 (dk_at dksX1_run_0 8 rfl rfl)
theorem dX1_run_11 : decode cX1_run 11 = .ok (.iconst 1, 1) := dk_4 (dk_at dksX1_run_0 11 rfl rfl)
theorem dX1_run_12 : decode cX1_run 12 = .ok (.goto 4, 3) := dk_167 0 4 (dk_at dksX1_run_0 12 rfl rfl)
theorem dX1_run_15 : decode cX1_run 15 = .ok (.iconst 0, 1) := dk_3 (dk_at dksX1_run_0 15 rfl rfl)
theorem dX1_run_16 : decode cX1_run 16 = .ok (.invokestatic 85, 3) := dk_184 0 85 (dk_at dksX1_run_0 16 rfl rfl)
theorem dX1_run_19 : decode cX1_run 19 = .ok (.iconst 0, 1) := dk_3 (dk_at dksX1_run_0 19 rfl rfl)
theorem dX1_run_20 : decode cX1_run 20 = .ok (.istore_n 2, 1) := dk_61 (dk_at dksX1_run_0 20 rfl rfl)
theorem dX1_run_21 : decode cX1_run 21 = .ok (.iload_n 2, 1) := dk_28 (dk_at dksX1_run_0 21 rfl rfl)
theorem dX1_run_22 : decode cX1_run 22 = .ok (.iload_n 1, 1) := dk_27 (dk_at dksX1_run_0 22 rfl rfl)
theorem dX1_run_23 : decode cX1_run 23 = .ok (.if_icmp .ge 17, 3) := dk_162 0 17 (dk_at dksX1_run_1 0 rfl rfl)
theorem dX1_run_26 : decode cX1_run 26 = .ok (.aload_n 0, 1) := dk_42 (dk_at dksX1_run_1 3 rfl rfl)
theorem dX1_run_27 : decode cX1_run 27 = .ok (.invokevirtual 475, 3) := dk_182 1 219 (dk_at dksX1_run_1 4 rfl rfl)
theorem dX1_run_30 : decode cX1_run 30 = .ok (.iconst (-1), 1) := dk_2 (dk_at dksX1_run_1 7 rfl rfl)
theorem dX1_run_31 : decode cX1_run 31 = .ok (.if_icmp .eq 9, 3) := dk_159 0 9 (dk_at dksX1_run_1 8 rfl rfl)
theorem dX1_run_34 : decode cX1_run 34 = .ok (.iinc 2 1, 3) := dk_132 2 1 (dk_at dksX1_run_1 11 rfl rfl)
theorem dX1_run_37 : decode cX1_run 37 = .ok (.goto (-16), 3) := dk_167 255 240 (dk_at dksX1_run_1 14 rfl rfl)
theorem dX1_run_40 : decode cX1_run 40 = .ok (.goto 6, 3) := dk_167 0 6 (dk_at dksX1_run_1 17 rfl rfl)
theorem dX1_run_43 : decode cX1_run 43 = .ok (.astore_n 3, 1) := dk_78 (dk_at dksX1_run_1 20 rfl rfl)
theorem dX1_run_44 : decode cX1_run 44 = .ok (.iload_n 2, 1) := dk_28 (dk_at dksX1_run_1 21 rfl rfl)
theorem dX1_run_45 : decode cX1_run 45 = .ok (.ireturn, 1) := dk_172 (dk_at dksX1_run_1 22 rfl rfl)
theorem dX1_run_46 : decode cX1_run 46 = .ok (.iload_n 2, 1) := dk_28 (dk_at dksX1_run_1 23 rfl rfl)
theorem dX1_run_47 : decode cX1_run 47 = .ok (.ireturn, 1) := dk_172 (dk_at dksX1_run_2 0 rfl rfl)
abbrev cX1_focus : ByteArray := prog_1_method_78_code
def yX1_focus : MethodName := ⟨RX1, "focus", "(I)I"⟩
def dkwX1_focus_3 : List UInt8 := [172]
abbrev dktX1_focus_3 : List UInt8 := dkwX1_focus_3 ++ []
def dkwX1_focus_2 : List UInt8 := [44, 180, 0, 34, 27, 184, 0, 37, 182, 0, 42, 87, 42, 44, 181, 0, 21, 44, 180, 0, 34, 182, 0, 58]
abbrev dktX1_focus_2 : List UInt8 := dkwX1_focus_2 ++ dktX1_focus_3
def dkwX1_focus_1 : List UInt8 := [182, 0, 58, 16, 8, 162, 0, 7, 4, 167, 0, 4, 3, 184, 0, 114, 42, 180, 0, 21, 182, 0, 117, 77]
abbrev dktX1_focus_1 : List UInt8 := dkwX1_focus_1 ++ dktX1_focus_2
def dkwX1_focus_0 : List UInt8 := [27, 155, 0, 12, 27, 7, 162, 0, 7, 4, 167, 0, 4, 3, 184, 0, 85, 42, 180, 0, 21, 180, 0, 34]
abbrev dktX1_focus_0 : List UInt8 := dkwX1_focus_0 ++ dktX1_focus_1
theorem dksX1_focus_0 : cX1_focus.data.toList.drop 0 = dktX1_focus_0 := by decide +kernel
theorem dksX1_focus_1 : cX1_focus.data.toList.drop 24 = dktX1_focus_1 := dk_seg dksX1_focus_0 24 rfl rfl
theorem dksX1_focus_2 : cX1_focus.data.toList.drop 48 = dktX1_focus_2 := dk_seg dksX1_focus_1 24 rfl rfl
theorem dksX1_focus_3 : cX1_focus.data.toList.drop 72 = dktX1_focus_3 := dk_seg dksX1_focus_2 24 rfl rfl
theorem dX1_focus_0 : decode cX1_focus 0 = .ok (.iload_n 1, 1) := dk_27 (dk_at dksX1_focus_0 0 rfl rfl)
theorem dX1_focus_1 : decode cX1_focus 1 = .ok (.ifCond .lt 12, 3) := dk_155 0 12 (dk_at dksX1_focus_0 1 rfl rfl)
theorem dX1_focus_4 : decode cX1_focus 4 = .ok (.iload_n 1, 1) := dk_27 (dk_at dksX1_focus_0 4 rfl rfl)
theorem dX1_focus_5 : decode cX1_focus 5 = .ok (.iconst 4, 1) := dk_7 (dk_at dksX1_focus_0 5 rfl rfl)
theorem dX1_focus_6 : decode cX1_focus 6 = .ok (.if_icmp .ge 7, 3) := dk_162 0 7 (dk_at dksX1_focus_0 6 rfl rfl)
theorem dX1_focus_9 : decode cX1_focus 9 = .ok (.iconst 1, 1) := dk_4 (dk_at dksX1_focus_0 9 rfl rfl)
theorem dX1_focus_10 : decode cX1_focus 10 = .ok (.goto 4, 3) := dk_167 0 4 (dk_at dksX1_focus_0 10 rfl rfl)
theorem dX1_focus_13 : decode cX1_focus 13 = .ok (.iconst 0, 1) := dk_3 (dk_at dksX1_focus_0 13 rfl rfl)
theorem dX1_focus_14 : decode cX1_focus 14 = .ok (.invokestatic 85, 3) := dk_184 0 85 (dk_at dksX1_focus_0 14 rfl rfl)
theorem dX1_focus_17 : decode cX1_focus 17 = .ok (.aload_n 0, 1) := dk_42 (dk_at dksX1_focus_0 17 rfl rfl)
theorem dX1_focus_18 : decode cX1_focus 18 = .ok (.getfield 21, 3) := dk_180 0 21 (dk_at dksX1_focus_0 18 rfl rfl)
theorem dX1_focus_21 : decode cX1_focus 21 = .ok (.getfield 34, 3) := dk_180 0 34 (dk_at dksX1_focus_0 21 rfl rfl)
theorem dX1_focus_24 : decode cX1_focus 24 = .ok (.invokevirtual 58, 3) := dk_182 0 58 (dk_at dksX1_focus_1 0 rfl rfl)
theorem dX1_focus_27 : decode cX1_focus 27 = .ok (.bipush 8, 2) := dk_16 8 (dk_at dksX1_focus_1 3 rfl rfl)
theorem dX1_focus_29 : decode cX1_focus 29 = .ok (.if_icmp .ge 7, 3) := dk_162 0 7 (dk_at dksX1_focus_1 5 rfl rfl)
theorem dX1_focus_32 : decode cX1_focus 32 = .ok (.iconst 1, 1) := dk_4 (dk_at dksX1_focus_1 8 rfl rfl)
theorem dX1_focus_33 : decode cX1_focus 33 = .ok (.goto 4, 3) := dk_167 0 4 (dk_at dksX1_focus_1 9 rfl rfl)
theorem dX1_focus_36 : decode cX1_focus 36 = .ok (.iconst 0, 1) := dk_3 (dk_at dksX1_focus_1 12 rfl rfl)
theorem dX1_focus_37 : decode cX1_focus 37 = .ok (.invokestatic 114, 3) := dk_184 0 114 (dk_at dksX1_focus_1 13 rfl rfl)
theorem dX1_focus_40 : decode cX1_focus 40 = .ok (.aload_n 0, 1) := dk_42 (dk_at dksX1_focus_1 16 rfl rfl)
theorem dX1_focus_41 : decode cX1_focus 41 = .ok (.getfield 21, 3) := dk_180 0 21 (dk_at dksX1_focus_1 17 rfl rfl)
theorem dX1_focus_44 : decode cX1_focus 44 = .ok (.invokevirtual 117, 3) := dk_182 0 117 (dk_at dksX1_focus_1 20 rfl rfl)
theorem dX1_focus_47 : decode cX1_focus 47 = .ok (.astore_n 2, 1) := dk_77 (dk_at dksX1_focus_1 23 rfl rfl)
theorem dX1_focus_48 : decode cX1_focus 48 = .ok (.aload_n 2, 1) := dk_44 (dk_at dksX1_focus_2 0 rfl rfl)
theorem dX1_focus_49 : decode cX1_focus 49 = .ok (.getfield 34, 3) := dk_180 0 34 (dk_at dksX1_focus_2 1 rfl rfl)
theorem dX1_focus_52 : decode cX1_focus 52 = .ok (.iload_n 1, 1) := dk_27 (dk_at dksX1_focus_2 4 rfl rfl)
theorem dX1_focus_53 : decode cX1_focus 53 = .ok (.invokestatic 37, 3) := dk_184 0 37 (dk_at dksX1_focus_2 5 rfl rfl)
theorem dX1_focus_56 : decode cX1_focus 56 = .ok (.invokevirtual 42, 3) := dk_182 0 42 (dk_at dksX1_focus_2 8 rfl rfl)
theorem dX1_focus_59 : decode cX1_focus 59 = .ok (.pop, 1) := dk_87 (dk_at dksX1_focus_2 11 rfl rfl)
theorem dX1_focus_60 : decode cX1_focus 60 = .ok (.aload_n 0, 1) := dk_42 (dk_at dksX1_focus_2 12 rfl rfl)
theorem dX1_focus_61 : decode cX1_focus 61 = .ok (.aload_n 2, 1) := dk_44 (dk_at dksX1_focus_2 13 rfl rfl)
theorem dX1_focus_62 : decode cX1_focus 62 = .ok (.putfield 21, 3) := dk_181 0 21 (dk_at dksX1_focus_2 14 rfl rfl)
theorem dX1_focus_65 : decode cX1_focus 65 = .ok (.aload_n 2, 1) := dk_44 (dk_at dksX1_focus_2 17 rfl rfl)
theorem dX1_focus_66 : decode cX1_focus 66 = .ok (.getfield 34, 3) := dk_180 0 34 (dk_at dksX1_focus_2 18 rfl rfl)
theorem dX1_focus_69 : decode cX1_focus 69 = .ok (.invokevirtual 58, 3) := dk_182 0 58 (dk_at dksX1_focus_2 21 rfl rfl)
theorem dX1_focus_72 : decode cX1_focus 72 = .ok (.ireturn, 1) := dk_172 (dk_at dksX1_focus_3 0 rfl rfl)
abbrev cX1_tick : ByteArray := prog_1_method_80_code
def yX1_tick : MethodName := ⟨RX1, "tick", "(I)I"⟩
def dkwX1_tick_6 : List UInt8 := [167, 0, 16, 58, 4, 187, 0, 49, 89, 1, 25, 4, 183, 0, 102, 191, 42, 44, 181, 0, 21, 29, 172]
abbrev dktX1_tick_6 : List UInt8 := dkwX1_tick_6 ++ []
def dkwX1_tick_5 : List UInt8 := [62, 44, 180, 0, 137, 182, 0, 58, 21, 5, 162, 0, 7, 44, 182, 0, 95, 132, 4, 1, 167, 255, 151]
abbrev dktX1_tick_5 : List UInt8 := dkwX1_tick_5 ++ dktX1_tick_6
def dkwX1_tick_4 : List UInt8 := [21, 6, 182, 0, 140, 87, 132, 6, 255, 167, 255, 217, 29, 21, 5, 44, 180, 0, 137, 182, 0, 58, 100, 96]
abbrev dktX1_tick_4 : List UInt8 := dkwX1_tick_4 ++ dktX1_tick_5
def dkwX1_tick_3 : List UInt8 := [180, 0, 137, 21, 6, 182, 0, 70, 192, 0, 154, 4, 46, 44, 180, 0, 124, 160, 0, 13, 44, 180, 0, 137]
abbrev dktX1_tick_3 : List UInt8 := dkwX1_tick_3 ++ dktX1_tick_4
def dkwX1_tick_2 : List UInt8 := [181, 0, 124, 44, 180, 0, 137, 182, 0, 58, 54, 5, 21, 5, 4, 100, 54, 6, 21, 6, 155, 0, 40, 44]
abbrev dktX1_tick_2 : List UInt8 := dkwX1_tick_2 ++ dktX1_tick_3
def dkwX1_tick_1 : List UInt8 := [182, 0, 117, 77, 3, 62, 3, 54, 4, 21, 4, 27, 162, 0, 105, 44, 89, 180, 0, 124, 4, 96]
abbrev dktX1_tick_1 : List UInt8 := dkwX1_tick_1 ++ dktX1_tick_2
def dkwX1_tick_0 : List UInt8 := [27, 4, 161, 0, 13, 27, 16, 20, 163, 0, 7, 4, 167, 0, 4, 3, 184, 0, 85, 42, 180, 0, 21]
abbrev dktX1_tick_0 : List UInt8 := dkwX1_tick_0 ++ dktX1_tick_1
theorem dksX1_tick_0 : cX1_tick.data.toList.drop 0 = dktX1_tick_0 := by decide +kernel
theorem dksX1_tick_1 : cX1_tick.data.toList.drop 23 = dktX1_tick_1 := dk_seg dksX1_tick_0 23 rfl rfl
theorem dksX1_tick_2 : cX1_tick.data.toList.drop 45 = dktX1_tick_2 := dk_seg dksX1_tick_1 22 rfl rfl
theorem dksX1_tick_3 : cX1_tick.data.toList.drop 69 = dktX1_tick_3 := dk_seg dksX1_tick_2 24 rfl rfl
theorem dksX1_tick_4 : cX1_tick.data.toList.drop 93 = dktX1_tick_4 := dk_seg dksX1_tick_3 24 rfl rfl
theorem dksX1_tick_5 : cX1_tick.data.toList.drop 117 = dktX1_tick_5 := dk_seg dksX1_tick_4 24 rfl rfl
theorem dksX1_tick_6 : cX1_tick.data.toList.drop 140 = dktX1_tick_6 := dk_seg dksX1_tick_5 23 rfl rfl
theorem dX1_tick_0 : decode cX1_tick 0 = .ok (.iload_n 1, 1) := dk_27 (dk_at dksX1_tick_0 0 rfl rfl)
theorem dX1_tick_1 : decode cX1_tick 1 = .ok (.iconst 1, 1) := dk_4 (dk_at dksX1_tick_0 1 rfl rfl)
theorem dX1_tick_2 : decode cX1_tick 2 = .ok (.if_icmp .lt 13, 3) := dk_161 0 13 (dk_at dksX1_tick_0 2 rfl rfl)
theorem dX1_tick_5 : decode cX1_tick 5 = .ok (.iload_n 1, 1) := dk_27 (dk_at dksX1_tick_0 5 rfl rfl)
theorem dX1_tick_6 : decode cX1_tick 6 = .ok (.bipush 20, 2) := dk_16 20 (dk_at dksX1_tick_0 6 rfl rfl)
theorem dX1_tick_8 : decode cX1_tick 8 = .ok (.if_icmp .gt 7, 3) := dk_163 0 7 (dk_at dksX1_tick_0 8 rfl rfl)
theorem dX1_tick_11 : decode cX1_tick 11 = .ok (.iconst 1, 1) := dk_4 (dk_at dksX1_tick_0 11 rfl rfl)
theorem dX1_tick_12 : decode cX1_tick 12 = .ok (.goto 4, 3) := dk_167 0 4 (dk_at dksX1_tick_0 12 rfl rfl)
theorem dX1_tick_15 : decode cX1_tick 15 = .ok (.iconst 0, 1) := dk_3 (dk_at dksX1_tick_0 15 rfl rfl)
theorem dX1_tick_16 : decode cX1_tick 16 = .ok (.invokestatic 85, 3) := dk_184 0 85 (dk_at dksX1_tick_0 16 rfl rfl)
theorem dX1_tick_19 : decode cX1_tick 19 = .ok (.aload_n 0, 1) := dk_42 (dk_at dksX1_tick_0 19 rfl rfl)
theorem dX1_tick_20 : decode cX1_tick 20 = .ok (.getfield 21, 3) := dk_180 0 21 (dk_at dksX1_tick_0 20 rfl rfl)
theorem dX1_tick_23 : decode cX1_tick 23 = .ok (.invokevirtual 117, 3) := dk_182 0 117 (dk_at dksX1_tick_1 0 rfl rfl)
theorem dX1_tick_26 : decode cX1_tick 26 = .ok (.astore_n 2, 1) := dk_77 (dk_at dksX1_tick_1 3 rfl rfl)
theorem dX1_tick_27 : decode cX1_tick 27 = .ok (.iconst 0, 1) := dk_3 (dk_at dksX1_tick_1 4 rfl rfl)
theorem dX1_tick_28 : decode cX1_tick 28 = .ok (.istore_n 3, 1) := dk_62 (dk_at dksX1_tick_1 5 rfl rfl)
theorem dX1_tick_29 : decode cX1_tick 29 = .ok (.iconst 0, 1) := dk_3 (dk_at dksX1_tick_1 6 rfl rfl)
theorem dX1_tick_30 : decode cX1_tick 30 = .ok (.istore 4, 2) := dk_54 4 (dk_at dksX1_tick_1 7 rfl rfl)
theorem dX1_tick_32 : decode cX1_tick 32 = .ok (.iload 4, 2) := dk_21 4 (dk_at dksX1_tick_1 9 rfl rfl)
theorem dX1_tick_34 : decode cX1_tick 34 = .ok (.iload_n 1, 1) := dk_27 (dk_at dksX1_tick_1 11 rfl rfl)
theorem dX1_tick_35 : decode cX1_tick 35 = .ok (.if_icmp .ge 105, 3) := dk_162 0 105 (dk_at dksX1_tick_1 12 rfl rfl)
theorem dX1_tick_38 : decode cX1_tick 38 = .ok (.aload_n 2, 1) := dk_44 (dk_at dksX1_tick_1 15 rfl rfl)
theorem dX1_tick_39 : decode cX1_tick 39 = .ok (.dup, 1) := dk_89 (dk_at dksX1_tick_1 16 rfl rfl)
theorem dX1_tick_40 : decode cX1_tick 40 = .ok (.getfield 124, 3) := dk_180 0 124 (dk_at dksX1_tick_1 17 rfl rfl)
theorem dX1_tick_43 : decode cX1_tick 43 = .ok (.iconst 1, 1) := dk_4 (dk_at dksX1_tick_1 20 rfl rfl)
theorem dX1_tick_44 : decode cX1_tick 44 = .ok (.iadd, 1) := dk_96 (dk_at dksX1_tick_1 21 rfl rfl)
theorem dX1_tick_45 : decode cX1_tick 45 = .ok (.putfield 124, 3) := dk_181 0 124 (dk_at dksX1_tick_2 0 rfl rfl)
theorem dX1_tick_48 : decode cX1_tick 48 = .ok (.aload_n 2, 1) := dk_44 (dk_at dksX1_tick_2 3 rfl rfl)
theorem dX1_tick_49 : decode cX1_tick 49 = .ok (.getfield 137, 3) := dk_180 0 137 (dk_at dksX1_tick_2 4 rfl rfl)
theorem dX1_tick_52 : decode cX1_tick 52 = .ok (.invokevirtual 58, 3) := dk_182 0 58 (dk_at dksX1_tick_2 7 rfl rfl)
theorem dX1_tick_55 : decode cX1_tick 55 = .ok (.istore 5, 2) := dk_54 5 (dk_at dksX1_tick_2 10 rfl rfl)
theorem dX1_tick_57 : decode cX1_tick 57 = .ok (.iload 5, 2) := dk_21 5 (dk_at dksX1_tick_2 12 rfl rfl)
theorem dX1_tick_59 : decode cX1_tick 59 = .ok (.iconst 1, 1) := dk_4 (dk_at dksX1_tick_2 14 rfl rfl)
theorem dX1_tick_60 : decode cX1_tick 60 = .ok (.isub, 1) := dk_100 (dk_at dksX1_tick_2 15 rfl rfl)
theorem dX1_tick_61 : decode cX1_tick 61 = .ok (.istore 6, 2) := dk_54 6 (dk_at dksX1_tick_2 16 rfl rfl)
theorem dX1_tick_63 : decode cX1_tick 63 = .ok (.iload 6, 2) := dk_21 6 (dk_at dksX1_tick_2 18 rfl rfl)
theorem dX1_tick_65 : decode cX1_tick 65 = .ok (.ifCond .lt 40, 3) := dk_155 0 40 (dk_at dksX1_tick_2 20 rfl rfl)
theorem dX1_tick_68 : decode cX1_tick 68 = .ok (.aload_n 2, 1) := dk_44 (dk_at dksX1_tick_2 23 rfl rfl)
theorem dX1_tick_69 : decode cX1_tick 69 = .ok (.getfield 137, 3) := dk_180 0 137 (dk_at dksX1_tick_3 0 rfl rfl)
theorem dX1_tick_72 : decode cX1_tick 72 = .ok (.iload 6, 2) := dk_21 6 (dk_at dksX1_tick_3 3 rfl rfl)
theorem dX1_tick_74 : decode cX1_tick 74 = .ok (.invokevirtual 70, 3) := dk_182 0 70 (dk_at dksX1_tick_3 5 rfl rfl)
theorem dX1_tick_77 : decode cX1_tick 77 = .ok (.checkcast 154, 3) := dk_192 0 154 (dk_at dksX1_tick_3 8 rfl rfl)
theorem dX1_tick_80 : decode cX1_tick 80 = .ok (.iconst 1, 1) := dk_4 (dk_at dksX1_tick_3 11 rfl rfl)
theorem dX1_tick_81 : decode cX1_tick 81 = .ok (.iaload, 1) := dk_46 (dk_at dksX1_tick_3 12 rfl rfl)
theorem dX1_tick_82 : decode cX1_tick 82 = .ok (.aload_n 2, 1) := dk_44 (dk_at dksX1_tick_3 13 rfl rfl)
theorem dX1_tick_83 : decode cX1_tick 83 = .ok (.getfield 124, 3) := dk_180 0 124 (dk_at dksX1_tick_3 14 rfl rfl)
theorem dX1_tick_86 : decode cX1_tick 86 = .ok (.if_icmp .ne 13, 3) := dk_160 0 13 (dk_at dksX1_tick_3 17 rfl rfl)
theorem dX1_tick_89 : decode cX1_tick 89 = .ok (.aload_n 2, 1) := dk_44 (dk_at dksX1_tick_3 20 rfl rfl)
theorem dX1_tick_90 : decode cX1_tick 90 = .ok (.getfield 137, 3) := dk_180 0 137 (dk_at dksX1_tick_3 21 rfl rfl)
theorem dX1_tick_93 : decode cX1_tick 93 = .ok (.iload 6, 2) := dk_21 6 (dk_at dksX1_tick_4 0 rfl rfl)
theorem dX1_tick_95 : decode cX1_tick 95 = .ok (.invokevirtual 140, 3) := dk_182 0 140 (dk_at dksX1_tick_4 2 rfl rfl)
theorem dX1_tick_98 : decode cX1_tick 98 = .ok (.pop, 1) := dk_87 (dk_at dksX1_tick_4 5 rfl rfl)
theorem dX1_tick_99 : decode cX1_tick 99 = .ok (.iinc 6 (-1), 3) := dk_132 6 255 (dk_at dksX1_tick_4 6 rfl rfl)
theorem dX1_tick_102 : decode cX1_tick 102 = .ok (.goto (-39), 3) := dk_167 255 217 (dk_at dksX1_tick_4 9 rfl rfl)
theorem dX1_tick_105 : decode cX1_tick 105 = .ok (.iload_n 3, 1) := dk_29 (dk_at dksX1_tick_4 12 rfl rfl)
theorem dX1_tick_106 : decode cX1_tick 106 = .ok (.iload 5, 2) := dk_21 5 (dk_at dksX1_tick_4 13 rfl rfl)
theorem dX1_tick_108 : decode cX1_tick 108 = .ok (.aload_n 2, 1) := dk_44 (dk_at dksX1_tick_4 15 rfl rfl)
theorem dX1_tick_109 : decode cX1_tick 109 = .ok (.getfield 137, 3) := dk_180 0 137 (dk_at dksX1_tick_4 16 rfl rfl)
theorem dX1_tick_112 : decode cX1_tick 112 = .ok (.invokevirtual 58, 3) := dk_182 0 58 (dk_at dksX1_tick_4 19 rfl rfl)
theorem dX1_tick_115 : decode cX1_tick 115 = .ok (.isub, 1) := dk_100 (dk_at dksX1_tick_4 22 rfl rfl)
theorem dX1_tick_116 : decode cX1_tick 116 = .ok (.iadd, 1) := dk_96 (dk_at dksX1_tick_4 23 rfl rfl)
theorem dX1_tick_117 : decode cX1_tick 117 = .ok (.istore_n 3, 1) := dk_62 (dk_at dksX1_tick_5 0 rfl rfl)
theorem dX1_tick_118 : decode cX1_tick 118 = .ok (.aload_n 2, 1) := dk_44 (dk_at dksX1_tick_5 1 rfl rfl)
theorem dX1_tick_119 : decode cX1_tick 119 = .ok (.getfield 137, 3) := dk_180 0 137 (dk_at dksX1_tick_5 2 rfl rfl)
theorem dX1_tick_122 : decode cX1_tick 122 = .ok (.invokevirtual 58, 3) := dk_182 0 58 (dk_at dksX1_tick_5 5 rfl rfl)
theorem dX1_tick_125 : decode cX1_tick 125 = .ok (.iload 5, 2) := dk_21 5 (dk_at dksX1_tick_5 8 rfl rfl)
theorem dX1_tick_127 : decode cX1_tick 127 = .ok (.if_icmp .ge 7, 3) := dk_162 0 7 (dk_at dksX1_tick_5 10 rfl rfl)
theorem dX1_tick_130 : decode cX1_tick 130 = .ok (.aload_n 2, 1) := dk_44 (dk_at dksX1_tick_5 13 rfl rfl)
theorem dX1_tick_131 : decode cX1_tick 131 = .ok (.invokevirtual 95, 3) := dk_182 0 95 (dk_at dksX1_tick_5 14 rfl rfl)
theorem dX1_tick_134 : decode cX1_tick 134 = .ok (.iinc 4 1, 3) := dk_132 4 1 (dk_at dksX1_tick_5 17 rfl rfl)
theorem dX1_tick_137 : decode cX1_tick 137 = .ok (.goto (-105), 3) := dk_167 255 151 (dk_at dksX1_tick_5 20 rfl rfl)
theorem dX1_tick_140 : decode cX1_tick 140 = .ok (.goto 16, 3) := dk_167 0 16 (dk_at dksX1_tick_6 0 rfl rfl)
theorem dX1_tick_143 : decode cX1_tick 143 = .ok (.astore 4, 2) := dk_58 4 (dk_at dksX1_tick_6 3 rfl rfl)
theorem dX1_tick_145 : decode cX1_tick 145 = .ok (.new 49, 3) := dk_187 0 49 (dk_at dksX1_tick_6 5 rfl rfl)
theorem dX1_tick_148 : decode cX1_tick 148 = .ok (.dup, 1) := dk_89 (dk_at dksX1_tick_6 8 rfl rfl)
theorem dX1_tick_149 : decode cX1_tick 149 = .ok (.aconst_null, 1) := dk_1 (dk_at dksX1_tick_6 9 rfl rfl)
theorem dX1_tick_150 : decode cX1_tick 150 = .ok (.aload 4, 2) := dk_25 4 (dk_at dksX1_tick_6 10 rfl rfl)
theorem dX1_tick_152 : decode cX1_tick 152 = .ok (.invokespecial 102, 3) := dk_183 0 102 (dk_at dksX1_tick_6 12 rfl rfl)
theorem dX1_tick_155 : decode cX1_tick 155 = .ok (.athrow, 1) := dk_191 (dk_at dksX1_tick_6 15 rfl rfl)
theorem dX1_tick_156 : decode cX1_tick 156 = .ok (.aload_n 0, 1) := dk_42 (dk_at dksX1_tick_6 16 rfl rfl)
theorem dX1_tick_157 : decode cX1_tick 157 = .ok (.aload_n 2, 1) := dk_44 (dk_at dksX1_tick_6 17 rfl rfl)
theorem dX1_tick_158 : decode cX1_tick 158 = .ok (.putfield 21, 3) := dk_181 0 21 (dk_at dksX1_tick_6 18 rfl rfl)
theorem dX1_tick_161 : decode cX1_tick 161 = .ok (.iload_n 3, 1) := dk_29 (dk_at dksX1_tick_6 21 rfl rfl)
theorem dX1_tick_162 : decode cX1_tick 162 = .ok (.ireturn, 1) := dk_172 (dk_at dksX1_tick_6 22 rfl rfl)
abbrev cX1_begin_2 : ByteArray := prog_1_method_82_code
def yX1_begin_2 : MethodName := ⟨RX1, "begin", "()I"⟩
def dkwX1_begin_2_1 : List UInt8 := [184, 0, 114, 42, 180, 0, 30, 42, 180, 0, 21, 182, 0, 42, 87, 42, 180, 0, 30, 182, 0, 58, 172]
abbrev dktX1_begin_2_1 : List UInt8 := dkwX1_begin_2_1 ++ []
def dkwX1_begin_2_0 : List UInt8 := [42, 180, 0, 162, 199, 0, 18, 42, 180, 0, 30, 182, 0, 58, 6, 162, 0, 7, 4, 167, 0, 4, 3]
abbrev dktX1_begin_2_0 : List UInt8 := dkwX1_begin_2_0 ++ dktX1_begin_2_1
theorem dksX1_begin_2_0 : cX1_begin_2.data.toList.drop 0 = dktX1_begin_2_0 := by decide +kernel
theorem dksX1_begin_2_1 : cX1_begin_2.data.toList.drop 23 = dktX1_begin_2_1 := dk_seg dksX1_begin_2_0 23 rfl rfl
theorem dX1_begin_2_0 : decode cX1_begin_2 0 = .ok (.aload_n 0, 1) := dk_42 (dk_at dksX1_begin_2_0 0 rfl rfl)
theorem dX1_begin_2_1 : decode cX1_begin_2 1 = .ok (.getfield 162, 3) := dk_180 0 162 (dk_at dksX1_begin_2_0 1 rfl rfl)
theorem dX1_begin_2_4 : decode cX1_begin_2 4 = .ok (.ifnonnull 18, 3) := dk_199 0 18 (dk_at dksX1_begin_2_0 4 rfl rfl)
theorem dX1_begin_2_7 : decode cX1_begin_2 7 = .ok (.aload_n 0, 1) := dk_42 (dk_at dksX1_begin_2_0 7 rfl rfl)
theorem dX1_begin_2_8 : decode cX1_begin_2 8 = .ok (.getfield 30, 3) := dk_180 0 30 (dk_at dksX1_begin_2_0 8 rfl rfl)
theorem dX1_begin_2_11 : decode cX1_begin_2 11 = .ok (.invokevirtual 58, 3) := dk_182 0 58 (dk_at dksX1_begin_2_0 11 rfl rfl)
theorem dX1_begin_2_14 : decode cX1_begin_2 14 = .ok (.iconst 3, 1) := dk_6 (dk_at dksX1_begin_2_0 14 rfl rfl)
theorem dX1_begin_2_15 : decode cX1_begin_2 15 = .ok (.if_icmp .ge 7, 3) := dk_162 0 7 (dk_at dksX1_begin_2_0 15 rfl rfl)
theorem dX1_begin_2_18 : decode cX1_begin_2 18 = .ok (.iconst 1, 1) := dk_4 (dk_at dksX1_begin_2_0 18 rfl rfl)
theorem dX1_begin_2_19 : decode cX1_begin_2 19 = .ok (.goto 4, 3) := dk_167 0 4 (dk_at dksX1_begin_2_0 19 rfl rfl)
theorem dX1_begin_2_22 : decode cX1_begin_2 22 = .ok (.iconst 0, 1) := dk_3 (dk_at dksX1_begin_2_0 22 rfl rfl)
theorem dX1_begin_2_23 : decode cX1_begin_2 23 = .ok (.invokestatic 114, 3) := dk_184 0 114 (dk_at dksX1_begin_2_1 0 rfl rfl)
theorem dX1_begin_2_26 : decode cX1_begin_2 26 = .ok (.aload_n 0, 1) := dk_42 (dk_at dksX1_begin_2_1 3 rfl rfl)
theorem dX1_begin_2_27 : decode cX1_begin_2 27 = .ok (.getfield 30, 3) := dk_180 0 30 (dk_at dksX1_begin_2_1 4 rfl rfl)
theorem dX1_begin_2_30 : decode cX1_begin_2 30 = .ok (.aload_n 0, 1) := dk_42 (dk_at dksX1_begin_2_1 7 rfl rfl)
theorem dX1_begin_2_31 : decode cX1_begin_2 31 = .ok (.getfield 21, 3) := dk_180 0 21 (dk_at dksX1_begin_2_1 8 rfl rfl)
theorem dX1_begin_2_34 : decode cX1_begin_2 34 = .ok (.invokevirtual 42, 3) := dk_182 0 42 (dk_at dksX1_begin_2_1 11 rfl rfl)
theorem dX1_begin_2_37 : decode cX1_begin_2 37 = .ok (.pop, 1) := dk_87 (dk_at dksX1_begin_2_1 14 rfl rfl)
theorem dX1_begin_2_38 : decode cX1_begin_2 38 = .ok (.aload_n 0, 1) := dk_42 (dk_at dksX1_begin_2_1 15 rfl rfl)
theorem dX1_begin_2_39 : decode cX1_begin_2 39 = .ok (.getfield 30, 3) := dk_180 0 30 (dk_at dksX1_begin_2_1 16 rfl rfl)
theorem dX1_begin_2_42 : decode cX1_begin_2 42 = .ok (.invokevirtual 58, 3) := dk_182 0 58 (dk_at dksX1_begin_2_1 19 rfl rfl)
theorem dX1_begin_2_45 : decode cX1_begin_2 45 = .ok (.ireturn, 1) := dk_172 (dk_at dksX1_begin_2_1 22 rfl rfl)
abbrev cX1_commit : ByteArray := prog_1_method_83_code
def yX1_commit : MethodName := ⟨RX1, "commit", "()I"⟩
def dkwX1_commit_2 : List UInt8 := [182, 0, 58, 172]
abbrev dktX1_commit_2 : List UInt8 := dkwX1_commit_2 ++ []
def dkwX1_commit_1 : List UInt8 := [184, 0, 114, 42, 180, 0, 30, 42, 180, 0, 30, 182, 0, 58, 4, 100, 182, 0, 140, 87, 42, 180, 0, 30]
abbrev dktX1_commit_1 : List UInt8 := dkwX1_commit_1 ++ dktX1_commit_2
def dkwX1_commit_0 : List UInt8 := [42, 180, 0, 162, 199, 0, 17, 42, 180, 0, 30, 182, 0, 230, 154, 0, 7, 4, 167, 0, 4, 3]
abbrev dktX1_commit_0 : List UInt8 := dkwX1_commit_0 ++ dktX1_commit_1
theorem dksX1_commit_0 : cX1_commit.data.toList.drop 0 = dktX1_commit_0 := by decide +kernel
theorem dksX1_commit_1 : cX1_commit.data.toList.drop 22 = dktX1_commit_1 := dk_seg dksX1_commit_0 22 rfl rfl
theorem dksX1_commit_2 : cX1_commit.data.toList.drop 46 = dktX1_commit_2 := dk_seg dksX1_commit_1 24 rfl rfl
theorem dX1_commit_0 : decode cX1_commit 0 = .ok (.aload_n 0, 1) := dk_42 (dk_at dksX1_commit_0 0 rfl rfl)
theorem dX1_commit_1 : decode cX1_commit 1 = .ok (.getfield 162, 3) := dk_180 0 162 (dk_at dksX1_commit_0 1 rfl rfl)
theorem dX1_commit_4 : decode cX1_commit 4 = .ok (.ifnonnull 17, 3) := dk_199 0 17 (dk_at dksX1_commit_0 4 rfl rfl)
theorem dX1_commit_7 : decode cX1_commit 7 = .ok (.aload_n 0, 1) := dk_42 (dk_at dksX1_commit_0 7 rfl rfl)
theorem dX1_commit_8 : decode cX1_commit 8 = .ok (.getfield 30, 3) := dk_180 0 30 (dk_at dksX1_commit_0 8 rfl rfl)
theorem dX1_commit_11 : decode cX1_commit 11 = .ok (.invokevirtual 230, 3) := dk_182 0 230 (dk_at dksX1_commit_0 11 rfl rfl)
theorem dX1_commit_14 : decode cX1_commit 14 = .ok (.ifCond .ne 7, 3) := dk_154 0 7 (dk_at dksX1_commit_0 14 rfl rfl)
theorem dX1_commit_17 : decode cX1_commit 17 = .ok (.iconst 1, 1) := dk_4 (dk_at dksX1_commit_0 17 rfl rfl)
theorem dX1_commit_18 : decode cX1_commit 18 = .ok (.goto 4, 3) := dk_167 0 4 (dk_at dksX1_commit_0 18 rfl rfl)
theorem dX1_commit_21 : decode cX1_commit 21 = .ok (.iconst 0, 1) := dk_3 (dk_at dksX1_commit_0 21 rfl rfl)
theorem dX1_commit_22 : decode cX1_commit 22 = .ok (.invokestatic 114, 3) := dk_184 0 114 (dk_at dksX1_commit_1 0 rfl rfl)
theorem dX1_commit_25 : decode cX1_commit 25 = .ok (.aload_n 0, 1) := dk_42 (dk_at dksX1_commit_1 3 rfl rfl)
theorem dX1_commit_26 : decode cX1_commit 26 = .ok (.getfield 30, 3) := dk_180 0 30 (dk_at dksX1_commit_1 4 rfl rfl)
theorem dX1_commit_29 : decode cX1_commit 29 = .ok (.aload_n 0, 1) := dk_42 (dk_at dksX1_commit_1 7 rfl rfl)
theorem dX1_commit_30 : decode cX1_commit 30 = .ok (.getfield 30, 3) := dk_180 0 30 (dk_at dksX1_commit_1 8 rfl rfl)
theorem dX1_commit_33 : decode cX1_commit 33 = .ok (.invokevirtual 58, 3) := dk_182 0 58 (dk_at dksX1_commit_1 11 rfl rfl)
theorem dX1_commit_36 : decode cX1_commit 36 = .ok (.iconst 1, 1) := dk_4 (dk_at dksX1_commit_1 14 rfl rfl)
theorem dX1_commit_37 : decode cX1_commit 37 = .ok (.isub, 1) := dk_100 (dk_at dksX1_commit_1 15 rfl rfl)
theorem dX1_commit_38 : decode cX1_commit 38 = .ok (.invokevirtual 140, 3) := dk_182 0 140 (dk_at dksX1_commit_1 16 rfl rfl)
theorem dX1_commit_41 : decode cX1_commit 41 = .ok (.pop, 1) := dk_87 (dk_at dksX1_commit_1 19 rfl rfl)
theorem dX1_commit_42 : decode cX1_commit 42 = .ok (.aload_n 0, 1) := dk_42 (dk_at dksX1_commit_1 20 rfl rfl)
theorem dX1_commit_43 : decode cX1_commit 43 = .ok (.getfield 30, 3) := dk_180 0 30 (dk_at dksX1_commit_1 21 rfl rfl)
theorem dX1_commit_46 : decode cX1_commit 46 = .ok (.invokevirtual 58, 3) := dk_182 0 58 (dk_at dksX1_commit_2 0 rfl rfl)
theorem dX1_commit_49 : decode cX1_commit 49 = .ok (.ireturn, 1) := dk_172 (dk_at dksX1_commit_2 3 rfl rfl)
abbrev cX1_rollBack : ByteArray := prog_1_method_84_code
def yX1_rollBack : MethodName := ⟨RX1, "rollBack", "()I"⟩
def dkwX1_rollBack_2 : List UInt8 := [181, 0, 21, 42, 180, 0, 21, 180, 0, 105, 180, 0, 109, 172]
abbrev dktX1_rollBack_2 : List UInt8 := dkwX1_rollBack_2 ++ []
def dkwX1_rollBack_1 : List UInt8 := [184, 0, 114, 42, 42, 180, 0, 30, 42, 180, 0, 30, 182, 0, 58, 4, 100, 182, 0, 140, 192, 0, 18]
abbrev dktX1_rollBack_1 : List UInt8 := dkwX1_rollBack_1 ++ dktX1_rollBack_2
def dkwX1_rollBack_0 : List UInt8 := [42, 180, 0, 162, 199, 0, 17, 42, 180, 0, 30, 182, 0, 230, 154, 0, 7, 4, 167, 0, 4, 3]
abbrev dktX1_rollBack_0 : List UInt8 := dkwX1_rollBack_0 ++ dktX1_rollBack_1
theorem dksX1_rollBack_0 : cX1_rollBack.data.toList.drop 0 = dktX1_rollBack_0 := by decide +kernel
theorem dksX1_rollBack_1 : cX1_rollBack.data.toList.drop 22 = dktX1_rollBack_1 := dk_seg dksX1_rollBack_0 22 rfl rfl
theorem dksX1_rollBack_2 : cX1_rollBack.data.toList.drop 45 = dktX1_rollBack_2 := dk_seg dksX1_rollBack_1 23 rfl rfl
theorem dX1_rollBack_0 : decode cX1_rollBack 0 = .ok (.aload_n 0, 1) := dk_42 (dk_at dksX1_rollBack_0 0 rfl rfl)
theorem dX1_rollBack_1 : decode cX1_rollBack 1 = .ok (.getfield 162, 3) := dk_180 0 162 (dk_at dksX1_rollBack_0 1 rfl rfl)
theorem dX1_rollBack_4 : decode cX1_rollBack 4 = .ok (.ifnonnull 17, 3) := dk_199 0 17 (dk_at dksX1_rollBack_0 4 rfl rfl)
theorem dX1_rollBack_7 : decode cX1_rollBack 7 = .ok (.aload_n 0, 1) := dk_42 (dk_at dksX1_rollBack_0 7 rfl rfl)
theorem dX1_rollBack_8 : decode cX1_rollBack 8 = .ok (.getfield 30, 3) := dk_180 0 30 (dk_at dksX1_rollBack_0 8 rfl rfl)
theorem dX1_rollBack_11 : decode cX1_rollBack 11 = .ok (.invokevirtual 230, 3) := dk_182 0 230 (dk_at dksX1_rollBack_0 11 rfl rfl)
theorem dX1_rollBack_14 : decode cX1_rollBack 14 = .ok (.ifCond .ne 7, 3) := dk_154 0 7 (dk_at dksX1_rollBack_0 14 rfl rfl)
theorem dX1_rollBack_17 : decode cX1_rollBack 17 = .ok (.iconst 1, 1) := dk_4 (dk_at dksX1_rollBack_0 17 rfl rfl)
theorem dX1_rollBack_18 : decode cX1_rollBack 18 = .ok (.goto 4, 3) := dk_167 0 4 (dk_at dksX1_rollBack_0 18 rfl rfl)
theorem dX1_rollBack_21 : decode cX1_rollBack 21 = .ok (.iconst 0, 1) := dk_3 (dk_at dksX1_rollBack_0 21 rfl rfl)
theorem dX1_rollBack_22 : decode cX1_rollBack 22 = .ok (.invokestatic 114, 3) := dk_184 0 114 (dk_at dksX1_rollBack_1 0 rfl rfl)
theorem dX1_rollBack_25 : decode cX1_rollBack 25 = .ok (.aload_n 0, 1) := dk_42 (dk_at dksX1_rollBack_1 3 rfl rfl)
theorem dX1_rollBack_26 : decode cX1_rollBack 26 = .ok (.aload_n 0, 1) := dk_42 (dk_at dksX1_rollBack_1 4 rfl rfl)
theorem dX1_rollBack_27 : decode cX1_rollBack 27 = .ok (.getfield 30, 3) := dk_180 0 30 (dk_at dksX1_rollBack_1 5 rfl rfl)
theorem dX1_rollBack_30 : decode cX1_rollBack 30 = .ok (.aload_n 0, 1) := dk_42 (dk_at dksX1_rollBack_1 8 rfl rfl)
theorem dX1_rollBack_31 : decode cX1_rollBack 31 = .ok (.getfield 30, 3) := dk_180 0 30 (dk_at dksX1_rollBack_1 9 rfl rfl)
theorem dX1_rollBack_34 : decode cX1_rollBack 34 = .ok (.invokevirtual 58, 3) := dk_182 0 58 (dk_at dksX1_rollBack_1 12 rfl rfl)
theorem dX1_rollBack_37 : decode cX1_rollBack 37 = .ok (.iconst 1, 1) := dk_4 (dk_at dksX1_rollBack_1 15 rfl rfl)
theorem dX1_rollBack_38 : decode cX1_rollBack 38 = .ok (.isub, 1) := dk_100 (dk_at dksX1_rollBack_1 16 rfl rfl)
theorem dX1_rollBack_39 : decode cX1_rollBack 39 = .ok (.invokevirtual 140, 3) := dk_182 0 140 (dk_at dksX1_rollBack_1 17 rfl rfl)
theorem dX1_rollBack_42 : decode cX1_rollBack 42 = .ok (.checkcast 18, 3) := dk_192 0 18 (dk_at dksX1_rollBack_1 20 rfl rfl)
theorem dX1_rollBack_45 : decode cX1_rollBack 45 = .ok (.putfield 21, 3) := dk_181 0 21 (dk_at dksX1_rollBack_2 0 rfl rfl)
theorem dX1_rollBack_48 : decode cX1_rollBack 48 = .ok (.aload_n 0, 1) := dk_42 (dk_at dksX1_rollBack_2 3 rfl rfl)
theorem dX1_rollBack_49 : decode cX1_rollBack 49 = .ok (.getfield 21, 3) := dk_180 0 21 (dk_at dksX1_rollBack_2 4 rfl rfl)
theorem dX1_rollBack_52 : decode cX1_rollBack 52 = .ok (.getfield 105, 3) := dk_180 0 105 (dk_at dksX1_rollBack_2 7 rfl rfl)
theorem dX1_rollBack_55 : decode cX1_rollBack 55 = .ok (.getfield 109, 3) := dk_180 0 109 (dk_at dksX1_rollBack_2 10 rfl rfl)
theorem dX1_rollBack_58 : decode cX1_rollBack 58 = .ok (.ireturn, 1) := dk_172 (dk_at dksX1_rollBack_2 13 rfl rfl)

abbrev cX2_init : ByteArray := prog_17_method_1_code
def yX2_init : MethodName := ⟨RX2, "<init>", "()V"⟩
def dkwX2_init_4 : List UInt8 := [183, 0, 11, 181, 0, 44, 177]
abbrev dktX2_init_4 : List UInt8 := dkwX2_init_4 ++ []
def dkwX2_init_3 : List UInt8 := [183, 0, 11, 181, 0, 37, 42, 187, 0, 9, 89, 183, 0, 40, 181, 0, 41, 42, 187, 0, 9, 89, 16, 8]
abbrev dktX2_init_3 : List UInt8 := dkwX2_init_3 ++ dktX2_init_4
def dkwX2_init_2 : List UInt8 := [181, 0, 30, 42, 187, 0, 9, 89, 16, 10, 183, 0, 11, 181, 0, 34, 42, 187, 0, 9, 89, 16, 6]
abbrev dktX2_init_2 : List UInt8 := dkwX2_init_2 ++ dktX2_init_3
def dkwX2_init_1 : List UInt8 := [183, 0, 11, 181, 0, 20, 42, 187, 0, 23, 89, 183, 0, 25, 181, 0, 26, 42, 16, 60, 188, 10]
abbrev dktX2_init_1 : List UInt8 := dkwX2_init_1 ++ dktX2_init_2
def dkwX2_init_0 : List UInt8 := [42, 183, 0, 3, 42, 187, 0, 9, 89, 16, 8, 183, 0, 11, 181, 0, 14, 42, 187, 0, 9, 89, 16, 60]
abbrev dktX2_init_0 : List UInt8 := dkwX2_init_0 ++ dktX2_init_1
theorem dksX2_init_0 : cX2_init.data.toList.drop 0 = dktX2_init_0 := by decide +kernel
theorem dksX2_init_1 : cX2_init.data.toList.drop 24 = dktX2_init_1 := dk_seg dksX2_init_0 24 rfl rfl
theorem dksX2_init_2 : cX2_init.data.toList.drop 46 = dktX2_init_2 := dk_seg dksX2_init_1 22 rfl rfl
theorem dksX2_init_3 : cX2_init.data.toList.drop 69 = dktX2_init_3 := dk_seg dksX2_init_2 23 rfl rfl
theorem dksX2_init_4 : cX2_init.data.toList.drop 93 = dktX2_init_4 := dk_seg dksX2_init_3 24 rfl rfl
theorem dX2_init_0 : decode cX2_init 0 = .ok (.aload_n 0, 1) := dk_42 (dk_at dksX2_init_0 0 rfl rfl)
theorem dX2_init_1 : decode cX2_init 1 = .ok (.invokespecial 3, 3) := dk_183 0 3 (dk_at dksX2_init_0 1 rfl rfl)
theorem dX2_init_4 : decode cX2_init 4 = .ok (.aload_n 0, 1) := dk_42 (dk_at dksX2_init_0 4 rfl rfl)
theorem dX2_init_5 : decode cX2_init 5 = .ok (.new 9, 3) := dk_187 0 9 (dk_at dksX2_init_0 5 rfl rfl)
theorem dX2_init_8 : decode cX2_init 8 = .ok (.dup, 1) := dk_89 (dk_at dksX2_init_0 8 rfl rfl)
theorem dX2_init_9 : decode cX2_init 9 = .ok (.bipush 8, 2) := dk_16 8 (dk_at dksX2_init_0 9 rfl rfl)
theorem dX2_init_11 : decode cX2_init 11 = .ok (.invokespecial 11, 3) := dk_183 0 11 (dk_at dksX2_init_0 11 rfl rfl)
theorem dX2_init_14 : decode cX2_init 14 = .ok (.putfield 14, 3) := dk_181 0 14 (dk_at dksX2_init_0 14 rfl rfl)
theorem dX2_init_17 : decode cX2_init 17 = .ok (.aload_n 0, 1) := dk_42 (dk_at dksX2_init_0 17 rfl rfl)
theorem dX2_init_18 : decode cX2_init 18 = .ok (.new 9, 3) := dk_187 0 9 (dk_at dksX2_init_0 18 rfl rfl)
theorem dX2_init_21 : decode cX2_init 21 = .ok (.dup, 1) := dk_89 (dk_at dksX2_init_0 21 rfl rfl)
theorem dX2_init_22 : decode cX2_init 22 = .ok (.bipush 60, 2) := dk_16 60 (dk_at dksX2_init_0 22 rfl rfl)
theorem dX2_init_24 : decode cX2_init 24 = .ok (.invokespecial 11, 3) := dk_183 0 11 (dk_at dksX2_init_1 0 rfl rfl)
theorem dX2_init_27 : decode cX2_init 27 = .ok (.putfield 20, 3) := dk_181 0 20 (dk_at dksX2_init_1 3 rfl rfl)
theorem dX2_init_30 : decode cX2_init 30 = .ok (.aload_n 0, 1) := dk_42 (dk_at dksX2_init_1 6 rfl rfl)
theorem dX2_init_31 : decode cX2_init 31 = .ok (.new 23, 3) := dk_187 0 23 (dk_at dksX2_init_1 7 rfl rfl)
theorem dX2_init_34 : decode cX2_init 34 = .ok (.dup, 1) := dk_89 (dk_at dksX2_init_1 10 rfl rfl)
theorem dX2_init_35 : decode cX2_init 35 = .ok (.invokespecial 25, 3) := dk_183 0 25 (dk_at dksX2_init_1 11 rfl rfl)
theorem dX2_init_38 : decode cX2_init 38 = .ok (.putfield 26, 3) := dk_181 0 26 (dk_at dksX2_init_1 14 rfl rfl)
theorem dX2_init_41 : decode cX2_init 41 = .ok (.aload_n 0, 1) := dk_42 (dk_at dksX2_init_1 17 rfl rfl)
theorem dX2_init_42 : decode cX2_init 42 = .ok (.bipush 60, 2) := dk_16 60 (dk_at dksX2_init_1 18 rfl rfl)
theorem dX2_init_44 : decode cX2_init 44 = .ok (.newarray .int, 2) := dk_188_10 (dk_at dksX2_init_1 20 rfl rfl)
theorem dX2_init_46 : decode cX2_init 46 = .ok (.putfield 30, 3) := dk_181 0 30 (dk_at dksX2_init_2 0 rfl rfl)
theorem dX2_init_49 : decode cX2_init 49 = .ok (.aload_n 0, 1) := dk_42 (dk_at dksX2_init_2 3 rfl rfl)
theorem dX2_init_50 : decode cX2_init 50 = .ok (.new 9, 3) := dk_187 0 9 (dk_at dksX2_init_2 4 rfl rfl)
theorem dX2_init_53 : decode cX2_init 53 = .ok (.dup, 1) := dk_89 (dk_at dksX2_init_2 7 rfl rfl)
theorem dX2_init_54 : decode cX2_init 54 = .ok (.bipush 10, 2) := dk_16 10 (dk_at dksX2_init_2 8 rfl rfl)
theorem dX2_init_56 : decode cX2_init 56 = .ok (.invokespecial 11, 3) := dk_183 0 11 (dk_at dksX2_init_2 10 rfl rfl)
theorem dX2_init_59 : decode cX2_init 59 = .ok (.putfield 34, 3) := dk_181 0 34 (dk_at dksX2_init_2 13 rfl rfl)
theorem dX2_init_62 : decode cX2_init 62 = .ok (.aload_n 0, 1) := dk_42 (dk_at dksX2_init_2 16 rfl rfl)
theorem dX2_init_63 : decode cX2_init 63 = .ok (.new 9, 3) := dk_187 0 9 (dk_at dksX2_init_2 17 rfl rfl)
theorem dX2_init_66 : decode cX2_init 66 = .ok (.dup, 1) := dk_89 (dk_at dksX2_init_2 20 rfl rfl)
theorem dX2_init_67 : decode cX2_init 67 = .ok (.bipush 6, 2) := dk_16 6 (dk_at dksX2_init_2 21 rfl rfl)
theorem dX2_init_69 : decode cX2_init 69 = .ok (.invokespecial 11, 3) := dk_183 0 11 (dk_at dksX2_init_3 0 rfl rfl)
theorem dX2_init_72 : decode cX2_init 72 = .ok (.putfield 37, 3) := dk_181 0 37 (dk_at dksX2_init_3 3 rfl rfl)
theorem dX2_init_75 : decode cX2_init 75 = .ok (.aload_n 0, 1) := dk_42 (dk_at dksX2_init_3 6 rfl rfl)
theorem dX2_init_76 : decode cX2_init 76 = .ok (.new 9, 3) := dk_187 0 9 (dk_at dksX2_init_3 7 rfl rfl)
theorem dX2_init_79 : decode cX2_init 79 = .ok (.dup, 1) := dk_89 (dk_at dksX2_init_3 10 rfl rfl)
theorem dX2_init_80 : decode cX2_init 80 = .ok (.invokespecial 40, 3) := dk_183 0 40 (dk_at dksX2_init_3 11 rfl rfl)
theorem dX2_init_83 : decode cX2_init 83 = .ok (.putfield 41, 3) := dk_181 0 41 (dk_at dksX2_init_3 14 rfl rfl)
theorem dX2_init_86 : decode cX2_init 86 = .ok (.aload_n 0, 1) := dk_42 (dk_at dksX2_init_3 17 rfl rfl)
theorem dX2_init_87 : decode cX2_init 87 = .ok (.new 9, 3) := dk_187 0 9 (dk_at dksX2_init_3 18 rfl rfl)
theorem dX2_init_90 : decode cX2_init 90 = .ok (.dup, 1) := dk_89 (dk_at dksX2_init_3 21 rfl rfl)
theorem dX2_init_91 : decode cX2_init 91 = .ok (.bipush 8, 2) := dk_16 8 (dk_at dksX2_init_3 22 rfl rfl)
theorem dX2_init_93 : decode cX2_init 93 = .ok (.invokespecial 11, 3) := dk_183 0 11 (dk_at dksX2_init_4 0 rfl rfl)
theorem dX2_init_96 : decode cX2_init 96 = .ok (.putfield 44, 3) := dk_181 0 44 (dk_at dksX2_init_4 3 rfl rfl)
theorem dX2_init_99 : decode cX2_init 99 = .ok (.return_, 1) := dk_177 (dk_at dksX2_init_4 6 rfl rfl)
abbrev cX2_hasFired : ByteArray := prog_17_method_14_code
def yX2_hasFired : MethodName := ⟨RX2, "hasFired", "(I[II)Z"⟩
def dkwX2_hasFired_4 : List UInt8 := [132, 8, 1, 167, 255, 217, 21, 7, 54, 4, 132, 5, 1, 167, 255, 158, 21, 4, 172]
abbrev dktX2_hasFired_4 : List UInt8 := dkwX2_hasFired_4 ++ []
def dkwX2_hasFired_3 : List UInt8 := [21, 8, 96, 46, 42, 44, 21, 8, 46, 182, 0, 169, 160, 0, 7, 4, 167, 0, 4, 3, 54, 7]
abbrev dktX2_hasFired_3 : List UInt8 := dkwX2_hasFired_3 ++ dktX2_hasFired_4
def dkwX2_hasFired_2 : List UInt8 := [167, 0, 4, 3, 54, 7, 3, 54, 8, 21, 8, 29, 162, 0, 39, 21, 7, 153, 0, 34, 25, 6, 4]
abbrev dktX2_hasFired_2 : List UInt8 := dkwX2_hasFired_2 ++ dktX2_hasFired_3
def dkwX2_hasFired_1 : List UInt8 := [180, 0, 41, 21, 5, 182, 0, 69, 192, 0, 73, 58, 6, 25, 6, 3, 46, 27, 160, 0, 7, 4]
abbrev dktX2_hasFired_1 : List UInt8 := dkwX2_hasFired_1 ++ dktX2_hasFired_2
def dkwX2_hasFired_0 : List UInt8 := [3, 54, 4, 3, 54, 5, 21, 5, 42, 180, 0, 41, 182, 0, 65, 162, 0, 92, 21, 4, 154, 0, 87, 42]
abbrev dktX2_hasFired_0 : List UInt8 := dkwX2_hasFired_0 ++ dktX2_hasFired_1
theorem dksX2_hasFired_0 : cX2_hasFired.data.toList.drop 0 = dktX2_hasFired_0 := by decide +kernel
theorem dksX2_hasFired_1 : cX2_hasFired.data.toList.drop 24 = dktX2_hasFired_1 := dk_seg dksX2_hasFired_0 24 rfl rfl
theorem dksX2_hasFired_2 : cX2_hasFired.data.toList.drop 46 = dktX2_hasFired_2 := dk_seg dksX2_hasFired_1 22 rfl rfl
theorem dksX2_hasFired_3 : cX2_hasFired.data.toList.drop 69 = dktX2_hasFired_3 := dk_seg dksX2_hasFired_2 23 rfl rfl
theorem dksX2_hasFired_4 : cX2_hasFired.data.toList.drop 91 = dktX2_hasFired_4 := dk_seg dksX2_hasFired_3 22 rfl rfl
theorem dX2_hasFired_0 : decode cX2_hasFired 0 = .ok (.iconst 0, 1) := dk_3 (dk_at dksX2_hasFired_0 0 rfl rfl)
theorem dX2_hasFired_1 : decode cX2_hasFired 1 = .ok (.istore 4, 2) := dk_54 4 (dk_at dksX2_hasFired_0 1 rfl rfl)
theorem dX2_hasFired_3 : decode cX2_hasFired 3 = .ok (.iconst 0, 1) := dk_3 (dk_at dksX2_hasFired_0 3 rfl rfl)
theorem dX2_hasFired_4 : decode cX2_hasFired 4 = .ok (.istore 5, 2) := dk_54 5 (dk_at dksX2_hasFired_0 4 rfl rfl)
theorem dX2_hasFired_6 : decode cX2_hasFired 6 = .ok (.iload 5, 2) := dk_21 5 (dk_at dksX2_hasFired_0 6 rfl rfl)
theorem dX2_hasFired_8 : decode cX2_hasFired 8 = .ok (.aload_n 0, 1) := dk_42 (dk_at dksX2_hasFired_0 8 rfl rfl)
theorem dX2_hasFired_9 : decode cX2_hasFired 9 = .ok (.getfield 41, 3) := dk_180 0 41 (dk_at dksX2_hasFired_0 9 rfl rfl)
theorem dX2_hasFired_12 : decode cX2_hasFired 12 = .ok (.invokevirtual 65, 3) := dk_182 0 65 (dk_at dksX2_hasFired_0 12 rfl rfl)
theorem dX2_hasFired_15 : decode cX2_hasFired 15 = .ok (.if_icmp .ge 92, 3) := dk_162 0 92 (dk_at dksX2_hasFired_0 15 rfl rfl)
theorem dX2_hasFired_18 : decode cX2_hasFired 18 = .ok (.iload 4, 2) := dk_21 4 (dk_at dksX2_hasFired_0 18 rfl rfl)
theorem dX2_hasFired_20 : decode cX2_hasFired 20 = .ok (.ifCond .ne 87, 3) := dk_154 0 87 (dk_at dksX2_hasFired_0 20 rfl rfl)
theorem dX2_hasFired_23 : decode cX2_hasFired 23 = .ok (.aload_n 0, 1) := dk_42 (dk_at dksX2_hasFired_0 23 rfl rfl)
theorem dX2_hasFired_24 : decode cX2_hasFired 24 = .ok (.getfield 41, 3) := dk_180 0 41 (dk_at dksX2_hasFired_1 0 rfl rfl)
theorem dX2_hasFired_27 : decode cX2_hasFired 27 = .ok (.iload 5, 2) := dk_21 5 (dk_at dksX2_hasFired_1 3 rfl rfl)
theorem dX2_hasFired_29 : decode cX2_hasFired 29 = .ok (.invokevirtual 69, 3) := dk_182 0 69 (dk_at dksX2_hasFired_1 5 rfl rfl)
theorem dX2_hasFired_32 : decode cX2_hasFired 32 = .ok (.checkcast 73, 3) := dk_192 0 73 (dk_at dksX2_hasFired_1 8 rfl rfl)
theorem dX2_hasFired_35 : decode cX2_hasFired 35 = .ok (.astore 6, 2) := dk_58 6 (dk_at dksX2_hasFired_1 11 rfl rfl)
theorem dX2_hasFired_37 : decode cX2_hasFired 37 = .ok (.aload 6, 2) := dk_25 6 (dk_at dksX2_hasFired_1 13 rfl rfl)
theorem dX2_hasFired_39 : decode cX2_hasFired 39 = .ok (.iconst 0, 1) := dk_3 (dk_at dksX2_hasFired_1 15 rfl rfl)
theorem dX2_hasFired_40 : decode cX2_hasFired 40 = .ok (.iaload, 1) := dk_46 (dk_at dksX2_hasFired_1 16 rfl rfl)
theorem dX2_hasFired_41 : decode cX2_hasFired 41 = .ok (.iload_n 1, 1) := dk_27 (dk_at dksX2_hasFired_1 17 rfl rfl)
theorem dX2_hasFired_42 : decode cX2_hasFired 42 = .ok (.if_icmp .ne 7, 3) := dk_160 0 7 (dk_at dksX2_hasFired_1 18 rfl rfl)
theorem dX2_hasFired_45 : decode cX2_hasFired 45 = .ok (.iconst 1, 1) := dk_4 (dk_at dksX2_hasFired_1 21 rfl rfl)
theorem dX2_hasFired_46 : decode cX2_hasFired 46 = .ok (.goto 4, 3) := dk_167 0 4 (dk_at dksX2_hasFired_2 0 rfl rfl)
theorem dX2_hasFired_49 : decode cX2_hasFired 49 = .ok (.iconst 0, 1) := dk_3 (dk_at dksX2_hasFired_2 3 rfl rfl)
theorem dX2_hasFired_50 : decode cX2_hasFired 50 = .ok (.istore 7, 2) := dk_54 7 (dk_at dksX2_hasFired_2 4 rfl rfl)
theorem dX2_hasFired_52 : decode cX2_hasFired 52 = .ok (.iconst 0, 1) := dk_3 (dk_at dksX2_hasFired_2 6 rfl rfl)
theorem dX2_hasFired_53 : decode cX2_hasFired 53 = .ok (.istore 8, 2) := dk_54 8 (dk_at dksX2_hasFired_2 7 rfl rfl)
theorem dX2_hasFired_55 : decode cX2_hasFired 55 = .ok (.iload 8, 2) := dk_21 8 (dk_at dksX2_hasFired_2 9 rfl rfl)
theorem dX2_hasFired_57 : decode cX2_hasFired 57 = .ok (.iload_n 3, 1) := dk_29 (dk_at dksX2_hasFired_2 11 rfl rfl)
theorem dX2_hasFired_58 : decode cX2_hasFired 58 = .ok (.if_icmp .ge 39, 3) := dk_162 0 39 (dk_at dksX2_hasFired_2 12 rfl rfl)
theorem dX2_hasFired_61 : decode cX2_hasFired 61 = .ok (.iload 7, 2) := dk_21 7 (dk_at dksX2_hasFired_2 15 rfl rfl)
theorem dX2_hasFired_63 : decode cX2_hasFired 63 = .ok (.ifCond .eq 34, 3) := dk_153 0 34 (dk_at dksX2_hasFired_2 17 rfl rfl)
theorem dX2_hasFired_66 : decode cX2_hasFired 66 = .ok (.aload 6, 2) := dk_25 6 (dk_at dksX2_hasFired_2 20 rfl rfl)
theorem dX2_hasFired_68 : decode cX2_hasFired 68 = .ok (.iconst 1, 1) := dk_4 (dk_at dksX2_hasFired_2 22 rfl rfl)
theorem dX2_hasFired_69 : decode cX2_hasFired 69 = .ok (.iload 8, 2) := dk_21 8 (dk_at dksX2_hasFired_3 0 rfl rfl)
theorem dX2_hasFired_71 : decode cX2_hasFired 71 = .ok (.iadd, 1) := dk_96 (dk_at dksX2_hasFired_3 2 rfl rfl)
theorem dX2_hasFired_72 : decode cX2_hasFired 72 = .ok (.iaload, 1) := dk_46 (dk_at dksX2_hasFired_3 3 rfl rfl)
theorem dX2_hasFired_73 : decode cX2_hasFired 73 = .ok (.aload_n 0, 1) := dk_42 (dk_at dksX2_hasFired_3 4 rfl rfl)
theorem dX2_hasFired_74 : decode cX2_hasFired 74 = .ok (.aload_n 2, 1) := dk_44 (dk_at dksX2_hasFired_3 5 rfl rfl)
theorem dX2_hasFired_75 : decode cX2_hasFired 75 = .ok (.iload 8, 2) := dk_21 8 (dk_at dksX2_hasFired_3 6 rfl rfl)
theorem dX2_hasFired_77 : decode cX2_hasFired 77 = .ok (.iaload, 1) := dk_46 (dk_at dksX2_hasFired_3 8 rfl rfl)
theorem dX2_hasFired_78 : decode cX2_hasFired 78 = .ok (.invokevirtual 169, 3) := dk_182 0 169 (dk_at dksX2_hasFired_3 9 rfl rfl)
theorem dX2_hasFired_81 : decode cX2_hasFired 81 = .ok (.if_icmp .ne 7, 3) := dk_160 0 7 (dk_at dksX2_hasFired_3 12 rfl rfl)
theorem dX2_hasFired_84 : decode cX2_hasFired 84 = .ok (.iconst 1, 1) := dk_4 (dk_at dksX2_hasFired_3 15 rfl rfl)
theorem dX2_hasFired_85 : decode cX2_hasFired 85 = .ok (.goto 4, 3) := dk_167 0 4 (dk_at dksX2_hasFired_3 16 rfl rfl)
theorem dX2_hasFired_88 : decode cX2_hasFired 88 = .ok (.iconst 0, 1) := dk_3 (dk_at dksX2_hasFired_3 19 rfl rfl)
theorem dX2_hasFired_89 : decode cX2_hasFired 89 = .ok (.istore 7, 2) := dk_54 7 (dk_at dksX2_hasFired_3 20 rfl rfl)
theorem dX2_hasFired_91 : decode cX2_hasFired 91 = .ok (.iinc 8 1, 3) := dk_132 8 1 (dk_at dksX2_hasFired_4 0 rfl rfl)
theorem dX2_hasFired_94 : decode cX2_hasFired 94 = .ok (.goto (-39), 3) := dk_167 255 217 (dk_at dksX2_hasFired_4 3 rfl rfl)
theorem dX2_hasFired_97 : decode cX2_hasFired 97 = .ok (.iload 7, 2) := dk_21 7 (dk_at dksX2_hasFired_4 6 rfl rfl)
theorem dX2_hasFired_99 : decode cX2_hasFired 99 = .ok (.istore 4, 2) := dk_54 4 (dk_at dksX2_hasFired_4 8 rfl rfl)
theorem dX2_hasFired_101 : decode cX2_hasFired 101 = .ok (.iinc 5 1, 3) := dk_132 5 1 (dk_at dksX2_hasFired_4 10 rfl rfl)
theorem dX2_hasFired_104 : decode cX2_hasFired 104 = .ok (.goto (-98), 3) := dk_167 255 158 (dk_at dksX2_hasFired_4 13 rfl rfl)
theorem dX2_hasFired_107 : decode cX2_hasFired 107 = .ok (.iload 4, 2) := dk_21 4 (dk_at dksX2_hasFired_4 16 rfl rfl)
theorem dX2_hasFired_109 : decode cX2_hasFired 109 = .ok (.ireturn, 1) := dk_172 (dk_at dksX2_hasFired_4 18 rfl rfl)
abbrev cX2_tagOf : ByteArray := prog_17_method_13_code
def yX2_tagOf : MethodName := ⟨RX2, "tagOf", "(I)I"⟩
def dkwX2_tagOf_1 : List UInt8 := [172]
abbrev dktX2_tagOf_1 : List UInt8 := dkwX2_tagOf_1 ++ []
def dkwX2_tagOf_0 : List UInt8 := [42, 180, 0, 26, 27, 182, 0, 159, 61, 28, 2, 160, 0, 7, 2, 167, 0, 9, 42, 180, 0, 30, 28, 46]
abbrev dktX2_tagOf_0 : List UInt8 := dkwX2_tagOf_0 ++ dktX2_tagOf_1
theorem dksX2_tagOf_0 : cX2_tagOf.data.toList.drop 0 = dktX2_tagOf_0 := by decide +kernel
theorem dksX2_tagOf_1 : cX2_tagOf.data.toList.drop 24 = dktX2_tagOf_1 := dk_seg dksX2_tagOf_0 24 rfl rfl
theorem dX2_tagOf_0 : decode cX2_tagOf 0 = .ok (.aload_n 0, 1) := dk_42 (dk_at dksX2_tagOf_0 0 rfl rfl)
theorem dX2_tagOf_1 : decode cX2_tagOf 1 = .ok (.getfield 26, 3) := dk_180 0 26 (dk_at dksX2_tagOf_0 1 rfl rfl)
theorem dX2_tagOf_4 : decode cX2_tagOf 4 = .ok (.iload_n 1, 1) := dk_27 (dk_at dksX2_tagOf_0 4 rfl rfl)
theorem dX2_tagOf_5 : decode cX2_tagOf 5 = .ok (.invokevirtual 159, 3) := dk_182 0 159 (dk_at dksX2_tagOf_0 5 rfl rfl)
theorem dX2_tagOf_8 : decode cX2_tagOf 8 = .ok (.istore_n 2, 1) := dk_61 (dk_at dksX2_tagOf_0 8 rfl rfl)
theorem dX2_tagOf_9 : decode cX2_tagOf 9 = .ok (.iload_n 2, 1) := dk_28 (dk_at dksX2_tagOf_0 9 rfl rfl)
theorem dX2_tagOf_10 : decode cX2_tagOf 10 = .ok (.iconst (-1), 1) := dk_2 (dk_at dksX2_tagOf_0 10 rfl rfl)
theorem dX2_tagOf_11 : decode cX2_tagOf 11 = .ok (.if_icmp .ne 7, 3) := dk_160 0 7 (dk_at dksX2_tagOf_0 11 rfl rfl)
theorem dX2_tagOf_14 : decode cX2_tagOf 14 = .ok (.iconst (-1), 1) := dk_2 (dk_at dksX2_tagOf_0 14 rfl rfl)
theorem dX2_tagOf_15 : decode cX2_tagOf 15 = .ok (.goto 9, 3) := dk_167 0 9 (dk_at dksX2_tagOf_0 15 rfl rfl)
theorem dX2_tagOf_18 : decode cX2_tagOf 18 = .ok (.aload_n 0, 1) := dk_42 (dk_at dksX2_tagOf_0 18 rfl rfl)
theorem dX2_tagOf_19 : decode cX2_tagOf 19 = .ok (.getfield 30, 3) := dk_180 0 30 (dk_at dksX2_tagOf_0 19 rfl rfl)
theorem dX2_tagOf_22 : decode cX2_tagOf 22 = .ok (.iload_n 2, 1) := dk_28 (dk_at dksX2_tagOf_0 22 rfl rfl)
theorem dX2_tagOf_23 : decode cX2_tagOf 23 = .ok (.iaload, 1) := dk_46 (dk_at dksX2_tagOf_0 23 rfl rfl)
theorem dX2_tagOf_24 : decode cX2_tagOf 24 = .ok (.ireturn, 1) := dk_172 (dk_at dksX2_tagOf_1 0 rfl rfl)
abbrev cX2_copy : ByteArray := prog_17_method_2_code
def yX2_copy : MethodName := ⟨RX2, "copy", "()LRulehearth$World;"⟩
def dkwX2_copy_5 : List UInt8 := [43, 42, 180, 0, 62, 181, 0, 62, 43, 176]
abbrev dktX2_copy_5 : List UInt8 := dkwX2_copy_5 ++ []
def dkwX2_copy_4 : List UInt8 := [43, 180, 0, 41, 42, 180, 0, 41, 182, 0, 48, 87, 43, 180, 0, 44, 42, 180, 0, 44, 182, 0, 48, 87]
abbrev dktX2_copy_4 : List UInt8 := dkwX2_copy_4 ++ dktX2_copy_5
def dkwX2_copy_3 : List UInt8 := [42, 180, 0, 37, 182, 0, 48, 87, 43, 42, 180, 0, 56, 181, 0, 56, 43, 42, 180, 0, 59, 181, 0, 59]
abbrev dktX2_copy_3 : List UInt8 := dkwX2_copy_3 ++ dktX2_copy_4
def dkwX2_copy_2 : List UInt8 := [43, 42, 180, 0, 52, 181, 0, 52, 43, 180, 0, 34, 42, 180, 0, 34, 182, 0, 48, 87, 43, 180, 0, 37]
abbrev dktX2_copy_2 : List UInt8 := dkwX2_copy_2 ++ dktX2_copy_3
def dkwX2_copy_1 : List UInt8 := [42, 180, 0, 20, 182, 0, 48, 87, 43, 42, 180, 0, 26, 181, 0, 26, 43, 42, 180, 0, 30, 181, 0, 30]
abbrev dktX2_copy_1 : List UInt8 := dkwX2_copy_1 ++ dktX2_copy_2
def dkwX2_copy_0 : List UInt8 := [187, 0, 15, 89, 183, 0, 47, 76, 43, 180, 0, 14, 42, 180, 0, 14, 182, 0, 48, 87, 43, 180, 0, 20]
abbrev dktX2_copy_0 : List UInt8 := dkwX2_copy_0 ++ dktX2_copy_1
theorem dksX2_copy_0 : cX2_copy.data.toList.drop 0 = dktX2_copy_0 := by decide +kernel
theorem dksX2_copy_1 : cX2_copy.data.toList.drop 24 = dktX2_copy_1 := dk_seg dksX2_copy_0 24 rfl rfl
theorem dksX2_copy_2 : cX2_copy.data.toList.drop 48 = dktX2_copy_2 := dk_seg dksX2_copy_1 24 rfl rfl
theorem dksX2_copy_3 : cX2_copy.data.toList.drop 72 = dktX2_copy_3 := dk_seg dksX2_copy_2 24 rfl rfl
theorem dksX2_copy_4 : cX2_copy.data.toList.drop 96 = dktX2_copy_4 := dk_seg dksX2_copy_3 24 rfl rfl
theorem dksX2_copy_5 : cX2_copy.data.toList.drop 120 = dktX2_copy_5 := dk_seg dksX2_copy_4 24 rfl rfl
theorem dX2_copy_0 : decode cX2_copy 0 = .ok (.new 15, 3) := dk_187 0 15 (dk_at dksX2_copy_0 0 rfl rfl)
theorem dX2_copy_3 : decode cX2_copy 3 = .ok (.dup, 1) := dk_89 (dk_at dksX2_copy_0 3 rfl rfl)
theorem dX2_copy_4 : decode cX2_copy 4 = .ok (.invokespecial 47, 3) := dk_183 0 47 (dk_at dksX2_copy_0 4 rfl rfl)
theorem dX2_copy_7 : decode cX2_copy 7 = .ok (.astore_n 1, 1) := dk_76 (dk_at dksX2_copy_0 7 rfl rfl)
theorem dX2_copy_8 : decode cX2_copy 8 = .ok (.aload_n 1, 1) := dk_43 (dk_at dksX2_copy_0 8 rfl rfl)
theorem dX2_copy_9 : decode cX2_copy 9 = .ok (.getfield 14, 3) := dk_180 0 14 (dk_at dksX2_copy_0 9 rfl rfl)
theorem dX2_copy_12 : decode cX2_copy 12 = .ok (.aload_n 0, 1) := dk_42 (dk_at dksX2_copy_0 12 rfl rfl)
theorem dX2_copy_13 : decode cX2_copy 13 = .ok (.getfield 14, 3) := dk_180 0 14 (dk_at dksX2_copy_0 13 rfl rfl)
theorem dX2_copy_16 : decode cX2_copy 16 = .ok (.invokevirtual 48, 3) := dk_182 0 48 (dk_at dksX2_copy_0 16 rfl rfl)
theorem dX2_copy_19 : decode cX2_copy 19 = .ok (.pop, 1) := dk_87 (dk_at dksX2_copy_0 19 rfl rfl)
theorem dX2_copy_20 : decode cX2_copy 20 = .ok (.aload_n 1, 1) := dk_43 (dk_at dksX2_copy_0 20 rfl rfl)
theorem dX2_copy_21 : decode cX2_copy 21 = .ok (.getfield 20, 3) := dk_180 0 20 (dk_at dksX2_copy_0 21 rfl rfl)
theorem dX2_copy_24 : decode cX2_copy 24 = .ok (.aload_n 0, 1) := dk_42 (dk_at dksX2_copy_1 0 rfl rfl)
theorem dX2_copy_25 : decode cX2_copy 25 = .ok (.getfield 20, 3) := dk_180 0 20 (dk_at dksX2_copy_1 1 rfl rfl)
theorem dX2_copy_28 : decode cX2_copy 28 = .ok (.invokevirtual 48, 3) := dk_182 0 48 (dk_at dksX2_copy_1 4 rfl rfl)
theorem dX2_copy_31 : decode cX2_copy 31 = .ok (.pop, 1) := dk_87 (dk_at dksX2_copy_1 7 rfl rfl)
theorem dX2_copy_32 : decode cX2_copy 32 = .ok (.aload_n 1, 1) := dk_43 (dk_at dksX2_copy_1 8 rfl rfl)
theorem dX2_copy_33 : decode cX2_copy 33 = .ok (.aload_n 0, 1) := dk_42 (dk_at dksX2_copy_1 9 rfl rfl)
theorem dX2_copy_34 : decode cX2_copy 34 = .ok (.getfield 26, 3) := dk_180 0 26 (dk_at dksX2_copy_1 10 rfl rfl)
theorem dX2_copy_37 : decode cX2_copy 37 = .ok (.putfield 26, 3) := dk_181 0 26 (dk_at dksX2_copy_1 13 rfl rfl)
theorem dX2_copy_40 : decode cX2_copy 40 = .ok (.aload_n 1, 1) := dk_43 (dk_at dksX2_copy_1 16 rfl rfl)
theorem dX2_copy_41 : decode cX2_copy 41 = .ok (.aload_n 0, 1) := dk_42 (dk_at dksX2_copy_1 17 rfl rfl)
theorem dX2_copy_42 : decode cX2_copy 42 = .ok (.getfield 30, 3) := dk_180 0 30 (dk_at dksX2_copy_1 18 rfl rfl)
theorem dX2_copy_45 : decode cX2_copy 45 = .ok (.putfield 30, 3) := dk_181 0 30 (dk_at dksX2_copy_1 21 rfl rfl)
theorem dX2_copy_48 : decode cX2_copy 48 = .ok (.aload_n 1, 1) := dk_43 (dk_at dksX2_copy_2 0 rfl rfl)
theorem dX2_copy_49 : decode cX2_copy 49 = .ok (.aload_n 0, 1) := dk_42 (dk_at dksX2_copy_2 1 rfl rfl)
theorem dX2_copy_50 : decode cX2_copy 50 = .ok (.getfield 52, 3) := dk_180 0 52 (dk_at dksX2_copy_2 2 rfl rfl)
theorem dX2_copy_53 : decode cX2_copy 53 = .ok (.putfield 52, 3) := dk_181 0 52 (dk_at dksX2_copy_2 5 rfl rfl)
theorem dX2_copy_56 : decode cX2_copy 56 = .ok (.aload_n 1, 1) := dk_43 (dk_at dksX2_copy_2 8 rfl rfl)
theorem dX2_copy_57 : decode cX2_copy 57 = .ok (.getfield 34, 3) := dk_180 0 34 (dk_at dksX2_copy_2 9 rfl rfl)
theorem dX2_copy_60 : decode cX2_copy 60 = .ok (.aload_n 0, 1) := dk_42 (dk_at dksX2_copy_2 12 rfl rfl)
theorem dX2_copy_61 : decode cX2_copy 61 = .ok (.getfield 34, 3) := dk_180 0 34 (dk_at dksX2_copy_2 13 rfl rfl)
theorem dX2_copy_64 : decode cX2_copy 64 = .ok (.invokevirtual 48, 3) := dk_182 0 48 (dk_at dksX2_copy_2 16 rfl rfl)
theorem dX2_copy_67 : decode cX2_copy 67 = .ok (.pop, 1) := dk_87 (dk_at dksX2_copy_2 19 rfl rfl)
theorem dX2_copy_68 : decode cX2_copy 68 = .ok (.aload_n 1, 1) := dk_43 (dk_at dksX2_copy_2 20 rfl rfl)
theorem dX2_copy_69 : decode cX2_copy 69 = .ok (.getfield 37, 3) := dk_180 0 37 (dk_at dksX2_copy_2 21 rfl rfl)
theorem dX2_copy_72 : decode cX2_copy 72 = .ok (.aload_n 0, 1) := dk_42 (dk_at dksX2_copy_3 0 rfl rfl)
theorem dX2_copy_73 : decode cX2_copy 73 = .ok (.getfield 37, 3) := dk_180 0 37 (dk_at dksX2_copy_3 1 rfl rfl)
theorem dX2_copy_76 : decode cX2_copy 76 = .ok (.invokevirtual 48, 3) := dk_182 0 48 (dk_at dksX2_copy_3 4 rfl rfl)
theorem dX2_copy_79 : decode cX2_copy 79 = .ok (.pop, 1) := dk_87 (dk_at dksX2_copy_3 7 rfl rfl)
theorem dX2_copy_80 : decode cX2_copy 80 = .ok (.aload_n 1, 1) := dk_43 (dk_at dksX2_copy_3 8 rfl rfl)
theorem dX2_copy_81 : decode cX2_copy 81 = .ok (.aload_n 0, 1) := dk_42 (dk_at dksX2_copy_3 9 rfl rfl)
theorem dX2_copy_82 : decode cX2_copy 82 = .ok (.getfield 56, 3) := dk_180 0 56 (dk_at dksX2_copy_3 10 rfl rfl)
theorem dX2_copy_85 : decode cX2_copy 85 = .ok (.putfield 56, 3) := dk_181 0 56 (dk_at dksX2_copy_3 13 rfl rfl)
theorem dX2_copy_88 : decode cX2_copy 88 = .ok (.aload_n 1, 1) := dk_43 (dk_at dksX2_copy_3 16 rfl rfl)
theorem dX2_copy_89 : decode cX2_copy 89 = .ok (.aload_n 0, 1) := dk_42 (dk_at dksX2_copy_3 17 rfl rfl)
theorem dX2_copy_90 : decode cX2_copy 90 = .ok (.getfield 59, 3) := dk_180 0 59 (dk_at dksX2_copy_3 18 rfl rfl)
theorem dX2_copy_93 : decode cX2_copy 93 = .ok (.putfield 59, 3) := dk_181 0 59 (dk_at dksX2_copy_3 21 rfl rfl)
theorem dX2_copy_96 : decode cX2_copy 96 = .ok (.aload_n 1, 1) := dk_43 (dk_at dksX2_copy_4 0 rfl rfl)
theorem dX2_copy_97 : decode cX2_copy 97 = .ok (.getfield 41, 3) := dk_180 0 41 (dk_at dksX2_copy_4 1 rfl rfl)
theorem dX2_copy_100 : decode cX2_copy 100 = .ok (.aload_n 0, 1) := dk_42 (dk_at dksX2_copy_4 4 rfl rfl)
theorem dX2_copy_101 : decode cX2_copy 101 = .ok (.getfield 41, 3) := dk_180 0 41 (dk_at dksX2_copy_4 5 rfl rfl)
theorem dX2_copy_104 : decode cX2_copy 104 = .ok (.invokevirtual 48, 3) := dk_182 0 48 (dk_at dksX2_copy_4 8 rfl rfl)
theorem dX2_copy_107 : decode cX2_copy 107 = .ok (.pop, 1) := dk_87 (dk_at dksX2_copy_4 11 rfl rfl)
theorem dX2_copy_108 : decode cX2_copy 108 = .ok (.aload_n 1, 1) := dk_43 (dk_at dksX2_copy_4 12 rfl rfl)
theorem dX2_copy_109 : decode cX2_copy 109 = .ok (.getfield 44, 3) := dk_180 0 44 (dk_at dksX2_copy_4 13 rfl rfl)
theorem dX2_copy_112 : decode cX2_copy 112 = .ok (.aload_n 0, 1) := dk_42 (dk_at dksX2_copy_4 16 rfl rfl)
theorem dX2_copy_113 : decode cX2_copy 113 = .ok (.getfield 44, 3) := dk_180 0 44 (dk_at dksX2_copy_4 17 rfl rfl)
theorem dX2_copy_116 : decode cX2_copy 116 = .ok (.invokevirtual 48, 3) := dk_182 0 48 (dk_at dksX2_copy_4 20 rfl rfl)
theorem dX2_copy_119 : decode cX2_copy 119 = .ok (.pop, 1) := dk_87 (dk_at dksX2_copy_4 23 rfl rfl)
theorem dX2_copy_120 : decode cX2_copy 120 = .ok (.aload_n 1, 1) := dk_43 (dk_at dksX2_copy_5 0 rfl rfl)
theorem dX2_copy_121 : decode cX2_copy 121 = .ok (.aload_n 0, 1) := dk_42 (dk_at dksX2_copy_5 1 rfl rfl)
theorem dX2_copy_122 : decode cX2_copy 122 = .ok (.getfield 62, 3) := dk_180 0 62 (dk_at dksX2_copy_5 2 rfl rfl)
theorem dX2_copy_125 : decode cX2_copy 125 = .ok (.putfield 62, 3) := dk_181 0 62 (dk_at dksX2_copy_5 5 rfl rfl)
theorem dX2_copy_128 : decode cX2_copy 128 = .ok (.aload_n 1, 1) := dk_43 (dk_at dksX2_copy_5 8 rfl rfl)
theorem dX2_copy_129 : decode cX2_copy 129 = .ok (.areturn, 1) := dk_176 (dk_at dksX2_copy_5 9 rfl rfl)
abbrev cX2_tell : ByteArray := prog_17_method_4_code
def yX2_tell : MethodName := ⟨RX2, "tell", "(II)V"⟩
def dkwX2_tell_3 : List UInt8 := [167, 0, 9, 21, 4, 28, 184, 0, 82, 79, 182, 0, 88, 87, 177]
abbrev dktX2_tell_3 : List UInt8 := dkwX2_tell_3 ++ []
def dkwX2_tell_2 : List UInt8 := [42, 180, 0, 20, 29, 5, 188, 10, 89, 3, 27, 79, 89, 4, 21, 4, 153, 0, 7, 28, 154, 0, 7, 3]
abbrev dktX2_tell_2 : List UInt8 := dkwX2_tell_2 ++ dktX2_tell_3
def dkwX2_tell_1 : List UInt8 := [28, 79, 182, 0, 78, 87, 167, 0, 56, 42, 180, 0, 20, 29, 182, 0, 69, 192, 0, 73, 4, 46, 54, 4]
abbrev dktX2_tell_1 : List UInt8 := dkwX2_tell_1 ++ dktX2_tell_2
def dkwX2_tell_0 : List UInt8 := [42, 27, 182, 0, 74, 62, 29, 2, 160, 0, 25, 42, 180, 0, 20, 5, 188, 10, 89, 3, 27, 79, 89, 4]
abbrev dktX2_tell_0 : List UInt8 := dkwX2_tell_0 ++ dktX2_tell_1
theorem dksX2_tell_0 : cX2_tell.data.toList.drop 0 = dktX2_tell_0 := by decide +kernel
theorem dksX2_tell_1 : cX2_tell.data.toList.drop 24 = dktX2_tell_1 := dk_seg dksX2_tell_0 24 rfl rfl
theorem dksX2_tell_2 : cX2_tell.data.toList.drop 48 = dktX2_tell_2 := dk_seg dksX2_tell_1 24 rfl rfl
theorem dksX2_tell_3 : cX2_tell.data.toList.drop 72 = dktX2_tell_3 := dk_seg dksX2_tell_2 24 rfl rfl
theorem dX2_tell_0 : decode cX2_tell 0 = .ok (.aload_n 0, 1) := dk_42 (dk_at dksX2_tell_0 0 rfl rfl)
theorem dX2_tell_1 : decode cX2_tell 1 = .ok (.iload_n 1, 1) := dk_27 (dk_at dksX2_tell_0 1 rfl rfl)
theorem dX2_tell_2 : decode cX2_tell 2 = .ok (.invokevirtual 74, 3) := dk_182 0 74 (dk_at dksX2_tell_0 2 rfl rfl)
theorem dX2_tell_5 : decode cX2_tell 5 = .ok (.istore_n 3, 1) := dk_62 (dk_at dksX2_tell_0 5 rfl rfl)
theorem dX2_tell_6 : decode cX2_tell 6 = .ok (.iload_n 3, 1) := dk_29 (dk_at dksX2_tell_0 6 rfl rfl)
theorem dX2_tell_7 : decode cX2_tell 7 = .ok (.iconst (-1), 1) := dk_2 (dk_at dksX2_tell_0 7 rfl rfl)
theorem dX2_tell_8 : decode cX2_tell 8 = .ok (.if_icmp .ne 25, 3) := dk_160 0 25 (dk_at dksX2_tell_0 8 rfl rfl)
theorem dX2_tell_11 : decode cX2_tell 11 = .ok (.aload_n 0, 1) := dk_42 (dk_at dksX2_tell_0 11 rfl rfl)
theorem dX2_tell_12 : decode cX2_tell 12 = .ok (.getfield 20, 3) := dk_180 0 20 (dk_at dksX2_tell_0 12 rfl rfl)
theorem dX2_tell_15 : decode cX2_tell 15 = .ok (.iconst 2, 1) := dk_5 (dk_at dksX2_tell_0 15 rfl rfl)
theorem dX2_tell_16 : decode cX2_tell 16 = .ok (.newarray .int, 2) := dk_188_10 (dk_at dksX2_tell_0 16 rfl rfl)
theorem dX2_tell_18 : decode cX2_tell 18 = .ok (.dup, 1) := dk_89 (dk_at dksX2_tell_0 18 rfl rfl)
theorem dX2_tell_19 : decode cX2_tell 19 = .ok (.iconst 0, 1) := dk_3 (dk_at dksX2_tell_0 19 rfl rfl)
theorem dX2_tell_20 : decode cX2_tell 20 = .ok (.iload_n 1, 1) := dk_27 (dk_at dksX2_tell_0 20 rfl rfl)
theorem dX2_tell_21 : decode cX2_tell 21 = .ok (.iastore, 1) := dk_79 (dk_at dksX2_tell_0 21 rfl rfl)
theorem dX2_tell_22 : decode cX2_tell 22 = .ok (.dup, 1) := dk_89 (dk_at dksX2_tell_0 22 rfl rfl)
theorem dX2_tell_23 : decode cX2_tell 23 = .ok (.iconst 1, 1) := dk_4 (dk_at dksX2_tell_0 23 rfl rfl)
theorem dX2_tell_24 : decode cX2_tell 24 = .ok (.iload_n 2, 1) := dk_28 (dk_at dksX2_tell_1 0 rfl rfl)
theorem dX2_tell_25 : decode cX2_tell 25 = .ok (.iastore, 1) := dk_79 (dk_at dksX2_tell_1 1 rfl rfl)
theorem dX2_tell_26 : decode cX2_tell 26 = .ok (.invokevirtual 78, 3) := dk_182 0 78 (dk_at dksX2_tell_1 2 rfl rfl)
theorem dX2_tell_29 : decode cX2_tell 29 = .ok (.pop, 1) := dk_87 (dk_at dksX2_tell_1 5 rfl rfl)
theorem dX2_tell_30 : decode cX2_tell 30 = .ok (.goto 56, 3) := dk_167 0 56 (dk_at dksX2_tell_1 6 rfl rfl)
theorem dX2_tell_33 : decode cX2_tell 33 = .ok (.aload_n 0, 1) := dk_42 (dk_at dksX2_tell_1 9 rfl rfl)
theorem dX2_tell_34 : decode cX2_tell 34 = .ok (.getfield 20, 3) := dk_180 0 20 (dk_at dksX2_tell_1 10 rfl rfl)
theorem dX2_tell_37 : decode cX2_tell 37 = .ok (.iload_n 3, 1) := dk_29 (dk_at dksX2_tell_1 13 rfl rfl)
theorem dX2_tell_38 : decode cX2_tell 38 = .ok (.invokevirtual 69, 3) := dk_182 0 69 (dk_at dksX2_tell_1 14 rfl rfl)
theorem dX2_tell_41 : decode cX2_tell 41 = .ok (.checkcast 73, 3) := dk_192 0 73 (dk_at dksX2_tell_1 17 rfl rfl)
theorem dX2_tell_44 : decode cX2_tell 44 = .ok (.iconst 1, 1) := dk_4 (dk_at dksX2_tell_1 20 rfl rfl)
theorem dX2_tell_45 : decode cX2_tell 45 = .ok (.iaload, 1) := dk_46 (dk_at dksX2_tell_1 21 rfl rfl)
theorem dX2_tell_46 : decode cX2_tell 46 = .ok (.istore 4, 2) := dk_54 4 (dk_at dksX2_tell_1 22 rfl rfl)
theorem dX2_tell_48 : decode cX2_tell 48 = .ok (.aload_n 0, 1) := dk_42 (dk_at dksX2_tell_2 0 rfl rfl)
theorem dX2_tell_49 : decode cX2_tell 49 = .ok (.getfield 20, 3) := dk_180 0 20 (dk_at dksX2_tell_2 1 rfl rfl)
theorem dX2_tell_52 : decode cX2_tell 52 = .ok (.iload_n 3, 1) := dk_29 (dk_at dksX2_tell_2 4 rfl rfl)
theorem dX2_tell_53 : decode cX2_tell 53 = .ok (.iconst 2, 1) := dk_5 (dk_at dksX2_tell_2 5 rfl rfl)
theorem dX2_tell_54 : decode cX2_tell 54 = .ok (.newarray .int, 2) := dk_188_10 (dk_at dksX2_tell_2 6 rfl rfl)
theorem dX2_tell_56 : decode cX2_tell 56 = .ok (.dup, 1) := dk_89 (dk_at dksX2_tell_2 8 rfl rfl)
theorem dX2_tell_57 : decode cX2_tell 57 = .ok (.iconst 0, 1) := dk_3 (dk_at dksX2_tell_2 9 rfl rfl)
theorem dX2_tell_58 : decode cX2_tell 58 = .ok (.iload_n 1, 1) := dk_27 (dk_at dksX2_tell_2 10 rfl rfl)
theorem dX2_tell_59 : decode cX2_tell 59 = .ok (.iastore, 1) := dk_79 (dk_at dksX2_tell_2 11 rfl rfl)
theorem dX2_tell_60 : decode cX2_tell 60 = .ok (.dup, 1) := dk_89 (dk_at dksX2_tell_2 12 rfl rfl)
theorem dX2_tell_61 : decode cX2_tell 61 = .ok (.iconst 1, 1) := dk_4 (dk_at dksX2_tell_2 13 rfl rfl)
theorem dX2_tell_62 : decode cX2_tell 62 = .ok (.iload 4, 2) := dk_21 4 (dk_at dksX2_tell_2 14 rfl rfl)
theorem dX2_tell_64 : decode cX2_tell 64 = .ok (.ifCond .eq 7, 3) := dk_153 0 7 (dk_at dksX2_tell_2 16 rfl rfl)
theorem dX2_tell_67 : decode cX2_tell 67 = .ok (.iload_n 2, 1) := dk_28 (dk_at dksX2_tell_2 19 rfl rfl)
theorem dX2_tell_68 : decode cX2_tell 68 = .ok (.ifCond .ne 7, 3) := dk_154 0 7 (dk_at dksX2_tell_2 20 rfl rfl)
theorem dX2_tell_71 : decode cX2_tell 71 = .ok (.iconst 0, 1) := dk_3 (dk_at dksX2_tell_2 23 rfl rfl)
theorem dX2_tell_72 : decode cX2_tell 72 = .ok (.goto 9, 3) := dk_167 0 9 (dk_at dksX2_tell_3 0 rfl rfl)
theorem dX2_tell_75 : decode cX2_tell 75 = .ok (.iload 4, 2) := dk_21 4 (dk_at dksX2_tell_3 3 rfl rfl)
theorem dX2_tell_77 : decode cX2_tell 77 = .ok (.iload_n 2, 1) := dk_28 (dk_at dksX2_tell_3 5 rfl rfl)
theorem dX2_tell_78 : decode cX2_tell 78 = .ok (.invokestatic 82, 3) := dk_184 0 82 (dk_at dksX2_tell_3 6 rfl rfl)
theorem dX2_tell_81 : decode cX2_tell 81 = .ok (.iastore, 1) := dk_79 (dk_at dksX2_tell_3 9 rfl rfl)
theorem dX2_tell_82 : decode cX2_tell 82 = .ok (.invokevirtual 88, 3) := dk_182 0 88 (dk_at dksX2_tell_3 10 rfl rfl)
theorem dX2_tell_85 : decode cX2_tell 85 = .ok (.pop, 1) := dk_87 (dk_at dksX2_tell_3 13 rfl rfl)
theorem dX2_tell_86 : decode cX2_tell 86 = .ok (.return_, 1) := dk_177 (dk_at dksX2_tell_3 14 rfl rfl)
abbrev cX2_toldAt : ByteArray := prog_17_method_3_code
def yX2_toldAt : MethodName := ⟨RX2, "toldAt", "(I)I"⟩
def dkwX2_toldAt_1 : List UInt8 := [3, 46, 27, 160, 0, 5, 28, 172, 132, 2, 1, 167, 255, 223, 2, 172]
abbrev dktX2_toldAt_1 : List UInt8 := dkwX2_toldAt_1 ++ []
def dkwX2_toldAt_0 : List UInt8 := [3, 61, 28, 42, 180, 0, 20, 182, 0, 65, 162, 0, 28, 42, 180, 0, 20, 28, 182, 0, 69, 192, 0, 73]
abbrev dktX2_toldAt_0 : List UInt8 := dkwX2_toldAt_0 ++ dktX2_toldAt_1
theorem dksX2_toldAt_0 : cX2_toldAt.data.toList.drop 0 = dktX2_toldAt_0 := by decide +kernel
theorem dksX2_toldAt_1 : cX2_toldAt.data.toList.drop 24 = dktX2_toldAt_1 := dk_seg dksX2_toldAt_0 24 rfl rfl
theorem dX2_toldAt_0 : decode cX2_toldAt 0 = .ok (.iconst 0, 1) := dk_3 (dk_at dksX2_toldAt_0 0 rfl rfl)
theorem dX2_toldAt_1 : decode cX2_toldAt 1 = .ok (.istore_n 2, 1) := dk_61 (dk_at dksX2_toldAt_0 1 rfl rfl)
theorem dX2_toldAt_2 : decode cX2_toldAt 2 = .ok (.iload_n 2, 1) := dk_28 (dk_at dksX2_toldAt_0 2 rfl rfl)
theorem dX2_toldAt_3 : decode cX2_toldAt 3 = .ok (.aload_n 0, 1) := dk_42 (dk_at dksX2_toldAt_0 3 rfl rfl)
theorem dX2_toldAt_4 : decode cX2_toldAt 4 = .ok (.getfield 20, 3) := dk_180 0 20 (dk_at dksX2_toldAt_0 4 rfl rfl)
theorem dX2_toldAt_7 : decode cX2_toldAt 7 = .ok (.invokevirtual 65, 3) := dk_182 0 65 (dk_at dksX2_toldAt_0 7 rfl rfl)
theorem dX2_toldAt_10 : decode cX2_toldAt 10 = .ok (.if_icmp .ge 28, 3) := dk_162 0 28 (dk_at dksX2_toldAt_0 10 rfl rfl)
theorem dX2_toldAt_13 : decode cX2_toldAt 13 = .ok (.aload_n 0, 1) := dk_42 (dk_at dksX2_toldAt_0 13 rfl rfl)
theorem dX2_toldAt_14 : decode cX2_toldAt 14 = .ok (.getfield 20, 3) := dk_180 0 20 (dk_at dksX2_toldAt_0 14 rfl rfl)
theorem dX2_toldAt_17 : decode cX2_toldAt 17 = .ok (.iload_n 2, 1) := dk_28 (dk_at dksX2_toldAt_0 17 rfl rfl)
theorem dX2_toldAt_18 : decode cX2_toldAt 18 = .ok (.invokevirtual 69, 3) := dk_182 0 69 (dk_at dksX2_toldAt_0 18 rfl rfl)
theorem dX2_toldAt_21 : decode cX2_toldAt 21 = .ok (.checkcast 73, 3) := dk_192 0 73 (dk_at dksX2_toldAt_0 21 rfl rfl)
theorem dX2_toldAt_24 : decode cX2_toldAt 24 = .ok (.iconst 0, 1) := dk_3 (dk_at dksX2_toldAt_1 0 rfl rfl)
theorem dX2_toldAt_25 : decode cX2_toldAt 25 = .ok (.iaload, 1) := dk_46 (dk_at dksX2_toldAt_1 1 rfl rfl)
theorem dX2_toldAt_26 : decode cX2_toldAt 26 = .ok (.iload_n 1, 1) := dk_27 (dk_at dksX2_toldAt_1 2 rfl rfl)
theorem dX2_toldAt_27 : decode cX2_toldAt 27 = .ok (.if_icmp .ne 5, 3) := dk_160 0 5 (dk_at dksX2_toldAt_1 3 rfl rfl)
theorem dX2_toldAt_30 : decode cX2_toldAt 30 = .ok (.iload_n 2, 1) := dk_28 (dk_at dksX2_toldAt_1 6 rfl rfl)
theorem dX2_toldAt_31 : decode cX2_toldAt 31 = .ok (.ireturn, 1) := dk_172 (dk_at dksX2_toldAt_1 7 rfl rfl)
theorem dX2_toldAt_32 : decode cX2_toldAt 32 = .ok (.iinc 2 1, 3) := dk_132 2 1 (dk_at dksX2_toldAt_1 8 rfl rfl)
theorem dX2_toldAt_35 : decode cX2_toldAt 35 = .ok (.goto (-33), 3) := dk_167 255 223 (dk_at dksX2_toldAt_1 11 rfl rfl)
theorem dX2_toldAt_38 : decode cX2_toldAt 38 = .ok (.iconst (-1), 1) := dk_2 (dk_at dksX2_toldAt_1 14 rfl rfl)
theorem dX2_toldAt_39 : decode cX2_toldAt 39 = .ok (.ireturn, 1) := dk_172 (dk_at dksX2_toldAt_1 15 rfl rfl)
abbrev cX2_settle : ByteArray := prog_17_method_11_code
def yX2_settle : MethodName := ⟨RX2, "settle", "()V"⟩
def dkwX2_settle_6 : List UInt8 := [167, 255, 222, 177]
abbrev dktX2_settle_6 : List UInt8 := dkwX2_settle_6 ++ []
def dkwX2_settle_5 : List UInt8 := [182, 0, 69, 192, 0, 73, 182, 0, 162, 154, 0, 12, 42, 180, 0, 41, 29, 182, 0, 166, 87, 132, 3, 255]
abbrev dktX2_settle_5 : List UInt8 := dkwX2_settle_5 ++ dktX2_settle_6
def dkwX2_settle_4 : List UInt8 := [181, 0, 30, 42, 180, 0, 41, 182, 0, 65, 4, 100, 62, 29, 155, 0, 36, 42, 42, 180, 0, 41, 29]
abbrev dktX2_settle_4 : List UInt8 := dkwX2_settle_4 ++ dktX2_settle_5
def dkwX2_settle_3 : List UInt8 := [167, 0, 10, 42, 180, 0, 30, 21, 4, 46, 79, 132, 3, 1, 167, 255, 187, 42, 43, 181, 0, 26, 42, 44]
abbrev dktX2_settle_3 : List UInt8 := dkwX2_settle_3 ++ dktX2_settle_4
def dkwX2_settle_2 : List UInt8 := [160, 0, 7, 4, 167, 0, 4, 3, 96, 181, 0, 52, 44, 29, 21, 4, 2, 160, 0, 10, 42, 180, 0, 52]
abbrev dktX2_settle_2 : List UInt8 := dkwX2_settle_2 ++ dktX2_settle_3
def dkwX2_settle_1 : List UInt8 := [42, 180, 0, 26, 43, 180, 0, 148, 29, 46, 182, 0, 159, 54, 4, 42, 89, 180, 0, 52, 21, 4, 2]
abbrev dktX2_settle_1 : List UInt8 := dkwX2_settle_1 ++ dktX2_settle_2
def dkwX2_settle_0 : List UInt8 := [42, 42, 182, 0, 151, 182, 0, 155, 76, 16, 60, 188, 10, 77, 3, 62, 29, 43, 180, 0, 135, 162, 0, 67]
abbrev dktX2_settle_0 : List UInt8 := dkwX2_settle_0 ++ dktX2_settle_1
theorem dksX2_settle_0 : cX2_settle.data.toList.drop 0 = dktX2_settle_0 := by decide +kernel
theorem dksX2_settle_1 : cX2_settle.data.toList.drop 24 = dktX2_settle_1 := dk_seg dksX2_settle_0 24 rfl rfl
theorem dksX2_settle_2 : cX2_settle.data.toList.drop 47 = dktX2_settle_2 := dk_seg dksX2_settle_1 23 rfl rfl
theorem dksX2_settle_3 : cX2_settle.data.toList.drop 71 = dktX2_settle_3 := dk_seg dksX2_settle_2 24 rfl rfl
theorem dksX2_settle_4 : cX2_settle.data.toList.drop 95 = dktX2_settle_4 := dk_seg dksX2_settle_3 24 rfl rfl
theorem dksX2_settle_5 : cX2_settle.data.toList.drop 118 = dktX2_settle_5 := dk_seg dksX2_settle_4 23 rfl rfl
theorem dksX2_settle_6 : cX2_settle.data.toList.drop 142 = dktX2_settle_6 := dk_seg dksX2_settle_5 24 rfl rfl
theorem dX2_settle_0 : decode cX2_settle 0 = .ok (.aload_n 0, 1) := dk_42 (dk_at dksX2_settle_0 0 rfl rfl)
theorem dX2_settle_1 : decode cX2_settle 1 = .ok (.aload_n 0, 1) := dk_42 (dk_at dksX2_settle_0 1 rfl rfl)
theorem dX2_settle_2 : decode cX2_settle 2 = .ok (.invokevirtual 151, 3) := dk_182 0 151 (dk_at dksX2_settle_0 2 rfl rfl)
theorem dX2_settle_5 : decode cX2_settle 5 = .ok (.invokevirtual 155, 3) := dk_182 0 155 (dk_at dksX2_settle_0 5 rfl rfl)
theorem dX2_settle_8 : decode cX2_settle 8 = .ok (.astore_n 1, 1) := dk_76 (dk_at dksX2_settle_0 8 rfl rfl)
theorem dX2_settle_9 : decode cX2_settle 9 = .ok (.bipush 60, 2) := dk_16 60 (dk_at dksX2_settle_0 9 rfl rfl)
theorem dX2_settle_11 : decode cX2_settle 11 = .ok (.newarray .int, 2) := dk_188_10 (dk_at dksX2_settle_0 11 rfl rfl)
theorem dX2_settle_13 : decode cX2_settle 13 = .ok (.astore_n 2, 1) := dk_77 (dk_at dksX2_settle_0 13 rfl rfl)
theorem dX2_settle_14 : decode cX2_settle 14 = .ok (.iconst 0, 1) := dk_3 (dk_at dksX2_settle_0 14 rfl rfl)
theorem dX2_settle_15 : decode cX2_settle 15 = .ok (.istore_n 3, 1) := dk_62 (dk_at dksX2_settle_0 15 rfl rfl)
theorem dX2_settle_16 : decode cX2_settle 16 = .ok (.iload_n 3, 1) := dk_29 (dk_at dksX2_settle_0 16 rfl rfl)
theorem dX2_settle_17 : decode cX2_settle 17 = .ok (.aload_n 1, 1) := dk_43 (dk_at dksX2_settle_0 17 rfl rfl)
theorem dX2_settle_18 : decode cX2_settle 18 = .ok (.getfield 135, 3) := dk_180 0 135 (dk_at dksX2_settle_0 18 rfl rfl)
theorem dX2_settle_21 : decode cX2_settle 21 = .ok (.if_icmp .ge 67, 3) := dk_162 0 67 (dk_at dksX2_settle_0 21 rfl rfl)
theorem dX2_settle_24 : decode cX2_settle 24 = .ok (.aload_n 0, 1) := dk_42 (dk_at dksX2_settle_1 0 rfl rfl)
theorem dX2_settle_25 : decode cX2_settle 25 = .ok (.getfield 26, 3) := dk_180 0 26 (dk_at dksX2_settle_1 1 rfl rfl)
theorem dX2_settle_28 : decode cX2_settle 28 = .ok (.aload_n 1, 1) := dk_43 (dk_at dksX2_settle_1 4 rfl rfl)
theorem dX2_settle_29 : decode cX2_settle 29 = .ok (.getfield 148, 3) := dk_180 0 148 (dk_at dksX2_settle_1 5 rfl rfl)
theorem dX2_settle_32 : decode cX2_settle 32 = .ok (.iload_n 3, 1) := dk_29 (dk_at dksX2_settle_1 8 rfl rfl)
theorem dX2_settle_33 : decode cX2_settle 33 = .ok (.iaload, 1) := dk_46 (dk_at dksX2_settle_1 9 rfl rfl)
theorem dX2_settle_34 : decode cX2_settle 34 = .ok (.invokevirtual 159, 3) := dk_182 0 159 (dk_at dksX2_settle_1 10 rfl rfl)
theorem dX2_settle_37 : decode cX2_settle 37 = .ok (.istore 4, 2) := dk_54 4 (dk_at dksX2_settle_1 13 rfl rfl)
theorem dX2_settle_39 : decode cX2_settle 39 = .ok (.aload_n 0, 1) := dk_42 (dk_at dksX2_settle_1 15 rfl rfl)
theorem dX2_settle_40 : decode cX2_settle 40 = .ok (.dup, 1) := dk_89 (dk_at dksX2_settle_1 16 rfl rfl)
theorem dX2_settle_41 : decode cX2_settle 41 = .ok (.getfield 52, 3) := dk_180 0 52 (dk_at dksX2_settle_1 17 rfl rfl)
theorem dX2_settle_44 : decode cX2_settle 44 = .ok (.iload 4, 2) := dk_21 4 (dk_at dksX2_settle_1 20 rfl rfl)
theorem dX2_settle_46 : decode cX2_settle 46 = .ok (.iconst (-1), 1) := dk_2 (dk_at dksX2_settle_1 22 rfl rfl)
theorem dX2_settle_47 : decode cX2_settle 47 = .ok (.if_icmp .ne 7, 3) := dk_160 0 7 (dk_at dksX2_settle_2 0 rfl rfl)
theorem dX2_settle_50 : decode cX2_settle 50 = .ok (.iconst 1, 1) := dk_4 (dk_at dksX2_settle_2 3 rfl rfl)
theorem dX2_settle_51 : decode cX2_settle 51 = .ok (.goto 4, 3) := dk_167 0 4 (dk_at dksX2_settle_2 4 rfl rfl)
theorem dX2_settle_54 : decode cX2_settle 54 = .ok (.iconst 0, 1) := dk_3 (dk_at dksX2_settle_2 7 rfl rfl)
theorem dX2_settle_55 : decode cX2_settle 55 = .ok (.iadd, 1) := dk_96 (dk_at dksX2_settle_2 8 rfl rfl)
theorem dX2_settle_56 : decode cX2_settle 56 = .ok (.putfield 52, 3) := dk_181 0 52 (dk_at dksX2_settle_2 9 rfl rfl)
theorem dX2_settle_59 : decode cX2_settle 59 = .ok (.aload_n 2, 1) := dk_44 (dk_at dksX2_settle_2 12 rfl rfl)
theorem dX2_settle_60 : decode cX2_settle 60 = .ok (.iload_n 3, 1) := dk_29 (dk_at dksX2_settle_2 13 rfl rfl)
theorem dX2_settle_61 : decode cX2_settle 61 = .ok (.iload 4, 2) := dk_21 4 (dk_at dksX2_settle_2 14 rfl rfl)
theorem dX2_settle_63 : decode cX2_settle 63 = .ok (.iconst (-1), 1) := dk_2 (dk_at dksX2_settle_2 16 rfl rfl)
theorem dX2_settle_64 : decode cX2_settle 64 = .ok (.if_icmp .ne 10, 3) := dk_160 0 10 (dk_at dksX2_settle_2 17 rfl rfl)
theorem dX2_settle_67 : decode cX2_settle 67 = .ok (.aload_n 0, 1) := dk_42 (dk_at dksX2_settle_2 20 rfl rfl)
theorem dX2_settle_68 : decode cX2_settle 68 = .ok (.getfield 52, 3) := dk_180 0 52 (dk_at dksX2_settle_2 21 rfl rfl)
theorem dX2_settle_71 : decode cX2_settle 71 = .ok (.goto 10, 3) := dk_167 0 10 (dk_at dksX2_settle_3 0 rfl rfl)
theorem dX2_settle_74 : decode cX2_settle 74 = .ok (.aload_n 0, 1) := dk_42 (dk_at dksX2_settle_3 3 rfl rfl)
theorem dX2_settle_75 : decode cX2_settle 75 = .ok (.getfield 30, 3) := dk_180 0 30 (dk_at dksX2_settle_3 4 rfl rfl)
theorem dX2_settle_78 : decode cX2_settle 78 = .ok (.iload 4, 2) := dk_21 4 (dk_at dksX2_settle_3 7 rfl rfl)
theorem dX2_settle_80 : decode cX2_settle 80 = .ok (.iaload, 1) := dk_46 (dk_at dksX2_settle_3 9 rfl rfl)
theorem dX2_settle_81 : decode cX2_settle 81 = .ok (.iastore, 1) := dk_79 (dk_at dksX2_settle_3 10 rfl rfl)
theorem dX2_settle_82 : decode cX2_settle 82 = .ok (.iinc 3 1, 3) := dk_132 3 1 (dk_at dksX2_settle_3 11 rfl rfl)
theorem dX2_settle_85 : decode cX2_settle 85 = .ok (.goto (-69), 3) := dk_167 255 187 (dk_at dksX2_settle_3 14 rfl rfl)
theorem dX2_settle_88 : decode cX2_settle 88 = .ok (.aload_n 0, 1) := dk_42 (dk_at dksX2_settle_3 17 rfl rfl)
theorem dX2_settle_89 : decode cX2_settle 89 = .ok (.aload_n 1, 1) := dk_43 (dk_at dksX2_settle_3 18 rfl rfl)
theorem dX2_settle_90 : decode cX2_settle 90 = .ok (.putfield 26, 3) := dk_181 0 26 (dk_at dksX2_settle_3 19 rfl rfl)
theorem dX2_settle_93 : decode cX2_settle 93 = .ok (.aload_n 0, 1) := dk_42 (dk_at dksX2_settle_3 22 rfl rfl)
theorem dX2_settle_94 : decode cX2_settle 94 = .ok (.aload_n 2, 1) := dk_44 (dk_at dksX2_settle_3 23 rfl rfl)
theorem dX2_settle_95 : decode cX2_settle 95 = .ok (.putfield 30, 3) := dk_181 0 30 (dk_at dksX2_settle_4 0 rfl rfl)
theorem dX2_settle_98 : decode cX2_settle 98 = .ok (.aload_n 0, 1) := dk_42 (dk_at dksX2_settle_4 3 rfl rfl)
theorem dX2_settle_99 : decode cX2_settle 99 = .ok (.getfield 41, 3) := dk_180 0 41 (dk_at dksX2_settle_4 4 rfl rfl)
theorem dX2_settle_102 : decode cX2_settle 102 = .ok (.invokevirtual 65, 3) := dk_182 0 65 (dk_at dksX2_settle_4 7 rfl rfl)
theorem dX2_settle_105 : decode cX2_settle 105 = .ok (.iconst 1, 1) := dk_4 (dk_at dksX2_settle_4 10 rfl rfl)
theorem dX2_settle_106 : decode cX2_settle 106 = .ok (.isub, 1) := dk_100 (dk_at dksX2_settle_4 11 rfl rfl)
theorem dX2_settle_107 : decode cX2_settle 107 = .ok (.istore_n 3, 1) := dk_62 (dk_at dksX2_settle_4 12 rfl rfl)
theorem dX2_settle_108 : decode cX2_settle 108 = .ok (.iload_n 3, 1) := dk_29 (dk_at dksX2_settle_4 13 rfl rfl)
theorem dX2_settle_109 : decode cX2_settle 109 = .ok (.ifCond .lt 36, 3) := dk_155 0 36 (dk_at dksX2_settle_4 14 rfl rfl)
theorem dX2_settle_112 : decode cX2_settle 112 = .ok (.aload_n 0, 1) := dk_42 (dk_at dksX2_settle_4 17 rfl rfl)
theorem dX2_settle_113 : decode cX2_settle 113 = .ok (.aload_n 0, 1) := dk_42 (dk_at dksX2_settle_4 18 rfl rfl)
theorem dX2_settle_114 : decode cX2_settle 114 = .ok (.getfield 41, 3) := dk_180 0 41 (dk_at dksX2_settle_4 19 rfl rfl)
theorem dX2_settle_117 : decode cX2_settle 117 = .ok (.iload_n 3, 1) := dk_29 (dk_at dksX2_settle_4 22 rfl rfl)
theorem dX2_settle_118 : decode cX2_settle 118 = .ok (.invokevirtual 69, 3) := dk_182 0 69 (dk_at dksX2_settle_5 0 rfl rfl)
theorem dX2_settle_121 : decode cX2_settle 121 = .ok (.checkcast 73, 3) := dk_192 0 73 (dk_at dksX2_settle_5 3 rfl rfl)
theorem dX2_settle_124 : decode cX2_settle 124 = .ok (.invokevirtual 162, 3) := dk_182 0 162 (dk_at dksX2_settle_5 6 rfl rfl)
theorem dX2_settle_127 : decode cX2_settle 127 = .ok (.ifCond .ne 12, 3) := dk_154 0 12 (dk_at dksX2_settle_5 9 rfl rfl)
theorem dX2_settle_130 : decode cX2_settle 130 = .ok (.aload_n 0, 1) := dk_42 (dk_at dksX2_settle_5 12 rfl rfl)
theorem dX2_settle_131 : decode cX2_settle 131 = .ok (.getfield 41, 3) := dk_180 0 41 (dk_at dksX2_settle_5 13 rfl rfl)
theorem dX2_settle_134 : decode cX2_settle 134 = .ok (.iload_n 3, 1) := dk_29 (dk_at dksX2_settle_5 16 rfl rfl)
theorem dX2_settle_135 : decode cX2_settle 135 = .ok (.invokevirtual 166, 3) := dk_182 0 166 (dk_at dksX2_settle_5 17 rfl rfl)
theorem dX2_settle_138 : decode cX2_settle 138 = .ok (.pop, 1) := dk_87 (dk_at dksX2_settle_5 20 rfl rfl)
theorem dX2_settle_139 : decode cX2_settle 139 = .ok (.iinc 3 (-1), 3) := dk_132 3 255 (dk_at dksX2_settle_5 21 rfl rfl)
theorem dX2_settle_142 : decode cX2_settle 142 = .ok (.goto (-34), 3) := dk_167 255 222 (dk_at dksX2_settle_6 0 rfl rfl)
theorem dX2_settle_145 : decode cX2_settle 145 = .ok (.return_, 1) := dk_177 (dk_at dksX2_settle_6 3 rfl rfl)
abbrev cX2_strata : ByteArray := prog_17_method_5_code
def yX2_strata : MethodName := ⟨RX2, "strata", "()[I"⟩
def dkwX2_strata_8 : List UInt8 := [43, 176]
abbrev dktX2_strata_8 : List UInt8 := dkwX2_strata_8 ++ []
def dkwX2_strata_7 : List UInt8 := [16, 8, 161, 0, 13, 187, 0, 112, 89, 18, 114, 183, 0, 116, 191, 132, 3, 1, 167, 255, 87, 167, 255, 76]
abbrev dktX2_strata_7 : List UInt8 := dkwX2_strata_7 ++ dktX2_strata_8
def dkwX2_strata_6 : List UInt8 := [180, 0, 105, 46, 164, 0, 17, 43, 25, 4, 180, 0, 108, 180, 0, 105, 21, 5, 79, 4, 61, 21, 5]
abbrev dktX2_strata_6 : List UInt8 := dkwX2_strata_6 ++ dktX2_strata_7
def dkwX2_strata_5 : List UInt8 := [184, 0, 82, 167, 0, 5, 21, 5, 54, 5, 132, 6, 1, 167, 255, 169, 21, 5, 43, 25, 4, 180, 0, 108]
abbrev dktX2_strata_5 : List UInt8 := dkwX2_strata_5 ++ dktX2_strata_6
def dkwX2_strata_4 : List UInt8 := [3, 54, 8, 25, 7, 180, 0, 99, 4, 163, 0, 21, 21, 5, 43, 25, 7, 180, 0, 105, 46, 21, 8, 96]
abbrev dktX2_strata_4 : List UInt8 := dkwX2_strata_4 ++ dktX2_strata_5
def dkwX2_strata_3 : List UInt8 := [58, 7, 25, 7, 180, 0, 99, 4, 159, 0, 12, 25, 4, 180, 0, 102, 2, 159, 0, 7, 4, 167, 0, 4]
abbrev dktX2_strata_3 : List UInt8 := dkwX2_strata_3 ++ dktX2_strata_4
def dkwX2_strata_2 : List UInt8 := [25, 4, 180, 0, 94, 182, 0, 65, 162, 0, 80, 25, 4, 180, 0, 94, 21, 6, 182, 0, 69, 192, 0, 97]
abbrev dktX2_strata_2 : List UInt8 := dkwX2_strata_2 ++ dktX2_strata_3
def dkwX2_strata_1 : List UInt8 := [162, 0, 164, 42, 180, 0, 34, 29, 182, 0, 69, 192, 0, 92, 58, 4, 3, 54, 5, 3, 54, 6, 21, 6]
abbrev dktX2_strata_1 : List UInt8 := dkwX2_strata_1 ++ dktX2_strata_2
def dkwX2_strata_0 : List UInt8 := [16, 8, 188, 10, 76, 4, 61, 28, 153, 0, 182, 3, 61, 3, 62, 29, 42, 180, 0, 34, 182, 0, 65]
abbrev dktX2_strata_0 : List UInt8 := dkwX2_strata_0 ++ dktX2_strata_1
theorem dksX2_strata_0 : cX2_strata.data.toList.drop 0 = dktX2_strata_0 := by decide +kernel
theorem dksX2_strata_1 : cX2_strata.data.toList.drop 23 = dktX2_strata_1 := dk_seg dksX2_strata_0 23 rfl rfl
theorem dksX2_strata_2 : cX2_strata.data.toList.drop 47 = dktX2_strata_2 := dk_seg dksX2_strata_1 24 rfl rfl
theorem dksX2_strata_3 : cX2_strata.data.toList.drop 71 = dktX2_strata_3 := dk_seg dksX2_strata_2 24 rfl rfl
theorem dksX2_strata_4 : cX2_strata.data.toList.drop 95 = dktX2_strata_4 := dk_seg dksX2_strata_3 24 rfl rfl
theorem dksX2_strata_5 : cX2_strata.data.toList.drop 119 = dktX2_strata_5 := dk_seg dksX2_strata_4 24 rfl rfl
theorem dksX2_strata_6 : cX2_strata.data.toList.drop 143 = dktX2_strata_6 := dk_seg dksX2_strata_5 24 rfl rfl
theorem dksX2_strata_7 : cX2_strata.data.toList.drop 166 = dktX2_strata_7 := dk_seg dksX2_strata_6 23 rfl rfl
theorem dksX2_strata_8 : cX2_strata.data.toList.drop 190 = dktX2_strata_8 := dk_seg dksX2_strata_7 24 rfl rfl
theorem dX2_strata_0 : decode cX2_strata 0 = .ok (.bipush 8, 2) := dk_16 8 (dk_at dksX2_strata_0 0 rfl rfl)
theorem dX2_strata_2 : decode cX2_strata 2 = .ok (.newarray .int, 2) := dk_188_10 (dk_at dksX2_strata_0 2 rfl rfl)
theorem dX2_strata_4 : decode cX2_strata 4 = .ok (.astore_n 1, 1) := dk_76 (dk_at dksX2_strata_0 4 rfl rfl)
theorem dX2_strata_5 : decode cX2_strata 5 = .ok (.iconst 1, 1) := dk_4 (dk_at dksX2_strata_0 5 rfl rfl)
theorem dX2_strata_6 : decode cX2_strata 6 = .ok (.istore_n 2, 1) := dk_61 (dk_at dksX2_strata_0 6 rfl rfl)
theorem dX2_strata_7 : decode cX2_strata 7 = .ok (.iload_n 2, 1) := dk_28 (dk_at dksX2_strata_0 7 rfl rfl)
theorem dX2_strata_8 : decode cX2_strata 8 = .ok (.ifCond .eq 182, 3) := dk_153 0 182 (dk_at dksX2_strata_0 8 rfl rfl)
theorem dX2_strata_11 : decode cX2_strata 11 = .ok (.iconst 0, 1) := dk_3 (dk_at dksX2_strata_0 11 rfl rfl)
theorem dX2_strata_12 : decode cX2_strata 12 = .ok (.istore_n 2, 1) := dk_61 (dk_at dksX2_strata_0 12 rfl rfl)
theorem dX2_strata_13 : decode cX2_strata 13 = .ok (.iconst 0, 1) := dk_3 (dk_at dksX2_strata_0 13 rfl rfl)
theorem dX2_strata_14 : decode cX2_strata 14 = .ok (.istore_n 3, 1) := dk_62 (dk_at dksX2_strata_0 14 rfl rfl)
theorem dX2_strata_15 : decode cX2_strata 15 = .ok (.iload_n 3, 1) := dk_29 (dk_at dksX2_strata_0 15 rfl rfl)
theorem dX2_strata_16 : decode cX2_strata 16 = .ok (.aload_n 0, 1) := dk_42 (dk_at dksX2_strata_0 16 rfl rfl)
theorem dX2_strata_17 : decode cX2_strata 17 = .ok (.getfield 34, 3) := dk_180 0 34 (dk_at dksX2_strata_0 17 rfl rfl)
theorem dX2_strata_20 : decode cX2_strata 20 = .ok (.invokevirtual 65, 3) := dk_182 0 65 (dk_at dksX2_strata_0 20 rfl rfl)
theorem dX2_strata_23 : decode cX2_strata 23 = .ok (.if_icmp .ge 164, 3) := dk_162 0 164 (dk_at dksX2_strata_1 0 rfl rfl)
theorem dX2_strata_26 : decode cX2_strata 26 = .ok (.aload_n 0, 1) := dk_42 (dk_at dksX2_strata_1 3 rfl rfl)
theorem dX2_strata_27 : decode cX2_strata 27 = .ok (.getfield 34, 3) := dk_180 0 34 (dk_at dksX2_strata_1 4 rfl rfl)
theorem dX2_strata_30 : decode cX2_strata 30 = .ok (.iload_n 3, 1) := dk_29 (dk_at dksX2_strata_1 7 rfl rfl)
theorem dX2_strata_31 : decode cX2_strata 31 = .ok (.invokevirtual 69, 3) := dk_182 0 69 (dk_at dksX2_strata_1 8 rfl rfl)
theorem dX2_strata_34 : decode cX2_strata 34 = .ok (.checkcast 92, 3) := dk_192 0 92 (dk_at dksX2_strata_1 11 rfl rfl)
theorem dX2_strata_37 : decode cX2_strata 37 = .ok (.astore 4, 2) := dk_58 4 (dk_at dksX2_strata_1 14 rfl rfl)
theorem dX2_strata_39 : decode cX2_strata 39 = .ok (.iconst 0, 1) := dk_3 (dk_at dksX2_strata_1 16 rfl rfl)
theorem dX2_strata_40 : decode cX2_strata 40 = .ok (.istore 5, 2) := dk_54 5 (dk_at dksX2_strata_1 17 rfl rfl)
theorem dX2_strata_42 : decode cX2_strata 42 = .ok (.iconst 0, 1) := dk_3 (dk_at dksX2_strata_1 19 rfl rfl)
theorem dX2_strata_43 : decode cX2_strata 43 = .ok (.istore 6, 2) := dk_54 6 (dk_at dksX2_strata_1 20 rfl rfl)
theorem dX2_strata_45 : decode cX2_strata 45 = .ok (.iload 6, 2) := dk_21 6 (dk_at dksX2_strata_1 22 rfl rfl)
theorem dX2_strata_47 : decode cX2_strata 47 = .ok (.aload 4, 2) := dk_25 4 (dk_at dksX2_strata_2 0 rfl rfl)
theorem dX2_strata_49 : decode cX2_strata 49 = .ok (.getfield 94, 3) := dk_180 0 94 (dk_at dksX2_strata_2 2 rfl rfl)
theorem dX2_strata_52 : decode cX2_strata 52 = .ok (.invokevirtual 65, 3) := dk_182 0 65 (dk_at dksX2_strata_2 5 rfl rfl)
theorem dX2_strata_55 : decode cX2_strata 55 = .ok (.if_icmp .ge 80, 3) := dk_162 0 80 (dk_at dksX2_strata_2 8 rfl rfl)
theorem dX2_strata_58 : decode cX2_strata 58 = .ok (.aload 4, 2) := dk_25 4 (dk_at dksX2_strata_2 11 rfl rfl)
theorem dX2_strata_60 : decode cX2_strata 60 = .ok (.getfield 94, 3) := dk_180 0 94 (dk_at dksX2_strata_2 13 rfl rfl)
theorem dX2_strata_63 : decode cX2_strata 63 = .ok (.iload 6, 2) := dk_21 6 (dk_at dksX2_strata_2 16 rfl rfl)
theorem dX2_strata_65 : decode cX2_strata 65 = .ok (.invokevirtual 69, 3) := dk_182 0 69 (dk_at dksX2_strata_2 18 rfl rfl)
theorem dX2_strata_68 : decode cX2_strata 68 = .ok (.checkcast 97, 3) := dk_192 0 97 (dk_at dksX2_strata_2 21 rfl rfl)
theorem dX2_strata_71 : decode cX2_strata 71 = .ok (.astore 7, 2) := dk_58 7 (dk_at dksX2_strata_3 0 rfl rfl)
theorem dX2_strata_73 : decode cX2_strata 73 = .ok (.aload 7, 2) := dk_25 7 (dk_at dksX2_strata_3 2 rfl rfl)
theorem dX2_strata_75 : decode cX2_strata 75 = .ok (.getfield 99, 3) := dk_180 0 99 (dk_at dksX2_strata_3 4 rfl rfl)
theorem dX2_strata_78 : decode cX2_strata 78 = .ok (.iconst 1, 1) := dk_4 (dk_at dksX2_strata_3 7 rfl rfl)
theorem dX2_strata_79 : decode cX2_strata 79 = .ok (.if_icmp .eq 12, 3) := dk_159 0 12 (dk_at dksX2_strata_3 8 rfl rfl)
theorem dX2_strata_82 : decode cX2_strata 82 = .ok (.aload 4, 2) := dk_25 4 (dk_at dksX2_strata_3 11 rfl rfl)
theorem dX2_strata_84 : decode cX2_strata 84 = .ok (.getfield 102, 3) := dk_180 0 102 (dk_at dksX2_strata_3 13 rfl rfl)
theorem dX2_strata_87 : decode cX2_strata 87 = .ok (.iconst (-1), 1) := dk_2 (dk_at dksX2_strata_3 16 rfl rfl)
theorem dX2_strata_88 : decode cX2_strata 88 = .ok (.if_icmp .eq 7, 3) := dk_159 0 7 (dk_at dksX2_strata_3 17 rfl rfl)
theorem dX2_strata_91 : decode cX2_strata 91 = .ok (.iconst 1, 1) := dk_4 (dk_at dksX2_strata_3 20 rfl rfl)
theorem dX2_strata_92 : decode cX2_strata 92 = .ok (.goto 4, 3) := dk_167 0 4 (dk_at dksX2_strata_3 21 rfl rfl)
theorem dX2_strata_95 : decode cX2_strata 95 = .ok (.iconst 0, 1) := dk_3 (dk_at dksX2_strata_4 0 rfl rfl)
theorem dX2_strata_96 : decode cX2_strata 96 = .ok (.istore 8, 2) := dk_54 8 (dk_at dksX2_strata_4 1 rfl rfl)
theorem dX2_strata_98 : decode cX2_strata 98 = .ok (.aload 7, 2) := dk_25 7 (dk_at dksX2_strata_4 3 rfl rfl)
theorem dX2_strata_100 : decode cX2_strata 100 = .ok (.getfield 99, 3) := dk_180 0 99 (dk_at dksX2_strata_4 5 rfl rfl)
theorem dX2_strata_103 : decode cX2_strata 103 = .ok (.iconst 1, 1) := dk_4 (dk_at dksX2_strata_4 8 rfl rfl)
theorem dX2_strata_104 : decode cX2_strata 104 = .ok (.if_icmp .gt 21, 3) := dk_163 0 21 (dk_at dksX2_strata_4 9 rfl rfl)
theorem dX2_strata_107 : decode cX2_strata 107 = .ok (.iload 5, 2) := dk_21 5 (dk_at dksX2_strata_4 12 rfl rfl)
theorem dX2_strata_109 : decode cX2_strata 109 = .ok (.aload_n 1, 1) := dk_43 (dk_at dksX2_strata_4 14 rfl rfl)
theorem dX2_strata_110 : decode cX2_strata 110 = .ok (.aload 7, 2) := dk_25 7 (dk_at dksX2_strata_4 15 rfl rfl)
theorem dX2_strata_112 : decode cX2_strata 112 = .ok (.getfield 105, 3) := dk_180 0 105 (dk_at dksX2_strata_4 17 rfl rfl)
theorem dX2_strata_115 : decode cX2_strata 115 = .ok (.iaload, 1) := dk_46 (dk_at dksX2_strata_4 20 rfl rfl)
theorem dX2_strata_116 : decode cX2_strata 116 = .ok (.iload 8, 2) := dk_21 8 (dk_at dksX2_strata_4 21 rfl rfl)
theorem dX2_strata_118 : decode cX2_strata 118 = .ok (.iadd, 1) := dk_96 (dk_at dksX2_strata_4 23 rfl rfl)
theorem dX2_strata_119 : decode cX2_strata 119 = .ok (.invokestatic 82, 3) := dk_184 0 82 (dk_at dksX2_strata_5 0 rfl rfl)
theorem dX2_strata_122 : decode cX2_strata 122 = .ok (.goto 5, 3) := dk_167 0 5 (dk_at dksX2_strata_5 3 rfl rfl)
theorem dX2_strata_125 : decode cX2_strata 125 = .ok (.iload 5, 2) := dk_21 5 (dk_at dksX2_strata_5 6 rfl rfl)
theorem dX2_strata_127 : decode cX2_strata 127 = .ok (.istore 5, 2) := dk_54 5 (dk_at dksX2_strata_5 8 rfl rfl)
theorem dX2_strata_129 : decode cX2_strata 129 = .ok (.iinc 6 1, 3) := dk_132 6 1 (dk_at dksX2_strata_5 10 rfl rfl)
theorem dX2_strata_132 : decode cX2_strata 132 = .ok (.goto (-87), 3) := dk_167 255 169 (dk_at dksX2_strata_5 13 rfl rfl)
theorem dX2_strata_135 : decode cX2_strata 135 = .ok (.iload 5, 2) := dk_21 5 (dk_at dksX2_strata_5 16 rfl rfl)
theorem dX2_strata_137 : decode cX2_strata 137 = .ok (.aload_n 1, 1) := dk_43 (dk_at dksX2_strata_5 18 rfl rfl)
theorem dX2_strata_138 : decode cX2_strata 138 = .ok (.aload 4, 2) := dk_25 4 (dk_at dksX2_strata_5 19 rfl rfl)
theorem dX2_strata_140 : decode cX2_strata 140 = .ok (.getfield 108, 3) := dk_180 0 108 (dk_at dksX2_strata_5 21 rfl rfl)
theorem dX2_strata_143 : decode cX2_strata 143 = .ok (.getfield 105, 3) := dk_180 0 105 (dk_at dksX2_strata_6 0 rfl rfl)
theorem dX2_strata_146 : decode cX2_strata 146 = .ok (.iaload, 1) := dk_46 (dk_at dksX2_strata_6 3 rfl rfl)
theorem dX2_strata_147 : decode cX2_strata 147 = .ok (.if_icmp .le 17, 3) := dk_164 0 17 (dk_at dksX2_strata_6 4 rfl rfl)
theorem dX2_strata_150 : decode cX2_strata 150 = .ok (.aload_n 1, 1) := dk_43 (dk_at dksX2_strata_6 7 rfl rfl)
theorem dX2_strata_151 : decode cX2_strata 151 = .ok (.aload 4, 2) := dk_25 4 (dk_at dksX2_strata_6 8 rfl rfl)
theorem dX2_strata_153 : decode cX2_strata 153 = .ok (.getfield 108, 3) := dk_180 0 108 (dk_at dksX2_strata_6 10 rfl rfl)
theorem dX2_strata_156 : decode cX2_strata 156 = .ok (.getfield 105, 3) := dk_180 0 105 (dk_at dksX2_strata_6 13 rfl rfl)
theorem dX2_strata_159 : decode cX2_strata 159 = .ok (.iload 5, 2) := dk_21 5 (dk_at dksX2_strata_6 16 rfl rfl)
theorem dX2_strata_161 : decode cX2_strata 161 = .ok (.iastore, 1) := dk_79 (dk_at dksX2_strata_6 18 rfl rfl)
theorem dX2_strata_162 : decode cX2_strata 162 = .ok (.iconst 1, 1) := dk_4 (dk_at dksX2_strata_6 19 rfl rfl)
theorem dX2_strata_163 : decode cX2_strata 163 = .ok (.istore_n 2, 1) := dk_61 (dk_at dksX2_strata_6 20 rfl rfl)
theorem dX2_strata_164 : decode cX2_strata 164 = .ok (.iload 5, 2) := dk_21 5 (dk_at dksX2_strata_6 21 rfl rfl)
theorem dX2_strata_166 : decode cX2_strata 166 = .ok (.bipush 8, 2) := dk_16 8 (dk_at dksX2_strata_7 0 rfl rfl)
theorem dX2_strata_168 : decode cX2_strata 168 = .ok (.if_icmp .lt 13, 3) := dk_161 0 13 (dk_at dksX2_strata_7 2 rfl rfl)
theorem dX2_strata_171 : decode cX2_strata 171 = .ok (.new 112, 3) := dk_187 0 112 (dk_at dksX2_strata_7 5 rfl rfl)
theorem dX2_strata_174 : decode cX2_strata 174 = .ok (.dup, 1) := dk_89 (dk_at dksX2_strata_7 8 rfl rfl)
theorem dX2_strata_175 : decode cX2_strata 175 = .ok (.ldc 114, 2) := dk_18 114 (dk_at dksX2_strata_7 9 rfl rfl)
theorem dX2_strata_177 : decode cX2_strata 177 = .ok (.invokespecial 116, 3) := dk_183 0 116 (dk_at dksX2_strata_7 11 rfl rfl)
theorem dX2_strata_180 : decode cX2_strata 180 = .ok (.athrow, 1) := dk_191 (dk_at dksX2_strata_7 14 rfl rfl)
theorem dX2_strata_181 : decode cX2_strata 181 = .ok (.iinc 3 1, 3) := dk_132 3 1 (dk_at dksX2_strata_7 15 rfl rfl)
theorem dX2_strata_184 : decode cX2_strata 184 = .ok (.goto (-169), 3) := dk_167 255 87 (dk_at dksX2_strata_7 18 rfl rfl)
theorem dX2_strata_187 : decode cX2_strata 187 = .ok (.goto (-180), 3) := dk_167 255 76 (dk_at dksX2_strata_7 21 rfl rfl)
theorem dX2_strata_190 : decode cX2_strata 190 = .ok (.aload_n 1, 1) := dk_43 (dk_at dksX2_strata_8 0 rfl rfl)
theorem dX2_strata_191 : decode cX2_strata 191 = .ok (.areturn, 1) := dk_176 (dk_at dksX2_strata_8 1 rfl rfl)
abbrev cX2_found : ByteArray := prog_17_method_8_code
def yX2_found : MethodName := ⟨RX2, "found", "([I)LRulehearth$Facts;"⟩
def dkwX2_found_6 : List UInt8 := [184, 0, 144, 54, 8, 3, 54, 7, 167, 255, 148, 132, 6, 1, 167, 255, 129, 44, 176]
abbrev dktX2_found_6 : List UInt8 := dkwX2_found_6 ++ []
def dkwX2_found_5 : List UInt8 := [182, 0, 69, 192, 0, 122, 21, 5, 182, 0, 141, 132, 9, 1, 167, 255, 179, 132, 5, 1, 45, 44, 21, 5]
abbrev dktX2_found_5 : List UInt8 := dkwX2_found_5 ++ dktX2_found_6
def dkwX2_found_4 : List UInt8 := [153, 0, 19, 25, 4, 21, 9, 182, 0, 69, 192, 0, 122, 182, 0, 138, 167, 0, 18, 25, 4, 21, 9]
abbrev dktX2_found_4 : List UInt8 := dkwX2_found_4 ++ dktX2_found_5
def dkwX2_found_3 : List UInt8 := [182, 0, 69, 192, 0, 92, 180, 0, 108, 180, 0, 105, 46, 21, 6, 159, 0, 6, 167, 0, 39, 21, 7]
abbrev dktX2_found_3 : List UInt8 := dkwX2_found_3 ++ dktX2_found_4
def dkwX2_found_2 : List UInt8 := [181, 0, 135, 3, 54, 9, 21, 9, 25, 4, 182, 0, 65, 162, 0, 73, 43, 42, 180, 0, 34, 21, 9]
abbrev dktX2_found_2 : List UInt8 := dkwX2_found_2 ++ dktX2_found_3
def dkwX2_found_1 : List UInt8 := [3, 54, 6, 21, 6, 16, 8, 162, 0, 126, 4, 54, 7, 4, 54, 8, 21, 8, 153, 0, 109, 45, 3]
abbrev dktX2_found_1 : List UInt8 := dkwX2_found_1 ++ dktX2_found_2
def dkwX2_found_0 : List UInt8 := [42, 182, 0, 127, 77, 187, 0, 23, 89, 183, 0, 25, 78, 42, 44, 45, 182, 0, 131, 58, 4, 3, 54, 5]
abbrev dktX2_found_0 : List UInt8 := dkwX2_found_0 ++ dktX2_found_1
theorem dksX2_found_0 : cX2_found.data.toList.drop 0 = dktX2_found_0 := by decide +kernel
theorem dksX2_found_1 : cX2_found.data.toList.drop 24 = dktX2_found_1 := dk_seg dksX2_found_0 24 rfl rfl
theorem dksX2_found_2 : cX2_found.data.toList.drop 47 = dktX2_found_2 := dk_seg dksX2_found_1 23 rfl rfl
theorem dksX2_found_3 : cX2_found.data.toList.drop 70 = dktX2_found_3 := dk_seg dksX2_found_2 23 rfl rfl
theorem dksX2_found_4 : cX2_found.data.toList.drop 93 = dktX2_found_4 := dk_seg dksX2_found_3 23 rfl rfl
theorem dksX2_found_5 : cX2_found.data.toList.drop 116 = dktX2_found_5 := dk_seg dksX2_found_4 23 rfl rfl
theorem dksX2_found_6 : cX2_found.data.toList.drop 140 = dktX2_found_6 := dk_seg dksX2_found_5 24 rfl rfl
theorem dX2_found_0 : decode cX2_found 0 = .ok (.aload_n 0, 1) := dk_42 (dk_at dksX2_found_0 0 rfl rfl)
theorem dX2_found_1 : decode cX2_found 1 = .ok (.invokevirtual 127, 3) := dk_182 0 127 (dk_at dksX2_found_0 1 rfl rfl)
theorem dX2_found_4 : decode cX2_found 4 = .ok (.astore_n 2, 1) := dk_77 (dk_at dksX2_found_0 4 rfl rfl)
theorem dX2_found_5 : decode cX2_found 5 = .ok (.new 23, 3) := dk_187 0 23 (dk_at dksX2_found_0 5 rfl rfl)
theorem dX2_found_8 : decode cX2_found 8 = .ok (.dup, 1) := dk_89 (dk_at dksX2_found_0 8 rfl rfl)
theorem dX2_found_9 : decode cX2_found 9 = .ok (.invokespecial 25, 3) := dk_183 0 25 (dk_at dksX2_found_0 9 rfl rfl)
theorem dX2_found_12 : decode cX2_found 12 = .ok (.astore_n 3, 1) := dk_78 (dk_at dksX2_found_0 12 rfl rfl)
theorem dX2_found_13 : decode cX2_found 13 = .ok (.aload_n 0, 1) := dk_42 (dk_at dksX2_found_0 13 rfl rfl)
theorem dX2_found_14 : decode cX2_found 14 = .ok (.aload_n 2, 1) := dk_44 (dk_at dksX2_found_0 14 rfl rfl)
theorem dX2_found_15 : decode cX2_found 15 = .ok (.aload_n 3, 1) := dk_45 (dk_at dksX2_found_0 15 rfl rfl)
theorem dX2_found_16 : decode cX2_found 16 = .ok (.invokevirtual 131, 3) := dk_182 0 131 (dk_at dksX2_found_0 16 rfl rfl)
theorem dX2_found_19 : decode cX2_found 19 = .ok (.astore 4, 2) := dk_58 4 (dk_at dksX2_found_0 19 rfl rfl)
theorem dX2_found_21 : decode cX2_found 21 = .ok (.iconst 0, 1) := dk_3 (dk_at dksX2_found_0 21 rfl rfl)
theorem dX2_found_22 : decode cX2_found 22 = .ok (.istore 5, 2) := dk_54 5 (dk_at dksX2_found_0 22 rfl rfl)
theorem dX2_found_24 : decode cX2_found 24 = .ok (.iconst 0, 1) := dk_3 (dk_at dksX2_found_1 0 rfl rfl)
theorem dX2_found_25 : decode cX2_found 25 = .ok (.istore 6, 2) := dk_54 6 (dk_at dksX2_found_1 1 rfl rfl)
theorem dX2_found_27 : decode cX2_found 27 = .ok (.iload 6, 2) := dk_21 6 (dk_at dksX2_found_1 3 rfl rfl)
theorem dX2_found_29 : decode cX2_found 29 = .ok (.bipush 8, 2) := dk_16 8 (dk_at dksX2_found_1 5 rfl rfl)
theorem dX2_found_31 : decode cX2_found 31 = .ok (.if_icmp .ge 126, 3) := dk_162 0 126 (dk_at dksX2_found_1 7 rfl rfl)
theorem dX2_found_34 : decode cX2_found 34 = .ok (.iconst 1, 1) := dk_4 (dk_at dksX2_found_1 10 rfl rfl)
theorem dX2_found_35 : decode cX2_found 35 = .ok (.istore 7, 2) := dk_54 7 (dk_at dksX2_found_1 11 rfl rfl)
theorem dX2_found_37 : decode cX2_found 37 = .ok (.iconst 1, 1) := dk_4 (dk_at dksX2_found_1 13 rfl rfl)
theorem dX2_found_38 : decode cX2_found 38 = .ok (.istore 8, 2) := dk_54 8 (dk_at dksX2_found_1 14 rfl rfl)
theorem dX2_found_40 : decode cX2_found 40 = .ok (.iload 8, 2) := dk_21 8 (dk_at dksX2_found_1 16 rfl rfl)
theorem dX2_found_42 : decode cX2_found 42 = .ok (.ifCond .eq 109, 3) := dk_153 0 109 (dk_at dksX2_found_1 18 rfl rfl)
theorem dX2_found_45 : decode cX2_found 45 = .ok (.aload_n 3, 1) := dk_45 (dk_at dksX2_found_1 21 rfl rfl)
theorem dX2_found_46 : decode cX2_found 46 = .ok (.iconst 0, 1) := dk_3 (dk_at dksX2_found_1 22 rfl rfl)
theorem dX2_found_47 : decode cX2_found 47 = .ok (.putfield 135, 3) := dk_181 0 135 (dk_at dksX2_found_2 0 rfl rfl)
theorem dX2_found_50 : decode cX2_found 50 = .ok (.iconst 0, 1) := dk_3 (dk_at dksX2_found_2 3 rfl rfl)
theorem dX2_found_51 : decode cX2_found 51 = .ok (.istore 9, 2) := dk_54 9 (dk_at dksX2_found_2 4 rfl rfl)
theorem dX2_found_53 : decode cX2_found 53 = .ok (.iload 9, 2) := dk_21 9 (dk_at dksX2_found_2 6 rfl rfl)
theorem dX2_found_55 : decode cX2_found 55 = .ok (.aload 4, 2) := dk_25 4 (dk_at dksX2_found_2 8 rfl rfl)
theorem dX2_found_57 : decode cX2_found 57 = .ok (.invokevirtual 65, 3) := dk_182 0 65 (dk_at dksX2_found_2 10 rfl rfl)
theorem dX2_found_60 : decode cX2_found 60 = .ok (.if_icmp .ge 73, 3) := dk_162 0 73 (dk_at dksX2_found_2 13 rfl rfl)
theorem dX2_found_63 : decode cX2_found 63 = .ok (.aload_n 1, 1) := dk_43 (dk_at dksX2_found_2 16 rfl rfl)
theorem dX2_found_64 : decode cX2_found 64 = .ok (.aload_n 0, 1) := dk_42 (dk_at dksX2_found_2 17 rfl rfl)
theorem dX2_found_65 : decode cX2_found 65 = .ok (.getfield 34, 3) := dk_180 0 34 (dk_at dksX2_found_2 18 rfl rfl)
theorem dX2_found_68 : decode cX2_found 68 = .ok (.iload 9, 2) := dk_21 9 (dk_at dksX2_found_2 21 rfl rfl)
theorem dX2_found_70 : decode cX2_found 70 = .ok (.invokevirtual 69, 3) := dk_182 0 69 (dk_at dksX2_found_3 0 rfl rfl)
theorem dX2_found_73 : decode cX2_found 73 = .ok (.checkcast 92, 3) := dk_192 0 92 (dk_at dksX2_found_3 3 rfl rfl)
theorem dX2_found_76 : decode cX2_found 76 = .ok (.getfield 108, 3) := dk_180 0 108 (dk_at dksX2_found_3 6 rfl rfl)
theorem dX2_found_79 : decode cX2_found 79 = .ok (.getfield 105, 3) := dk_180 0 105 (dk_at dksX2_found_3 9 rfl rfl)
theorem dX2_found_82 : decode cX2_found 82 = .ok (.iaload, 1) := dk_46 (dk_at dksX2_found_3 12 rfl rfl)
theorem dX2_found_83 : decode cX2_found 83 = .ok (.iload 6, 2) := dk_21 6 (dk_at dksX2_found_3 13 rfl rfl)
theorem dX2_found_85 : decode cX2_found 85 = .ok (.if_icmp .eq 6, 3) := dk_159 0 6 (dk_at dksX2_found_3 15 rfl rfl)
theorem dX2_found_88 : decode cX2_found 88 = .ok (.goto 39, 3) := dk_167 0 39 (dk_at dksX2_found_3 18 rfl rfl)
theorem dX2_found_91 : decode cX2_found 91 = .ok (.iload 7, 2) := dk_21 7 (dk_at dksX2_found_3 21 rfl rfl)
theorem dX2_found_93 : decode cX2_found 93 = .ok (.ifCond .eq 19, 3) := dk_153 0 19 (dk_at dksX2_found_4 0 rfl rfl)
theorem dX2_found_96 : decode cX2_found 96 = .ok (.aload 4, 2) := dk_25 4 (dk_at dksX2_found_4 3 rfl rfl)
theorem dX2_found_98 : decode cX2_found 98 = .ok (.iload 9, 2) := dk_21 9 (dk_at dksX2_found_4 5 rfl rfl)
theorem dX2_found_100 : decode cX2_found 100 = .ok (.invokevirtual 69, 3) := dk_182 0 69 (dk_at dksX2_found_4 7 rfl rfl)
theorem dX2_found_103 : decode cX2_found 103 = .ok (.checkcast 122, 3) := dk_192 0 122 (dk_at dksX2_found_4 10 rfl rfl)
theorem dX2_found_106 : decode cX2_found 106 = .ok (.invokevirtual 138, 3) := dk_182 0 138 (dk_at dksX2_found_4 13 rfl rfl)
theorem dX2_found_109 : decode cX2_found 109 = .ok (.goto 18, 3) := dk_167 0 18 (dk_at dksX2_found_4 16 rfl rfl)
theorem dX2_found_112 : decode cX2_found 112 = .ok (.aload 4, 2) := dk_25 4 (dk_at dksX2_found_4 19 rfl rfl)
theorem dX2_found_114 : decode cX2_found 114 = .ok (.iload 9, 2) := dk_21 9 (dk_at dksX2_found_4 21 rfl rfl)
theorem dX2_found_116 : decode cX2_found 116 = .ok (.invokevirtual 69, 3) := dk_182 0 69 (dk_at dksX2_found_5 0 rfl rfl)
theorem dX2_found_119 : decode cX2_found 119 = .ok (.checkcast 122, 3) := dk_192 0 122 (dk_at dksX2_found_5 3 rfl rfl)
theorem dX2_found_122 : decode cX2_found 122 = .ok (.iload 5, 2) := dk_21 5 (dk_at dksX2_found_5 6 rfl rfl)
theorem dX2_found_124 : decode cX2_found 124 = .ok (.invokevirtual 141, 3) := dk_182 0 141 (dk_at dksX2_found_5 8 rfl rfl)
theorem dX2_found_127 : decode cX2_found 127 = .ok (.iinc 9 1, 3) := dk_132 9 1 (dk_at dksX2_found_5 11 rfl rfl)
theorem dX2_found_130 : decode cX2_found 130 = .ok (.goto (-77), 3) := dk_167 255 179 (dk_at dksX2_found_5 14 rfl rfl)
theorem dX2_found_133 : decode cX2_found 133 = .ok (.iinc 5 1, 3) := dk_132 5 1 (dk_at dksX2_found_5 17 rfl rfl)
theorem dX2_found_136 : decode cX2_found 136 = .ok (.aload_n 3, 1) := dk_45 (dk_at dksX2_found_5 20 rfl rfl)
theorem dX2_found_137 : decode cX2_found 137 = .ok (.aload_n 2, 1) := dk_44 (dk_at dksX2_found_5 21 rfl rfl)
theorem dX2_found_138 : decode cX2_found 138 = .ok (.iload 5, 2) := dk_21 5 (dk_at dksX2_found_5 22 rfl rfl)
theorem dX2_found_140 : decode cX2_found 140 = .ok (.invokestatic 144, 3) := dk_184 0 144 (dk_at dksX2_found_6 0 rfl rfl)
theorem dX2_found_143 : decode cX2_found 143 = .ok (.istore 8, 2) := dk_54 8 (dk_at dksX2_found_6 3 rfl rfl)
theorem dX2_found_145 : decode cX2_found 145 = .ok (.iconst 0, 1) := dk_3 (dk_at dksX2_found_6 5 rfl rfl)
theorem dX2_found_146 : decode cX2_found 146 = .ok (.istore 7, 2) := dk_54 7 (dk_at dksX2_found_6 6 rfl rfl)
theorem dX2_found_148 : decode cX2_found 148 = .ok (.goto (-108), 3) := dk_167 255 148 (dk_at dksX2_found_6 8 rfl rfl)
theorem dX2_found_151 : decode cX2_found 151 = .ok (.iinc 6 1, 3) := dk_132 6 1 (dk_at dksX2_found_6 11 rfl rfl)
theorem dX2_found_154 : decode cX2_found 154 = .ok (.goto (-127), 3) := dk_167 255 129 (dk_at dksX2_found_6 14 rfl rfl)
theorem dX2_found_157 : decode cX2_found 157 = .ok (.aload_n 2, 1) := dk_44 (dk_at dksX2_found_6 17 rfl rfl)
theorem dX2_found_158 : decode cX2_found 158 = .ok (.areturn, 1) := dk_176 (dk_at dksX2_found_6 18 rfl rfl)
abbrev cX2_toldFacts : ByteArray := prog_17_method_6_code
def yX2_toldFacts : MethodName := ⟨RX2, "toldFacts", "()LRulehearth$Facts;"⟩
def dkwX2_toldFacts_1 : List UInt8 := [180, 0, 20, 28, 182, 0, 69, 192, 0, 73, 3, 46, 3, 182, 0, 119, 132, 2, 1, 167, 255, 224, 43, 176]
abbrev dktX2_toldFacts_1 : List UInt8 := dkwX2_toldFacts_1 ++ []
def dkwX2_toldFacts_0 : List UInt8 := [187, 0, 23, 89, 183, 0, 25, 76, 3, 61, 28, 42, 180, 0, 20, 182, 0, 65, 162, 0, 27, 43, 42]
abbrev dktX2_toldFacts_0 : List UInt8 := dkwX2_toldFacts_0 ++ dktX2_toldFacts_1
theorem dksX2_toldFacts_0 : cX2_toldFacts.data.toList.drop 0 = dktX2_toldFacts_0 := by decide +kernel
theorem dksX2_toldFacts_1 : cX2_toldFacts.data.toList.drop 23 = dktX2_toldFacts_1 := dk_seg dksX2_toldFacts_0 23 rfl rfl
theorem dX2_toldFacts_0 : decode cX2_toldFacts 0 = .ok (.new 23, 3) := dk_187 0 23 (dk_at dksX2_toldFacts_0 0 rfl rfl)
theorem dX2_toldFacts_3 : decode cX2_toldFacts 3 = .ok (.dup, 1) := dk_89 (dk_at dksX2_toldFacts_0 3 rfl rfl)
theorem dX2_toldFacts_4 : decode cX2_toldFacts 4 = .ok (.invokespecial 25, 3) := dk_183 0 25 (dk_at dksX2_toldFacts_0 4 rfl rfl)
theorem dX2_toldFacts_7 : decode cX2_toldFacts 7 = .ok (.astore_n 1, 1) := dk_76 (dk_at dksX2_toldFacts_0 7 rfl rfl)
theorem dX2_toldFacts_8 : decode cX2_toldFacts 8 = .ok (.iconst 0, 1) := dk_3 (dk_at dksX2_toldFacts_0 8 rfl rfl)
theorem dX2_toldFacts_9 : decode cX2_toldFacts 9 = .ok (.istore_n 2, 1) := dk_61 (dk_at dksX2_toldFacts_0 9 rfl rfl)
theorem dX2_toldFacts_10 : decode cX2_toldFacts 10 = .ok (.iload_n 2, 1) := dk_28 (dk_at dksX2_toldFacts_0 10 rfl rfl)
theorem dX2_toldFacts_11 : decode cX2_toldFacts 11 = .ok (.aload_n 0, 1) := dk_42 (dk_at dksX2_toldFacts_0 11 rfl rfl)
theorem dX2_toldFacts_12 : decode cX2_toldFacts 12 = .ok (.getfield 20, 3) := dk_180 0 20 (dk_at dksX2_toldFacts_0 12 rfl rfl)
theorem dX2_toldFacts_15 : decode cX2_toldFacts 15 = .ok (.invokevirtual 65, 3) := dk_182 0 65 (dk_at dksX2_toldFacts_0 15 rfl rfl)
theorem dX2_toldFacts_18 : decode cX2_toldFacts 18 = .ok (.if_icmp .ge 27, 3) := dk_162 0 27 (dk_at dksX2_toldFacts_0 18 rfl rfl)
theorem dX2_toldFacts_21 : decode cX2_toldFacts 21 = .ok (.aload_n 1, 1) := dk_43 (dk_at dksX2_toldFacts_0 21 rfl rfl)
theorem dX2_toldFacts_22 : decode cX2_toldFacts 22 = .ok (.aload_n 0, 1) := dk_42 (dk_at dksX2_toldFacts_0 22 rfl rfl)
theorem dX2_toldFacts_23 : decode cX2_toldFacts 23 = .ok (.getfield 20, 3) := dk_180 0 20 (dk_at dksX2_toldFacts_1 0 rfl rfl)
theorem dX2_toldFacts_26 : decode cX2_toldFacts 26 = .ok (.iload_n 2, 1) := dk_28 (dk_at dksX2_toldFacts_1 3 rfl rfl)
theorem dX2_toldFacts_27 : decode cX2_toldFacts 27 = .ok (.invokevirtual 69, 3) := dk_182 0 69 (dk_at dksX2_toldFacts_1 4 rfl rfl)
theorem dX2_toldFacts_30 : decode cX2_toldFacts 30 = .ok (.checkcast 73, 3) := dk_192 0 73 (dk_at dksX2_toldFacts_1 7 rfl rfl)
theorem dX2_toldFacts_33 : decode cX2_toldFacts 33 = .ok (.iconst 0, 1) := dk_3 (dk_at dksX2_toldFacts_1 10 rfl rfl)
theorem dX2_toldFacts_34 : decode cX2_toldFacts 34 = .ok (.iaload, 1) := dk_46 (dk_at dksX2_toldFacts_1 11 rfl rfl)
theorem dX2_toldFacts_35 : decode cX2_toldFacts 35 = .ok (.iconst 0, 1) := dk_3 (dk_at dksX2_toldFacts_1 12 rfl rfl)
theorem dX2_toldFacts_36 : decode cX2_toldFacts 36 = .ok (.invokevirtual 119, 3) := dk_182 0 119 (dk_at dksX2_toldFacts_1 13 rfl rfl)
theorem dX2_toldFacts_39 : decode cX2_toldFacts 39 = .ok (.iinc 2 1, 3) := dk_132 2 1 (dk_at dksX2_toldFacts_1 16 rfl rfl)
theorem dX2_toldFacts_42 : decode cX2_toldFacts 42 = .ok (.goto (-32), 3) := dk_167 255 224 (dk_at dksX2_toldFacts_1 19 rfl rfl)
theorem dX2_toldFacts_45 : decode cX2_toldFacts 45 = .ok (.aload_n 1, 1) := dk_43 (dk_at dksX2_toldFacts_1 22 rfl rfl)
theorem dX2_toldFacts_46 : decode cX2_toldFacts 46 = .ok (.areturn, 1) := dk_176 (dk_at dksX2_toldFacts_1 23 rfl rfl)
abbrev cX2_derivers : ByteArray := prog_17_method_7_code
def yX2_derivers : MethodName := ⟨RX2, "derivers", "(LRulehearth$Facts;LRulehearth$Facts;)Ljava/util/ArrayList;"⟩
def dkwX2_derivers_2 : List UInt8 := [183, 0, 124, 182, 0, 78, 87, 132, 4, 1, 167, 255, 215, 45, 176]
abbrev dktX2_derivers_2 : List UInt8 := dkwX2_derivers_2 ++ []
def dkwX2_derivers_1 : List UInt8 := [162, 0, 35, 45, 187, 0, 122, 89, 42, 180, 0, 34, 21, 4, 182, 0, 69, 192, 0, 92, 43, 44]
abbrev dktX2_derivers_1 : List UInt8 := dkwX2_derivers_1 ++ dktX2_derivers_2
def dkwX2_derivers_0 : List UInt8 := [187, 0, 9, 89, 16, 10, 183, 0, 11, 78, 3, 54, 4, 21, 4, 42, 180, 0, 34, 182, 0, 65]
abbrev dktX2_derivers_0 : List UInt8 := dkwX2_derivers_0 ++ dktX2_derivers_1
theorem dksX2_derivers_0 : cX2_derivers.data.toList.drop 0 = dktX2_derivers_0 := by decide +kernel
theorem dksX2_derivers_1 : cX2_derivers.data.toList.drop 22 = dktX2_derivers_1 := dk_seg dksX2_derivers_0 22 rfl rfl
theorem dksX2_derivers_2 : cX2_derivers.data.toList.drop 44 = dktX2_derivers_2 := dk_seg dksX2_derivers_1 22 rfl rfl
theorem dX2_derivers_0 : decode cX2_derivers 0 = .ok (.new 9, 3) := dk_187 0 9 (dk_at dksX2_derivers_0 0 rfl rfl)
theorem dX2_derivers_3 : decode cX2_derivers 3 = .ok (.dup, 1) := dk_89 (dk_at dksX2_derivers_0 3 rfl rfl)
theorem dX2_derivers_4 : decode cX2_derivers 4 = .ok (.bipush 10, 2) := dk_16 10 (dk_at dksX2_derivers_0 4 rfl rfl)
theorem dX2_derivers_6 : decode cX2_derivers 6 = .ok (.invokespecial 11, 3) := dk_183 0 11 (dk_at dksX2_derivers_0 6 rfl rfl)
theorem dX2_derivers_9 : decode cX2_derivers 9 = .ok (.astore_n 3, 1) := dk_78 (dk_at dksX2_derivers_0 9 rfl rfl)
theorem dX2_derivers_10 : decode cX2_derivers 10 = .ok (.iconst 0, 1) := dk_3 (dk_at dksX2_derivers_0 10 rfl rfl)
theorem dX2_derivers_11 : decode cX2_derivers 11 = .ok (.istore 4, 2) := dk_54 4 (dk_at dksX2_derivers_0 11 rfl rfl)
theorem dX2_derivers_13 : decode cX2_derivers 13 = .ok (.iload 4, 2) := dk_21 4 (dk_at dksX2_derivers_0 13 rfl rfl)
theorem dX2_derivers_15 : decode cX2_derivers 15 = .ok (.aload_n 0, 1) := dk_42 (dk_at dksX2_derivers_0 15 rfl rfl)
theorem dX2_derivers_16 : decode cX2_derivers 16 = .ok (.getfield 34, 3) := dk_180 0 34 (dk_at dksX2_derivers_0 16 rfl rfl)
theorem dX2_derivers_19 : decode cX2_derivers 19 = .ok (.invokevirtual 65, 3) := dk_182 0 65 (dk_at dksX2_derivers_0 19 rfl rfl)
theorem dX2_derivers_22 : decode cX2_derivers 22 = .ok (.if_icmp .ge 35, 3) := dk_162 0 35 (dk_at dksX2_derivers_1 0 rfl rfl)
theorem dX2_derivers_25 : decode cX2_derivers 25 = .ok (.aload_n 3, 1) := dk_45 (dk_at dksX2_derivers_1 3 rfl rfl)
theorem dX2_derivers_26 : decode cX2_derivers 26 = .ok (.new 122, 3) := dk_187 0 122 (dk_at dksX2_derivers_1 4 rfl rfl)
theorem dX2_derivers_29 : decode cX2_derivers 29 = .ok (.dup, 1) := dk_89 (dk_at dksX2_derivers_1 7 rfl rfl)
theorem dX2_derivers_30 : decode cX2_derivers 30 = .ok (.aload_n 0, 1) := dk_42 (dk_at dksX2_derivers_1 8 rfl rfl)
theorem dX2_derivers_31 : decode cX2_derivers 31 = .ok (.getfield 34, 3) := dk_180 0 34 (dk_at dksX2_derivers_1 9 rfl rfl)
theorem dX2_derivers_34 : decode cX2_derivers 34 = .ok (.iload 4, 2) := dk_21 4 (dk_at dksX2_derivers_1 12 rfl rfl)
theorem dX2_derivers_36 : decode cX2_derivers 36 = .ok (.invokevirtual 69, 3) := dk_182 0 69 (dk_at dksX2_derivers_1 14 rfl rfl)
theorem dX2_derivers_39 : decode cX2_derivers 39 = .ok (.checkcast 92, 3) := dk_192 0 92 (dk_at dksX2_derivers_1 17 rfl rfl)
theorem dX2_derivers_42 : decode cX2_derivers 42 = .ok (.aload_n 1, 1) := dk_43 (dk_at dksX2_derivers_1 20 rfl rfl)
theorem dX2_derivers_43 : decode cX2_derivers 43 = .ok (.aload_n 2, 1) := dk_44 (dk_at dksX2_derivers_1 21 rfl rfl)
theorem dX2_derivers_44 : decode cX2_derivers 44 = .ok (.invokespecial 124, 3) := dk_183 0 124 (dk_at dksX2_derivers_2 0 rfl rfl)
theorem dX2_derivers_47 : decode cX2_derivers 47 = .ok (.invokevirtual 78, 3) := dk_182 0 78 (dk_at dksX2_derivers_2 3 rfl rfl)
theorem dX2_derivers_50 : decode cX2_derivers 50 = .ok (.pop, 1) := dk_87 (dk_at dksX2_derivers_2 6 rfl rfl)
theorem dX2_derivers_51 : decode cX2_derivers 51 = .ok (.iinc 4 1, 3) := dk_132 4 1 (dk_at dksX2_derivers_2 7 rfl rfl)
theorem dX2_derivers_54 : decode cX2_derivers 54 = .ok (.goto (-41), 3) := dk_167 255 215 (dk_at dksX2_derivers_2 10 rfl rfl)
theorem dX2_derivers_57 : decode cX2_derivers 57 = .ok (.aload_n 3, 1) := dk_45 (dk_at dksX2_derivers_2 13 rfl rfl)
theorem dX2_derivers_58 : decode cX2_derivers 58 = .ok (.areturn, 1) := dk_176 (dk_at dksX2_derivers_2 14 rfl rfl)
abbrev cX2_merge : ByteArray := prog_17_method_10_code
def yX2_merge : MethodName := ⟨RX2, "merge", "(LRulehearth$Facts;LRulehearth$Facts;I)Z"⟩
def dkwX2_merge_2 : List UInt8 := [172]
abbrev dktX2_merge_2 : List UInt8 := dkwX2_merge_2 ++ []
def dkwX2_merge_1 : List UInt8 := [46, 28, 182, 0, 119, 132, 4, 1, 167, 255, 232, 43, 180, 0, 135, 29, 164, 0, 7, 4, 167, 0, 4, 3]
abbrev dktX2_merge_1 : List UInt8 := dkwX2_merge_1 ++ dktX2_merge_2
def dkwX2_merge_0 : List UInt8 := [43, 180, 0, 135, 62, 3, 54, 4, 21, 4, 42, 180, 0, 135, 162, 0, 21, 43, 42, 180, 0, 148, 21, 4]
abbrev dktX2_merge_0 : List UInt8 := dkwX2_merge_0 ++ dktX2_merge_1
theorem dksX2_merge_0 : cX2_merge.data.toList.drop 0 = dktX2_merge_0 := by decide +kernel
theorem dksX2_merge_1 : cX2_merge.data.toList.drop 24 = dktX2_merge_1 := dk_seg dksX2_merge_0 24 rfl rfl
theorem dksX2_merge_2 : cX2_merge.data.toList.drop 48 = dktX2_merge_2 := dk_seg dksX2_merge_1 24 rfl rfl
theorem dX2_merge_0 : decode cX2_merge 0 = .ok (.aload_n 1, 1) := dk_43 (dk_at dksX2_merge_0 0 rfl rfl)
theorem dX2_merge_1 : decode cX2_merge 1 = .ok (.getfield 135, 3) := dk_180 0 135 (dk_at dksX2_merge_0 1 rfl rfl)
theorem dX2_merge_4 : decode cX2_merge 4 = .ok (.istore_n 3, 1) := dk_62 (dk_at dksX2_merge_0 4 rfl rfl)
theorem dX2_merge_5 : decode cX2_merge 5 = .ok (.iconst 0, 1) := dk_3 (dk_at dksX2_merge_0 5 rfl rfl)
theorem dX2_merge_6 : decode cX2_merge 6 = .ok (.istore 4, 2) := dk_54 4 (dk_at dksX2_merge_0 6 rfl rfl)
theorem dX2_merge_8 : decode cX2_merge 8 = .ok (.iload 4, 2) := dk_21 4 (dk_at dksX2_merge_0 8 rfl rfl)
theorem dX2_merge_10 : decode cX2_merge 10 = .ok (.aload_n 0, 1) := dk_42 (dk_at dksX2_merge_0 10 rfl rfl)
theorem dX2_merge_11 : decode cX2_merge 11 = .ok (.getfield 135, 3) := dk_180 0 135 (dk_at dksX2_merge_0 11 rfl rfl)
theorem dX2_merge_14 : decode cX2_merge 14 = .ok (.if_icmp .ge 21, 3) := dk_162 0 21 (dk_at dksX2_merge_0 14 rfl rfl)
theorem dX2_merge_17 : decode cX2_merge 17 = .ok (.aload_n 1, 1) := dk_43 (dk_at dksX2_merge_0 17 rfl rfl)
theorem dX2_merge_18 : decode cX2_merge 18 = .ok (.aload_n 0, 1) := dk_42 (dk_at dksX2_merge_0 18 rfl rfl)
theorem dX2_merge_19 : decode cX2_merge 19 = .ok (.getfield 148, 3) := dk_180 0 148 (dk_at dksX2_merge_0 19 rfl rfl)
theorem dX2_merge_22 : decode cX2_merge 22 = .ok (.iload 4, 2) := dk_21 4 (dk_at dksX2_merge_0 22 rfl rfl)
theorem dX2_merge_24 : decode cX2_merge 24 = .ok (.iaload, 1) := dk_46 (dk_at dksX2_merge_1 0 rfl rfl)
theorem dX2_merge_25 : decode cX2_merge 25 = .ok (.iload_n 2, 1) := dk_28 (dk_at dksX2_merge_1 1 rfl rfl)
theorem dX2_merge_26 : decode cX2_merge 26 = .ok (.invokevirtual 119, 3) := dk_182 0 119 (dk_at dksX2_merge_1 2 rfl rfl)
theorem dX2_merge_29 : decode cX2_merge 29 = .ok (.iinc 4 1, 3) := dk_132 4 1 (dk_at dksX2_merge_1 5 rfl rfl)
theorem dX2_merge_32 : decode cX2_merge 32 = .ok (.goto (-24), 3) := dk_167 255 232 (dk_at dksX2_merge_1 8 rfl rfl)
theorem dX2_merge_35 : decode cX2_merge 35 = .ok (.aload_n 1, 1) := dk_43 (dk_at dksX2_merge_1 11 rfl rfl)
theorem dX2_merge_36 : decode cX2_merge 36 = .ok (.getfield 135, 3) := dk_180 0 135 (dk_at dksX2_merge_1 12 rfl rfl)
theorem dX2_merge_39 : decode cX2_merge 39 = .ok (.iload_n 3, 1) := dk_29 (dk_at dksX2_merge_1 15 rfl rfl)
theorem dX2_merge_40 : decode cX2_merge 40 = .ok (.if_icmp .le 7, 3) := dk_164 0 7 (dk_at dksX2_merge_1 16 rfl rfl)
theorem dX2_merge_43 : decode cX2_merge 43 = .ok (.iconst 1, 1) := dk_4 (dk_at dksX2_merge_1 19 rfl rfl)
theorem dX2_merge_44 : decode cX2_merge 44 = .ok (.goto 4, 3) := dk_167 0 4 (dk_at dksX2_merge_1 20 rfl rfl)
theorem dX2_merge_47 : decode cX2_merge 47 = .ok (.iconst 0, 1) := dk_3 (dk_at dksX2_merge_1 23 rfl rfl)
theorem dX2_merge_48 : decode cX2_merge 48 = .ok (.ireturn, 1) := dk_172 (dk_at dksX2_merge_2 0 rfl rfl)
abbrev cX2_areTags : ByteArray := prog_17_method_12_code
def yX2_areTags : MethodName := ⟨RX2, "areTags", "([I)Z"⟩
def dkwX2_areTags_3 : List UInt8 := [132, 3, 1, 167, 255, 185, 28, 172]
abbrev dktX2_areTags_3 : List UInt8 := dkwX2_areTags_3 ++ []
def dkwX2_areTags_2 : List UInt8 := [29, 46, 160, 0, 7, 4, 167, 0, 4, 3, 128, 54, 4, 132, 5, 1, 167, 255, 218, 28, 21, 4, 126, 61]
abbrev dktX2_areTags_2 : List UInt8 := dkwX2_areTags_2 ++ dktX2_areTags_3
def dkwX2_areTags_1 : List UInt8 := [54, 5, 21, 5, 42, 180, 0, 26, 180, 0, 135, 162, 0, 32, 21, 4, 42, 180, 0, 30, 21, 5, 46, 43]
abbrev dktX2_areTags_1 : List UInt8 := dkwX2_areTags_1 ++ dktX2_areTags_2
def dkwX2_areTags_0 : List UInt8 := [4, 61, 4, 62, 29, 43, 190, 162, 0, 71, 43, 29, 46, 154, 0, 7, 4, 167, 0, 4, 3, 54, 4, 3]
abbrev dktX2_areTags_0 : List UInt8 := dkwX2_areTags_0 ++ dktX2_areTags_1
theorem dksX2_areTags_0 : cX2_areTags.data.toList.drop 0 = dktX2_areTags_0 := by decide +kernel
theorem dksX2_areTags_1 : cX2_areTags.data.toList.drop 24 = dktX2_areTags_1 := dk_seg dksX2_areTags_0 24 rfl rfl
theorem dksX2_areTags_2 : cX2_areTags.data.toList.drop 48 = dktX2_areTags_2 := dk_seg dksX2_areTags_1 24 rfl rfl
theorem dksX2_areTags_3 : cX2_areTags.data.toList.drop 72 = dktX2_areTags_3 := dk_seg dksX2_areTags_2 24 rfl rfl
theorem dX2_areTags_0 : decode cX2_areTags 0 = .ok (.iconst 1, 1) := dk_4 (dk_at dksX2_areTags_0 0 rfl rfl)
theorem dX2_areTags_1 : decode cX2_areTags 1 = .ok (.istore_n 2, 1) := dk_61 (dk_at dksX2_areTags_0 1 rfl rfl)
theorem dX2_areTags_2 : decode cX2_areTags 2 = .ok (.iconst 1, 1) := dk_4 (dk_at dksX2_areTags_0 2 rfl rfl)
theorem dX2_areTags_3 : decode cX2_areTags 3 = .ok (.istore_n 3, 1) := dk_62 (dk_at dksX2_areTags_0 3 rfl rfl)
theorem dX2_areTags_4 : decode cX2_areTags 4 = .ok (.iload_n 3, 1) := dk_29 (dk_at dksX2_areTags_0 4 rfl rfl)
theorem dX2_areTags_5 : decode cX2_areTags 5 = .ok (.aload_n 1, 1) := dk_43 (dk_at dksX2_areTags_0 5 rfl rfl)
theorem dX2_areTags_6 : decode cX2_areTags 6 = .ok (.arraylength, 1) := dk_190 (dk_at dksX2_areTags_0 6 rfl rfl)
theorem dX2_areTags_7 : decode cX2_areTags 7 = .ok (.if_icmp .ge 71, 3) := dk_162 0 71 (dk_at dksX2_areTags_0 7 rfl rfl)
theorem dX2_areTags_10 : decode cX2_areTags 10 = .ok (.aload_n 1, 1) := dk_43 (dk_at dksX2_areTags_0 10 rfl rfl)
theorem dX2_areTags_11 : decode cX2_areTags 11 = .ok (.iload_n 3, 1) := dk_29 (dk_at dksX2_areTags_0 11 rfl rfl)
theorem dX2_areTags_12 : decode cX2_areTags 12 = .ok (.iaload, 1) := dk_46 (dk_at dksX2_areTags_0 12 rfl rfl)
theorem dX2_areTags_13 : decode cX2_areTags 13 = .ok (.ifCond .ne 7, 3) := dk_154 0 7 (dk_at dksX2_areTags_0 13 rfl rfl)
theorem dX2_areTags_16 : decode cX2_areTags 16 = .ok (.iconst 1, 1) := dk_4 (dk_at dksX2_areTags_0 16 rfl rfl)
theorem dX2_areTags_17 : decode cX2_areTags 17 = .ok (.goto 4, 3) := dk_167 0 4 (dk_at dksX2_areTags_0 17 rfl rfl)
theorem dX2_areTags_20 : decode cX2_areTags 20 = .ok (.iconst 0, 1) := dk_3 (dk_at dksX2_areTags_0 20 rfl rfl)
theorem dX2_areTags_21 : decode cX2_areTags 21 = .ok (.istore 4, 2) := dk_54 4 (dk_at dksX2_areTags_0 21 rfl rfl)
theorem dX2_areTags_23 : decode cX2_areTags 23 = .ok (.iconst 0, 1) := dk_3 (dk_at dksX2_areTags_0 23 rfl rfl)
theorem dX2_areTags_24 : decode cX2_areTags 24 = .ok (.istore 5, 2) := dk_54 5 (dk_at dksX2_areTags_1 0 rfl rfl)
theorem dX2_areTags_26 : decode cX2_areTags 26 = .ok (.iload 5, 2) := dk_21 5 (dk_at dksX2_areTags_1 2 rfl rfl)
theorem dX2_areTags_28 : decode cX2_areTags 28 = .ok (.aload_n 0, 1) := dk_42 (dk_at dksX2_areTags_1 4 rfl rfl)
theorem dX2_areTags_29 : decode cX2_areTags 29 = .ok (.getfield 26, 3) := dk_180 0 26 (dk_at dksX2_areTags_1 5 rfl rfl)
theorem dX2_areTags_32 : decode cX2_areTags 32 = .ok (.getfield 135, 3) := dk_180 0 135 (dk_at dksX2_areTags_1 8 rfl rfl)
theorem dX2_areTags_35 : decode cX2_areTags 35 = .ok (.if_icmp .ge 32, 3) := dk_162 0 32 (dk_at dksX2_areTags_1 11 rfl rfl)
theorem dX2_areTags_38 : decode cX2_areTags 38 = .ok (.iload 4, 2) := dk_21 4 (dk_at dksX2_areTags_1 14 rfl rfl)
theorem dX2_areTags_40 : decode cX2_areTags 40 = .ok (.aload_n 0, 1) := dk_42 (dk_at dksX2_areTags_1 16 rfl rfl)
theorem dX2_areTags_41 : decode cX2_areTags 41 = .ok (.getfield 30, 3) := dk_180 0 30 (dk_at dksX2_areTags_1 17 rfl rfl)
theorem dX2_areTags_44 : decode cX2_areTags 44 = .ok (.iload 5, 2) := dk_21 5 (dk_at dksX2_areTags_1 20 rfl rfl)
theorem dX2_areTags_46 : decode cX2_areTags 46 = .ok (.iaload, 1) := dk_46 (dk_at dksX2_areTags_1 22 rfl rfl)
theorem dX2_areTags_47 : decode cX2_areTags 47 = .ok (.aload_n 1, 1) := dk_43 (dk_at dksX2_areTags_1 23 rfl rfl)
theorem dX2_areTags_48 : decode cX2_areTags 48 = .ok (.iload_n 3, 1) := dk_29 (dk_at dksX2_areTags_2 0 rfl rfl)
theorem dX2_areTags_49 : decode cX2_areTags 49 = .ok (.iaload, 1) := dk_46 (dk_at dksX2_areTags_2 1 rfl rfl)
theorem dX2_areTags_50 : decode cX2_areTags 50 = .ok (.if_icmp .ne 7, 3) := dk_160 0 7 (dk_at dksX2_areTags_2 2 rfl rfl)
theorem dX2_areTags_53 : decode cX2_areTags 53 = .ok (.iconst 1, 1) := dk_4 (dk_at dksX2_areTags_2 5 rfl rfl)
theorem dX2_areTags_54 : decode cX2_areTags 54 = .ok (.goto 4, 3) := dk_167 0 4 (dk_at dksX2_areTags_2 6 rfl rfl)
theorem dX2_areTags_57 : decode cX2_areTags 57 = .ok (.iconst 0, 1) := dk_3 (dk_at dksX2_areTags_2 9 rfl rfl)
theorem dX2_areTags_58 : decode cX2_areTags 58 = .ok (.ior, 1) := dk_128 (dk_at dksX2_areTags_2 10 rfl rfl)
theorem dX2_areTags_59 : decode cX2_areTags 59 = .ok (.istore 4, 2) := dk_54 4 (dk_at dksX2_areTags_2 11 rfl rfl)
theorem dX2_areTags_61 : decode cX2_areTags 61 = .ok (.iinc 5 1, 3) := dk_132 5 1 (dk_at dksX2_areTags_2 13 rfl rfl)
theorem dX2_areTags_64 : decode cX2_areTags 64 = .ok (.goto (-38), 3) := dk_167 255 218 (dk_at dksX2_areTags_2 16 rfl rfl)
theorem dX2_areTags_67 : decode cX2_areTags 67 = .ok (.iload_n 2, 1) := dk_28 (dk_at dksX2_areTags_2 19 rfl rfl)
theorem dX2_areTags_68 : decode cX2_areTags 68 = .ok (.iload 4, 2) := dk_21 4 (dk_at dksX2_areTags_2 20 rfl rfl)
theorem dX2_areTags_70 : decode cX2_areTags 70 = .ok (.iand, 1) := dk_126 (dk_at dksX2_areTags_2 22 rfl rfl)
theorem dX2_areTags_71 : decode cX2_areTags 71 = .ok (.istore_n 2, 1) := dk_61 (dk_at dksX2_areTags_2 23 rfl rfl)
theorem dX2_areTags_72 : decode cX2_areTags 72 = .ok (.iinc 3 1, 3) := dk_132 3 1 (dk_at dksX2_areTags_3 0 rfl rfl)
theorem dX2_areTags_75 : decode cX2_areTags 75 = .ok (.goto (-71), 3) := dk_167 255 185 (dk_at dksX2_areTags_3 3 rfl rfl)
theorem dX2_areTags_78 : decode cX2_areTags 78 = .ok (.iload_n 2, 1) := dk_28 (dk_at dksX2_areTags_3 6 rfl rfl)
theorem dX2_areTags_79 : decode cX2_areTags 79 = .ok (.ireturn, 1) := dk_172 (dk_at dksX2_areTags_3 7 rfl rfl)
abbrev cX2_foundByRounds : ByteArray := prog_17_method_9_code
def yX2_foundByRounds : MethodName := ⟨RX2, "foundByRounds", "([I)LRulehearth$Facts;"⟩
def dkwX2_foundByRounds_5 : List UInt8 := [167, 255, 165, 44, 176]
abbrev dktX2_foundByRounds_5 : List UInt8 := dkwX2_foundByRounds_5 ++ []
def dkwX2_foundByRounds_4 : List UInt8 := [182, 0, 138, 132, 7, 1, 167, 255, 205, 45, 44, 3, 184, 0, 144, 54, 6, 167, 255, 181, 132, 5, 1]
abbrev dktX2_foundByRounds_4 : List UInt8 := dkwX2_foundByRounds_4 ++ dktX2_foundByRounds_5
def dkwX2_foundByRounds_3 : List UInt8 := [180, 0, 108, 180, 0, 105, 46, 21, 5, 160, 0, 16, 25, 4, 21, 7, 182, 0, 69, 192, 0, 122]
abbrev dktX2_foundByRounds_3 : List UInt8 := dkwX2_foundByRounds_3 ++ dktX2_foundByRounds_4
def dkwX2_foundByRounds_2 : List UInt8 := [21, 7, 25, 4, 182, 0, 65, 162, 0, 47, 43, 42, 180, 0, 34, 21, 7, 182, 0, 69, 192, 0, 92]
abbrev dktX2_foundByRounds_2 : List UInt8 := dkwX2_foundByRounds_2 ++ dktX2_foundByRounds_3
def dkwX2_foundByRounds_1 : List UInt8 := [21, 5, 16, 8, 162, 0, 90, 4, 54, 6, 21, 6, 153, 0, 76, 45, 3, 181, 0, 135, 3, 54, 7]
abbrev dktX2_foundByRounds_1 : List UInt8 := dkwX2_foundByRounds_1 ++ dktX2_foundByRounds_2
def dkwX2_foundByRounds_0 : List UInt8 := [42, 182, 0, 127, 77, 187, 0, 23, 89, 183, 0, 25, 78, 42, 44, 45, 182, 0, 131, 58, 4, 3, 54, 5]
abbrev dktX2_foundByRounds_0 : List UInt8 := dkwX2_foundByRounds_0 ++ dktX2_foundByRounds_1
theorem dksX2_foundByRounds_0 : cX2_foundByRounds.data.toList.drop 0 = dktX2_foundByRounds_0 := by decide +kernel
theorem dksX2_foundByRounds_1 : cX2_foundByRounds.data.toList.drop 24 = dktX2_foundByRounds_1 := dk_seg dksX2_foundByRounds_0 24 rfl rfl
theorem dksX2_foundByRounds_2 : cX2_foundByRounds.data.toList.drop 47 = dktX2_foundByRounds_2 := dk_seg dksX2_foundByRounds_1 23 rfl rfl
theorem dksX2_foundByRounds_3 : cX2_foundByRounds.data.toList.drop 70 = dktX2_foundByRounds_3 := dk_seg dksX2_foundByRounds_2 23 rfl rfl
theorem dksX2_foundByRounds_4 : cX2_foundByRounds.data.toList.drop 92 = dktX2_foundByRounds_4 := dk_seg dksX2_foundByRounds_3 22 rfl rfl
theorem dksX2_foundByRounds_5 : cX2_foundByRounds.data.toList.drop 115 = dktX2_foundByRounds_5 := dk_seg dksX2_foundByRounds_4 23 rfl rfl
theorem dX2_foundByRounds_0 : decode cX2_foundByRounds 0 = .ok (.aload_n 0, 1) := dk_42 (dk_at dksX2_foundByRounds_0 0 rfl rfl)
theorem dX2_foundByRounds_1 : decode cX2_foundByRounds 1 = .ok (.invokevirtual 127, 3) := dk_182 0 127 (dk_at dksX2_foundByRounds_0 1 rfl rfl)
theorem dX2_foundByRounds_4 : decode cX2_foundByRounds 4 = .ok (.astore_n 2, 1) := dk_77 (dk_at dksX2_foundByRounds_0 4 rfl rfl)
theorem dX2_foundByRounds_5 : decode cX2_foundByRounds 5 = .ok (.new 23, 3) := dk_187 0 23 (dk_at dksX2_foundByRounds_0 5 rfl rfl)
theorem dX2_foundByRounds_8 : decode cX2_foundByRounds 8 = .ok (.dup, 1) := dk_89 (dk_at dksX2_foundByRounds_0 8 rfl rfl)
theorem dX2_foundByRounds_9 : decode cX2_foundByRounds 9 = .ok (.invokespecial 25, 3) := dk_183 0 25 (dk_at dksX2_foundByRounds_0 9 rfl rfl)
theorem dX2_foundByRounds_12 : decode cX2_foundByRounds 12 = .ok (.astore_n 3, 1) := dk_78 (dk_at dksX2_foundByRounds_0 12 rfl rfl)
theorem dX2_foundByRounds_13 : decode cX2_foundByRounds 13 = .ok (.aload_n 0, 1) := dk_42 (dk_at dksX2_foundByRounds_0 13 rfl rfl)
theorem dX2_foundByRounds_14 : decode cX2_foundByRounds 14 = .ok (.aload_n 2, 1) := dk_44 (dk_at dksX2_foundByRounds_0 14 rfl rfl)
theorem dX2_foundByRounds_15 : decode cX2_foundByRounds 15 = .ok (.aload_n 3, 1) := dk_45 (dk_at dksX2_foundByRounds_0 15 rfl rfl)
theorem dX2_foundByRounds_16 : decode cX2_foundByRounds 16 = .ok (.invokevirtual 131, 3) := dk_182 0 131 (dk_at dksX2_foundByRounds_0 16 rfl rfl)
theorem dX2_foundByRounds_19 : decode cX2_foundByRounds 19 = .ok (.astore 4, 2) := dk_58 4 (dk_at dksX2_foundByRounds_0 19 rfl rfl)
theorem dX2_foundByRounds_21 : decode cX2_foundByRounds 21 = .ok (.iconst 0, 1) := dk_3 (dk_at dksX2_foundByRounds_0 21 rfl rfl)
theorem dX2_foundByRounds_22 : decode cX2_foundByRounds 22 = .ok (.istore 5, 2) := dk_54 5 (dk_at dksX2_foundByRounds_0 22 rfl rfl)
theorem dX2_foundByRounds_24 : decode cX2_foundByRounds 24 = .ok (.iload 5, 2) := dk_21 5 (dk_at dksX2_foundByRounds_1 0 rfl rfl)
theorem dX2_foundByRounds_26 : decode cX2_foundByRounds 26 = .ok (.bipush 8, 2) := dk_16 8 (dk_at dksX2_foundByRounds_1 2 rfl rfl)
theorem dX2_foundByRounds_28 : decode cX2_foundByRounds 28 = .ok (.if_icmp .ge 90, 3) := dk_162 0 90 (dk_at dksX2_foundByRounds_1 4 rfl rfl)
theorem dX2_foundByRounds_31 : decode cX2_foundByRounds 31 = .ok (.iconst 1, 1) := dk_4 (dk_at dksX2_foundByRounds_1 7 rfl rfl)
theorem dX2_foundByRounds_32 : decode cX2_foundByRounds 32 = .ok (.istore 6, 2) := dk_54 6 (dk_at dksX2_foundByRounds_1 8 rfl rfl)
theorem dX2_foundByRounds_34 : decode cX2_foundByRounds 34 = .ok (.iload 6, 2) := dk_21 6 (dk_at dksX2_foundByRounds_1 10 rfl rfl)
theorem dX2_foundByRounds_36 : decode cX2_foundByRounds 36 = .ok (.ifCond .eq 76, 3) := dk_153 0 76 (dk_at dksX2_foundByRounds_1 12 rfl rfl)
theorem dX2_foundByRounds_39 : decode cX2_foundByRounds 39 = .ok (.aload_n 3, 1) := dk_45 (dk_at dksX2_foundByRounds_1 15 rfl rfl)
theorem dX2_foundByRounds_40 : decode cX2_foundByRounds 40 = .ok (.iconst 0, 1) := dk_3 (dk_at dksX2_foundByRounds_1 16 rfl rfl)
theorem dX2_foundByRounds_41 : decode cX2_foundByRounds 41 = .ok (.putfield 135, 3) := dk_181 0 135 (dk_at dksX2_foundByRounds_1 17 rfl rfl)
theorem dX2_foundByRounds_44 : decode cX2_foundByRounds 44 = .ok (.iconst 0, 1) := dk_3 (dk_at dksX2_foundByRounds_1 20 rfl rfl)
theorem dX2_foundByRounds_45 : decode cX2_foundByRounds 45 = .ok (.istore 7, 2) := dk_54 7 (dk_at dksX2_foundByRounds_1 21 rfl rfl)
theorem dX2_foundByRounds_47 : decode cX2_foundByRounds 47 = .ok (.iload 7, 2) := dk_21 7 (dk_at dksX2_foundByRounds_2 0 rfl rfl)
theorem dX2_foundByRounds_49 : decode cX2_foundByRounds 49 = .ok (.aload 4, 2) := dk_25 4 (dk_at dksX2_foundByRounds_2 2 rfl rfl)
theorem dX2_foundByRounds_51 : decode cX2_foundByRounds 51 = .ok (.invokevirtual 65, 3) := dk_182 0 65 (dk_at dksX2_foundByRounds_2 4 rfl rfl)
theorem dX2_foundByRounds_54 : decode cX2_foundByRounds 54 = .ok (.if_icmp .ge 47, 3) := dk_162 0 47 (dk_at dksX2_foundByRounds_2 7 rfl rfl)
theorem dX2_foundByRounds_57 : decode cX2_foundByRounds 57 = .ok (.aload_n 1, 1) := dk_43 (dk_at dksX2_foundByRounds_2 10 rfl rfl)
theorem dX2_foundByRounds_58 : decode cX2_foundByRounds 58 = .ok (.aload_n 0, 1) := dk_42 (dk_at dksX2_foundByRounds_2 11 rfl rfl)
theorem dX2_foundByRounds_59 : decode cX2_foundByRounds 59 = .ok (.getfield 34, 3) := dk_180 0 34 (dk_at dksX2_foundByRounds_2 12 rfl rfl)
theorem dX2_foundByRounds_62 : decode cX2_foundByRounds 62 = .ok (.iload 7, 2) := dk_21 7 (dk_at dksX2_foundByRounds_2 15 rfl rfl)
theorem dX2_foundByRounds_64 : decode cX2_foundByRounds 64 = .ok (.invokevirtual 69, 3) := dk_182 0 69 (dk_at dksX2_foundByRounds_2 17 rfl rfl)
theorem dX2_foundByRounds_67 : decode cX2_foundByRounds 67 = .ok (.checkcast 92, 3) := dk_192 0 92 (dk_at dksX2_foundByRounds_2 20 rfl rfl)
theorem dX2_foundByRounds_70 : decode cX2_foundByRounds 70 = .ok (.getfield 108, 3) := dk_180 0 108 (dk_at dksX2_foundByRounds_3 0 rfl rfl)
theorem dX2_foundByRounds_73 : decode cX2_foundByRounds 73 = .ok (.getfield 105, 3) := dk_180 0 105 (dk_at dksX2_foundByRounds_3 3 rfl rfl)
theorem dX2_foundByRounds_76 : decode cX2_foundByRounds 76 = .ok (.iaload, 1) := dk_46 (dk_at dksX2_foundByRounds_3 6 rfl rfl)
theorem dX2_foundByRounds_77 : decode cX2_foundByRounds 77 = .ok (.iload 5, 2) := dk_21 5 (dk_at dksX2_foundByRounds_3 7 rfl rfl)
theorem dX2_foundByRounds_79 : decode cX2_foundByRounds 79 = .ok (.if_icmp .ne 16, 3) := dk_160 0 16 (dk_at dksX2_foundByRounds_3 9 rfl rfl)
theorem dX2_foundByRounds_82 : decode cX2_foundByRounds 82 = .ok (.aload 4, 2) := dk_25 4 (dk_at dksX2_foundByRounds_3 12 rfl rfl)
theorem dX2_foundByRounds_84 : decode cX2_foundByRounds 84 = .ok (.iload 7, 2) := dk_21 7 (dk_at dksX2_foundByRounds_3 14 rfl rfl)
theorem dX2_foundByRounds_86 : decode cX2_foundByRounds 86 = .ok (.invokevirtual 69, 3) := dk_182 0 69 (dk_at dksX2_foundByRounds_3 16 rfl rfl)
theorem dX2_foundByRounds_89 : decode cX2_foundByRounds 89 = .ok (.checkcast 122, 3) := dk_192 0 122 (dk_at dksX2_foundByRounds_3 19 rfl rfl)
theorem dX2_foundByRounds_92 : decode cX2_foundByRounds 92 = .ok (.invokevirtual 138, 3) := dk_182 0 138 (dk_at dksX2_foundByRounds_4 0 rfl rfl)
theorem dX2_foundByRounds_95 : decode cX2_foundByRounds 95 = .ok (.iinc 7 1, 3) := dk_132 7 1 (dk_at dksX2_foundByRounds_4 3 rfl rfl)
theorem dX2_foundByRounds_98 : decode cX2_foundByRounds 98 = .ok (.goto (-51), 3) := dk_167 255 205 (dk_at dksX2_foundByRounds_4 6 rfl rfl)
theorem dX2_foundByRounds_101 : decode cX2_foundByRounds 101 = .ok (.aload_n 3, 1) := dk_45 (dk_at dksX2_foundByRounds_4 9 rfl rfl)
theorem dX2_foundByRounds_102 : decode cX2_foundByRounds 102 = .ok (.aload_n 2, 1) := dk_44 (dk_at dksX2_foundByRounds_4 10 rfl rfl)
theorem dX2_foundByRounds_103 : decode cX2_foundByRounds 103 = .ok (.iconst 0, 1) := dk_3 (dk_at dksX2_foundByRounds_4 11 rfl rfl)
theorem dX2_foundByRounds_104 : decode cX2_foundByRounds 104 = .ok (.invokestatic 144, 3) := dk_184 0 144 (dk_at dksX2_foundByRounds_4 12 rfl rfl)
theorem dX2_foundByRounds_107 : decode cX2_foundByRounds 107 = .ok (.istore 6, 2) := dk_54 6 (dk_at dksX2_foundByRounds_4 15 rfl rfl)
theorem dX2_foundByRounds_109 : decode cX2_foundByRounds 109 = .ok (.goto (-75), 3) := dk_167 255 181 (dk_at dksX2_foundByRounds_4 17 rfl rfl)
theorem dX2_foundByRounds_112 : decode cX2_foundByRounds 112 = .ok (.iinc 5 1, 3) := dk_132 5 1 (dk_at dksX2_foundByRounds_4 20 rfl rfl)
theorem dX2_foundByRounds_115 : decode cX2_foundByRounds 115 = .ok (.goto (-91), 3) := dk_167 255 165 (dk_at dksX2_foundByRounds_5 0 rfl rfl)
theorem dX2_foundByRounds_118 : decode cX2_foundByRounds 118 = .ok (.aload_n 2, 1) := dk_44 (dk_at dksX2_foundByRounds_5 3 rfl rfl)
theorem dX2_foundByRounds_119 : decode cX2_foundByRounds 119 = .ok (.areturn, 1) := dk_176 (dk_at dksX2_foundByRounds_5 4 rfl rfl)

abbrev cX3_init : ByteArray := prog_7_method_1_code
def yX3_init : MethodName := ⟨RX3, "<init>", "()V"⟩
def dkwX3_init_0 : List UInt8 := [42, 183, 0, 3, 42, 16, 60, 188, 10, 181, 0, 9, 42, 16, 60, 188, 10, 181, 0, 15, 177]
abbrev dktX3_init_0 : List UInt8 := dkwX3_init_0 ++ []
theorem dksX3_init_0 : cX3_init.data.toList.drop 0 = dktX3_init_0 := by decide +kernel
theorem dX3_init_0 : decode cX3_init 0 = .ok (.aload_n 0, 1) := dk_42 (dk_at dksX3_init_0 0 rfl rfl)
theorem dX3_init_1 : decode cX3_init 1 = .ok (.invokespecial 3, 3) := dk_183 0 3 (dk_at dksX3_init_0 1 rfl rfl)
theorem dX3_init_4 : decode cX3_init 4 = .ok (.aload_n 0, 1) := dk_42 (dk_at dksX3_init_0 4 rfl rfl)
theorem dX3_init_5 : decode cX3_init 5 = .ok (.bipush 60, 2) := dk_16 60 (dk_at dksX3_init_0 5 rfl rfl)
theorem dX3_init_7 : decode cX3_init 7 = .ok (.newarray .int, 2) := dk_188_10 (dk_at dksX3_init_0 7 rfl rfl)
theorem dX3_init_9 : decode cX3_init 9 = .ok (.putfield 9, 3) := dk_181 0 9 (dk_at dksX3_init_0 9 rfl rfl)
theorem dX3_init_12 : decode cX3_init 12 = .ok (.aload_n 0, 1) := dk_42 (dk_at dksX3_init_0 12 rfl rfl)
theorem dX3_init_13 : decode cX3_init 13 = .ok (.bipush 60, 2) := dk_16 60 (dk_at dksX3_init_0 13 rfl rfl)
theorem dX3_init_15 : decode cX3_init 15 = .ok (.newarray .int, 2) := dk_188_10 (dk_at dksX3_init_0 15 rfl rfl)
theorem dX3_init_17 : decode cX3_init 17 = .ok (.putfield 15, 3) := dk_181 0 15 (dk_at dksX3_init_0 17 rfl rfl)
theorem dX3_init_20 : decode cX3_init 20 = .ok (.return_, 1) := dk_177 (dk_at dksX3_init_0 20 rfl rfl)
abbrev cX3_indexOf : ByteArray := prog_7_method_4_code
def yX3_indexOf : MethodName := ⟨RX3, "indexOf", "(I)I"⟩
def dkwX3_indexOf_0 : List UInt8 := [42, 27, 182, 0, 26, 153, 0, 11, 42, 27, 182, 0, 22, 167, 0, 4, 2, 172]
abbrev dktX3_indexOf_0 : List UInt8 := dkwX3_indexOf_0 ++ []
theorem dksX3_indexOf_0 : cX3_indexOf.data.toList.drop 0 = dktX3_indexOf_0 := by decide +kernel
theorem dX3_indexOf_0 : decode cX3_indexOf 0 = .ok (.aload_n 0, 1) := dk_42 (dk_at dksX3_indexOf_0 0 rfl rfl)
theorem dX3_indexOf_1 : decode cX3_indexOf 1 = .ok (.iload_n 1, 1) := dk_27 (dk_at dksX3_indexOf_0 1 rfl rfl)
theorem dX3_indexOf_2 : decode cX3_indexOf 2 = .ok (.invokevirtual 26, 3) := dk_182 0 26 (dk_at dksX3_indexOf_0 2 rfl rfl)
theorem dX3_indexOf_5 : decode cX3_indexOf 5 = .ok (.ifCond .eq 11, 3) := dk_153 0 11 (dk_at dksX3_indexOf_0 5 rfl rfl)
theorem dX3_indexOf_8 : decode cX3_indexOf 8 = .ok (.aload_n 0, 1) := dk_42 (dk_at dksX3_indexOf_0 8 rfl rfl)
theorem dX3_indexOf_9 : decode cX3_indexOf 9 = .ok (.iload_n 1, 1) := dk_27 (dk_at dksX3_indexOf_0 9 rfl rfl)
theorem dX3_indexOf_10 : decode cX3_indexOf 10 = .ok (.invokevirtual 22, 3) := dk_182 0 22 (dk_at dksX3_indexOf_0 10 rfl rfl)
theorem dX3_indexOf_13 : decode cX3_indexOf 13 = .ok (.goto 4, 3) := dk_167 0 4 (dk_at dksX3_indexOf_0 13 rfl rfl)
theorem dX3_indexOf_16 : decode cX3_indexOf 16 = .ok (.iconst (-1), 1) := dk_2 (dk_at dksX3_indexOf_0 16 rfl rfl)
theorem dX3_indexOf_17 : decode cX3_indexOf 17 = .ok (.ireturn, 1) := dk_172 (dk_at dksX3_indexOf_0 17 rfl rfl)
abbrev cX3_has : ByteArray := prog_7_method_3_code
def yX3_has : MethodName := ⟨RX3, "has", "(I)Z"⟩
def dkwX3_has_1 : List UInt8 := [4, 167, 0, 4, 3, 172]
abbrev dktX3_has_1 : List UInt8 := dkwX3_has_1 ++ []
def dkwX3_has_0 : List UInt8 := [42, 27, 182, 0, 22, 61, 28, 42, 180, 0, 18, 162, 0, 17, 42, 180, 0, 9, 28, 46, 27, 160, 0, 7]
abbrev dktX3_has_0 : List UInt8 := dkwX3_has_0 ++ dktX3_has_1
theorem dksX3_has_0 : cX3_has.data.toList.drop 0 = dktX3_has_0 := by decide +kernel
theorem dksX3_has_1 : cX3_has.data.toList.drop 24 = dktX3_has_1 := dk_seg dksX3_has_0 24 rfl rfl
theorem dX3_has_0 : decode cX3_has 0 = .ok (.aload_n 0, 1) := dk_42 (dk_at dksX3_has_0 0 rfl rfl)
theorem dX3_has_1 : decode cX3_has 1 = .ok (.iload_n 1, 1) := dk_27 (dk_at dksX3_has_0 1 rfl rfl)
theorem dX3_has_2 : decode cX3_has 2 = .ok (.invokevirtual 22, 3) := dk_182 0 22 (dk_at dksX3_has_0 2 rfl rfl)
theorem dX3_has_5 : decode cX3_has 5 = .ok (.istore_n 2, 1) := dk_61 (dk_at dksX3_has_0 5 rfl rfl)
theorem dX3_has_6 : decode cX3_has 6 = .ok (.iload_n 2, 1) := dk_28 (dk_at dksX3_has_0 6 rfl rfl)
theorem dX3_has_7 : decode cX3_has 7 = .ok (.aload_n 0, 1) := dk_42 (dk_at dksX3_has_0 7 rfl rfl)
theorem dX3_has_8 : decode cX3_has 8 = .ok (.getfield 18, 3) := dk_180 0 18 (dk_at dksX3_has_0 8 rfl rfl)
theorem dX3_has_11 : decode cX3_has 11 = .ok (.if_icmp .ge 17, 3) := dk_162 0 17 (dk_at dksX3_has_0 11 rfl rfl)
theorem dX3_has_14 : decode cX3_has 14 = .ok (.aload_n 0, 1) := dk_42 (dk_at dksX3_has_0 14 rfl rfl)
theorem dX3_has_15 : decode cX3_has 15 = .ok (.getfield 9, 3) := dk_180 0 9 (dk_at dksX3_has_0 15 rfl rfl)
theorem dX3_has_18 : decode cX3_has 18 = .ok (.iload_n 2, 1) := dk_28 (dk_at dksX3_has_0 18 rfl rfl)
theorem dX3_has_19 : decode cX3_has 19 = .ok (.iaload, 1) := dk_46 (dk_at dksX3_has_0 19 rfl rfl)
theorem dX3_has_20 : decode cX3_has 20 = .ok (.iload_n 1, 1) := dk_27 (dk_at dksX3_has_0 20 rfl rfl)
theorem dX3_has_21 : decode cX3_has 21 = .ok (.if_icmp .ne 7, 3) := dk_160 0 7 (dk_at dksX3_has_0 21 rfl rfl)
theorem dX3_has_24 : decode cX3_has 24 = .ok (.iconst 1, 1) := dk_4 (dk_at dksX3_has_1 0 rfl rfl)
theorem dX3_has_25 : decode cX3_has 25 = .ok (.goto 4, 3) := dk_167 0 4 (dk_at dksX3_has_1 1 rfl rfl)
theorem dX3_has_28 : decode cX3_has 28 = .ok (.iconst 0, 1) := dk_3 (dk_at dksX3_has_1 4 rfl rfl)
theorem dX3_has_29 : decode cX3_has 29 = .ok (.ireturn, 1) := dk_172 (dk_at dksX3_has_1 5 rfl rfl)
abbrev cX3_placeOf : ByteArray := prog_7_method_2_code
def yX3_placeOf : MethodName := ⟨RX3, "placeOf", "(I)I"⟩
def dkwX3_placeOf_1 : List UInt8 := [21, 4, 46, 27, 162, 0, 11, 21, 4, 4, 96, 61, 167, 0, 6, 21, 4, 62, 167, 255, 222, 28, 172]
abbrev dktX3_placeOf_1 : List UInt8 := dkwX3_placeOf_1 ++ []
def dkwX3_placeOf_0 : List UInt8 := [3, 61, 42, 180, 0, 18, 62, 28, 29, 162, 0, 35, 28, 29, 96, 5, 108, 54, 4, 42, 180, 0, 9]
abbrev dktX3_placeOf_0 : List UInt8 := dkwX3_placeOf_0 ++ dktX3_placeOf_1
theorem dksX3_placeOf_0 : cX3_placeOf.data.toList.drop 0 = dktX3_placeOf_0 := by decide +kernel
theorem dksX3_placeOf_1 : cX3_placeOf.data.toList.drop 23 = dktX3_placeOf_1 := dk_seg dksX3_placeOf_0 23 rfl rfl
theorem dX3_placeOf_0 : decode cX3_placeOf 0 = .ok (.iconst 0, 1) := dk_3 (dk_at dksX3_placeOf_0 0 rfl rfl)
theorem dX3_placeOf_1 : decode cX3_placeOf 1 = .ok (.istore_n 2, 1) := dk_61 (dk_at dksX3_placeOf_0 1 rfl rfl)
theorem dX3_placeOf_2 : decode cX3_placeOf 2 = .ok (.aload_n 0, 1) := dk_42 (dk_at dksX3_placeOf_0 2 rfl rfl)
theorem dX3_placeOf_3 : decode cX3_placeOf 3 = .ok (.getfield 18, 3) := dk_180 0 18 (dk_at dksX3_placeOf_0 3 rfl rfl)
theorem dX3_placeOf_6 : decode cX3_placeOf 6 = .ok (.istore_n 3, 1) := dk_62 (dk_at dksX3_placeOf_0 6 rfl rfl)
theorem dX3_placeOf_7 : decode cX3_placeOf 7 = .ok (.iload_n 2, 1) := dk_28 (dk_at dksX3_placeOf_0 7 rfl rfl)
theorem dX3_placeOf_8 : decode cX3_placeOf 8 = .ok (.iload_n 3, 1) := dk_29 (dk_at dksX3_placeOf_0 8 rfl rfl)
theorem dX3_placeOf_9 : decode cX3_placeOf 9 = .ok (.if_icmp .ge 35, 3) := dk_162 0 35 (dk_at dksX3_placeOf_0 9 rfl rfl)
theorem dX3_placeOf_12 : decode cX3_placeOf 12 = .ok (.iload_n 2, 1) := dk_28 (dk_at dksX3_placeOf_0 12 rfl rfl)
theorem dX3_placeOf_13 : decode cX3_placeOf 13 = .ok (.iload_n 3, 1) := dk_29 (dk_at dksX3_placeOf_0 13 rfl rfl)
theorem dX3_placeOf_14 : decode cX3_placeOf 14 = .ok (.iadd, 1) := dk_96 (dk_at dksX3_placeOf_0 14 rfl rfl)
theorem dX3_placeOf_15 : decode cX3_placeOf 15 = .ok (.iconst 2, 1) := dk_5 (dk_at dksX3_placeOf_0 15 rfl rfl)
theorem dX3_placeOf_16 : decode cX3_placeOf 16 = .ok (.idiv, 1) := dk_108 (dk_at dksX3_placeOf_0 16 rfl rfl)
theorem dX3_placeOf_17 : decode cX3_placeOf 17 = .ok (.istore 4, 2) := dk_54 4 (dk_at dksX3_placeOf_0 17 rfl rfl)
theorem dX3_placeOf_19 : decode cX3_placeOf 19 = .ok (.aload_n 0, 1) := dk_42 (dk_at dksX3_placeOf_0 19 rfl rfl)
theorem dX3_placeOf_20 : decode cX3_placeOf 20 = .ok (.getfield 9, 3) := dk_180 0 9 (dk_at dksX3_placeOf_0 20 rfl rfl)
theorem dX3_placeOf_23 : decode cX3_placeOf 23 = .ok (.iload 4, 2) := dk_21 4 (dk_at dksX3_placeOf_1 0 rfl rfl)
theorem dX3_placeOf_25 : decode cX3_placeOf 25 = .ok (.iaload, 1) := dk_46 (dk_at dksX3_placeOf_1 2 rfl rfl)
theorem dX3_placeOf_26 : decode cX3_placeOf 26 = .ok (.iload_n 1, 1) := dk_27 (dk_at dksX3_placeOf_1 3 rfl rfl)
theorem dX3_placeOf_27 : decode cX3_placeOf 27 = .ok (.if_icmp .ge 11, 3) := dk_162 0 11 (dk_at dksX3_placeOf_1 4 rfl rfl)
theorem dX3_placeOf_30 : decode cX3_placeOf 30 = .ok (.iload 4, 2) := dk_21 4 (dk_at dksX3_placeOf_1 7 rfl rfl)
theorem dX3_placeOf_32 : decode cX3_placeOf 32 = .ok (.iconst 1, 1) := dk_4 (dk_at dksX3_placeOf_1 9 rfl rfl)
theorem dX3_placeOf_33 : decode cX3_placeOf 33 = .ok (.iadd, 1) := dk_96 (dk_at dksX3_placeOf_1 10 rfl rfl)
theorem dX3_placeOf_34 : decode cX3_placeOf 34 = .ok (.istore_n 2, 1) := dk_61 (dk_at dksX3_placeOf_1 11 rfl rfl)
theorem dX3_placeOf_35 : decode cX3_placeOf 35 = .ok (.goto 6, 3) := dk_167 0 6 (dk_at dksX3_placeOf_1 12 rfl rfl)
theorem dX3_placeOf_38 : decode cX3_placeOf 38 = .ok (.iload 4, 2) := dk_21 4 (dk_at dksX3_placeOf_1 15 rfl rfl)
theorem dX3_placeOf_40 : decode cX3_placeOf 40 = .ok (.istore_n 3, 1) := dk_62 (dk_at dksX3_placeOf_1 17 rfl rfl)
theorem dX3_placeOf_41 : decode cX3_placeOf 41 = .ok (.goto (-34), 3) := dk_167 255 222 (dk_at dksX3_placeOf_1 18 rfl rfl)
theorem dX3_placeOf_44 : decode cX3_placeOf 44 = .ok (.iload_n 2, 1) := dk_28 (dk_at dksX3_placeOf_1 21 rfl rfl)
theorem dX3_placeOf_45 : decode cX3_placeOf 45 = .ok (.ireturn, 1) := dk_172 (dk_at dksX3_placeOf_1 22 rfl rfl)
abbrev cX3_add : ByteArray := prog_7_method_5_code
def yX3_add : MethodName := ⟨RX3, "add", "(II)V"⟩
def dkwX3_add_4 : List UInt8 := [180, 0, 15, 29, 28, 79, 42, 89, 180, 0, 18, 4, 96, 181, 0, 18, 177]
abbrev dktX3_add_4 : List UInt8 := dkwX3_add_4 ++ []
def dkwX3_add_3 : List UInt8 := [180, 0, 15, 21, 4, 4, 100, 46, 79, 132, 4, 255, 167, 255, 215, 42, 180, 0, 9, 29, 27, 79, 42]
abbrev dktX3_add_3 : List UInt8 := dkwX3_add_3 ++ dktX3_add_4
def dkwX3_add_2 : List UInt8 := [180, 0, 9, 21, 4, 42, 180, 0, 9, 21, 4, 4, 100, 46, 79, 42, 180, 0, 15, 21, 4, 42]
abbrev dktX3_add_2 : List UInt8 := dkwX3_add_2 ++ dktX3_add_3
def dkwX3_add_1 : List UInt8 := [183, 0, 32, 191, 42, 27, 182, 0, 22, 62, 42, 180, 0, 18, 54, 4, 21, 4, 29, 164, 0, 41, 42]
abbrev dktX3_add_1 : List UInt8 := dkwX3_add_1 ++ dktX3_add_2
def dkwX3_add_0 : List UInt8 := [42, 27, 182, 0, 26, 153, 0, 4, 177, 42, 180, 0, 18, 16, 60, 160, 0, 11, 187, 0, 30, 89]
abbrev dktX3_add_0 : List UInt8 := dkwX3_add_0 ++ dktX3_add_1
theorem dksX3_add_0 : cX3_add.data.toList.drop 0 = dktX3_add_0 := by decide +kernel
theorem dksX3_add_1 : cX3_add.data.toList.drop 22 = dktX3_add_1 := dk_seg dksX3_add_0 22 rfl rfl
theorem dksX3_add_2 : cX3_add.data.toList.drop 45 = dktX3_add_2 := dk_seg dksX3_add_1 23 rfl rfl
theorem dksX3_add_3 : cX3_add.data.toList.drop 67 = dktX3_add_3 := dk_seg dksX3_add_2 22 rfl rfl
theorem dksX3_add_4 : cX3_add.data.toList.drop 90 = dktX3_add_4 := dk_seg dksX3_add_3 23 rfl rfl
theorem dX3_add_0 : decode cX3_add 0 = .ok (.aload_n 0, 1) := dk_42 (dk_at dksX3_add_0 0 rfl rfl)
theorem dX3_add_1 : decode cX3_add 1 = .ok (.iload_n 1, 1) := dk_27 (dk_at dksX3_add_0 1 rfl rfl)
theorem dX3_add_2 : decode cX3_add 2 = .ok (.invokevirtual 26, 3) := dk_182 0 26 (dk_at dksX3_add_0 2 rfl rfl)
theorem dX3_add_5 : decode cX3_add 5 = .ok (.ifCond .eq 4, 3) := dk_153 0 4 (dk_at dksX3_add_0 5 rfl rfl)
theorem dX3_add_8 : decode cX3_add 8 = .ok (.return_, 1) := dk_177 (dk_at dksX3_add_0 8 rfl rfl)
theorem dX3_add_9 : decode cX3_add 9 = .ok (.aload_n 0, 1) := dk_42 (dk_at dksX3_add_0 9 rfl rfl)
theorem dX3_add_10 : decode cX3_add 10 = .ok (.getfield 18, 3) := dk_180 0 18 (dk_at dksX3_add_0 10 rfl rfl)
theorem dX3_add_13 : decode cX3_add 13 = .ok (.bipush 60, 2) := dk_16 60 (dk_at dksX3_add_0 13 rfl rfl)
theorem dX3_add_15 : decode cX3_add 15 = .ok (.if_icmp .ne 11, 3) := dk_160 0 11 (dk_at dksX3_add_0 15 rfl rfl)
theorem dX3_add_18 : decode cX3_add 18 = .ok (.new 30, 3) := dk_187 0 30 (dk_at dksX3_add_0 18 rfl rfl)
theorem dX3_add_21 : decode cX3_add 21 = .ok (.dup, 1) := dk_89 (dk_at dksX3_add_0 21 rfl rfl)
theorem dX3_add_22 : decode cX3_add 22 = .ok (.invokespecial 32, 3) := dk_183 0 32 (dk_at dksX3_add_1 0 rfl rfl)
theorem dX3_add_25 : decode cX3_add 25 = .ok (.athrow, 1) := dk_191 (dk_at dksX3_add_1 3 rfl rfl)
theorem dX3_add_26 : decode cX3_add 26 = .ok (.aload_n 0, 1) := dk_42 (dk_at dksX3_add_1 4 rfl rfl)
theorem dX3_add_27 : decode cX3_add 27 = .ok (.iload_n 1, 1) := dk_27 (dk_at dksX3_add_1 5 rfl rfl)
theorem dX3_add_28 : decode cX3_add 28 = .ok (.invokevirtual 22, 3) := dk_182 0 22 (dk_at dksX3_add_1 6 rfl rfl)
theorem dX3_add_31 : decode cX3_add 31 = .ok (.istore_n 3, 1) := dk_62 (dk_at dksX3_add_1 9 rfl rfl)
theorem dX3_add_32 : decode cX3_add 32 = .ok (.aload_n 0, 1) := dk_42 (dk_at dksX3_add_1 10 rfl rfl)
theorem dX3_add_33 : decode cX3_add 33 = .ok (.getfield 18, 3) := dk_180 0 18 (dk_at dksX3_add_1 11 rfl rfl)
theorem dX3_add_36 : decode cX3_add 36 = .ok (.istore 4, 2) := dk_54 4 (dk_at dksX3_add_1 14 rfl rfl)
theorem dX3_add_38 : decode cX3_add 38 = .ok (.iload 4, 2) := dk_21 4 (dk_at dksX3_add_1 16 rfl rfl)
theorem dX3_add_40 : decode cX3_add 40 = .ok (.iload_n 3, 1) := dk_29 (dk_at dksX3_add_1 18 rfl rfl)
theorem dX3_add_41 : decode cX3_add 41 = .ok (.if_icmp .le 41, 3) := dk_164 0 41 (dk_at dksX3_add_1 19 rfl rfl)
theorem dX3_add_44 : decode cX3_add 44 = .ok (.aload_n 0, 1) := dk_42 (dk_at dksX3_add_1 22 rfl rfl)
theorem dX3_add_45 : decode cX3_add 45 = .ok (.getfield 9, 3) := dk_180 0 9 (dk_at dksX3_add_2 0 rfl rfl)
theorem dX3_add_48 : decode cX3_add 48 = .ok (.iload 4, 2) := dk_21 4 (dk_at dksX3_add_2 3 rfl rfl)
theorem dX3_add_50 : decode cX3_add 50 = .ok (.aload_n 0, 1) := dk_42 (dk_at dksX3_add_2 5 rfl rfl)
theorem dX3_add_51 : decode cX3_add 51 = .ok (.getfield 9, 3) := dk_180 0 9 (dk_at dksX3_add_2 6 rfl rfl)
theorem dX3_add_54 : decode cX3_add 54 = .ok (.iload 4, 2) := dk_21 4 (dk_at dksX3_add_2 9 rfl rfl)
theorem dX3_add_56 : decode cX3_add 56 = .ok (.iconst 1, 1) := dk_4 (dk_at dksX3_add_2 11 rfl rfl)
theorem dX3_add_57 : decode cX3_add 57 = .ok (.isub, 1) := dk_100 (dk_at dksX3_add_2 12 rfl rfl)
theorem dX3_add_58 : decode cX3_add 58 = .ok (.iaload, 1) := dk_46 (dk_at dksX3_add_2 13 rfl rfl)
theorem dX3_add_59 : decode cX3_add 59 = .ok (.iastore, 1) := dk_79 (dk_at dksX3_add_2 14 rfl rfl)
theorem dX3_add_60 : decode cX3_add 60 = .ok (.aload_n 0, 1) := dk_42 (dk_at dksX3_add_2 15 rfl rfl)
theorem dX3_add_61 : decode cX3_add 61 = .ok (.getfield 15, 3) := dk_180 0 15 (dk_at dksX3_add_2 16 rfl rfl)
theorem dX3_add_64 : decode cX3_add 64 = .ok (.iload 4, 2) := dk_21 4 (dk_at dksX3_add_2 19 rfl rfl)
theorem dX3_add_66 : decode cX3_add 66 = .ok (.aload_n 0, 1) := dk_42 (dk_at dksX3_add_2 21 rfl rfl)
theorem dX3_add_67 : decode cX3_add 67 = .ok (.getfield 15, 3) := dk_180 0 15 (dk_at dksX3_add_3 0 rfl rfl)
theorem dX3_add_70 : decode cX3_add 70 = .ok (.iload 4, 2) := dk_21 4 (dk_at dksX3_add_3 3 rfl rfl)
theorem dX3_add_72 : decode cX3_add 72 = .ok (.iconst 1, 1) := dk_4 (dk_at dksX3_add_3 5 rfl rfl)
theorem dX3_add_73 : decode cX3_add 73 = .ok (.isub, 1) := dk_100 (dk_at dksX3_add_3 6 rfl rfl)
theorem dX3_add_74 : decode cX3_add 74 = .ok (.iaload, 1) := dk_46 (dk_at dksX3_add_3 7 rfl rfl)
theorem dX3_add_75 : decode cX3_add 75 = .ok (.iastore, 1) := dk_79 (dk_at dksX3_add_3 8 rfl rfl)
theorem dX3_add_76 : decode cX3_add 76 = .ok (.iinc 4 (-1), 3) := dk_132 4 255 (dk_at dksX3_add_3 9 rfl rfl)
theorem dX3_add_79 : decode cX3_add 79 = .ok (.goto (-41), 3) := dk_167 255 215 (dk_at dksX3_add_3 12 rfl rfl)
theorem dX3_add_82 : decode cX3_add 82 = .ok (.aload_n 0, 1) := dk_42 (dk_at dksX3_add_3 15 rfl rfl)
theorem dX3_add_83 : decode cX3_add 83 = .ok (.getfield 9, 3) := dk_180 0 9 (dk_at dksX3_add_3 16 rfl rfl)
theorem dX3_add_86 : decode cX3_add 86 = .ok (.iload_n 3, 1) := dk_29 (dk_at dksX3_add_3 19 rfl rfl)
theorem dX3_add_87 : decode cX3_add 87 = .ok (.iload_n 1, 1) := dk_27 (dk_at dksX3_add_3 20 rfl rfl)
theorem dX3_add_88 : decode cX3_add 88 = .ok (.iastore, 1) := dk_79 (dk_at dksX3_add_3 21 rfl rfl)
theorem dX3_add_89 : decode cX3_add 89 = .ok (.aload_n 0, 1) := dk_42 (dk_at dksX3_add_3 22 rfl rfl)
theorem dX3_add_90 : decode cX3_add 90 = .ok (.getfield 15, 3) := dk_180 0 15 (dk_at dksX3_add_4 0 rfl rfl)
theorem dX3_add_93 : decode cX3_add 93 = .ok (.iload_n 3, 1) := dk_29 (dk_at dksX3_add_4 3 rfl rfl)
theorem dX3_add_94 : decode cX3_add 94 = .ok (.iload_n 2, 1) := dk_28 (dk_at dksX3_add_4 4 rfl rfl)
theorem dX3_add_95 : decode cX3_add 95 = .ok (.iastore, 1) := dk_79 (dk_at dksX3_add_4 5 rfl rfl)
theorem dX3_add_96 : decode cX3_add 96 = .ok (.aload_n 0, 1) := dk_42 (dk_at dksX3_add_4 6 rfl rfl)
theorem dX3_add_97 : decode cX3_add 97 = .ok (.dup, 1) := dk_89 (dk_at dksX3_add_4 7 rfl rfl)
theorem dX3_add_98 : decode cX3_add 98 = .ok (.getfield 18, 3) := dk_180 0 18 (dk_at dksX3_add_4 8 rfl rfl)
theorem dX3_add_101 : decode cX3_add 101 = .ok (.iconst 1, 1) := dk_4 (dk_at dksX3_add_4 11 rfl rfl)
theorem dX3_add_102 : decode cX3_add 102 = .ok (.iadd, 1) := dk_96 (dk_at dksX3_add_4 12 rfl rfl)
theorem dX3_add_103 : decode cX3_add 103 = .ok (.putfield 18, 3) := dk_181 0 18 (dk_at dksX3_add_4 13 rfl rfl)
theorem dX3_add_106 : decode cX3_add 106 = .ok (.return_, 1) := dk_177 (dk_at dksX3_add_4 16 rfl rfl)
abbrev cX3_countOf : ByteArray := prog_7_method_6_code
def yX3_countOf : MethodName := ⟨RX3, "countOf", "(I)I"⟩
def dkwX3_countOf_0 : List UInt8 := [42, 18, 33, 27, 4, 96, 104, 182, 0, 22, 42, 18, 33, 27, 104, 182, 0, 22, 100, 172]
abbrev dktX3_countOf_0 : List UInt8 := dkwX3_countOf_0 ++ []
theorem dksX3_countOf_0 : cX3_countOf.data.toList.drop 0 = dktX3_countOf_0 := by decide +kernel
theorem dX3_countOf_0 : decode cX3_countOf 0 = .ok (.aload_n 0, 1) := dk_42 (dk_at dksX3_countOf_0 0 rfl rfl)
theorem dX3_countOf_1 : decode cX3_countOf 1 = .ok (.ldc 33, 2) := dk_18 33 (dk_at dksX3_countOf_0 1 rfl rfl)
theorem dX3_countOf_3 : decode cX3_countOf 3 = .ok (.iload_n 1, 1) := dk_27 (dk_at dksX3_countOf_0 3 rfl rfl)
theorem dX3_countOf_4 : decode cX3_countOf 4 = .ok (.iconst 1, 1) := dk_4 (dk_at dksX3_countOf_0 4 rfl rfl)
theorem dX3_countOf_5 : decode cX3_countOf 5 = .ok (.iadd, 1) := dk_96 (dk_at dksX3_countOf_0 5 rfl rfl)
theorem dX3_countOf_6 : decode cX3_countOf 6 = .ok (.imul, 1) := dk_104 (dk_at dksX3_countOf_0 6 rfl rfl)
theorem dX3_countOf_7 : decode cX3_countOf 7 = .ok (.invokevirtual 22, 3) := dk_182 0 22 (dk_at dksX3_countOf_0 7 rfl rfl)
theorem dX3_countOf_10 : decode cX3_countOf 10 = .ok (.aload_n 0, 1) := dk_42 (dk_at dksX3_countOf_0 10 rfl rfl)
theorem dX3_countOf_11 : decode cX3_countOf 11 = .ok (.ldc 33, 2) := dk_18 33 (dk_at dksX3_countOf_0 11 rfl rfl)
theorem dX3_countOf_13 : decode cX3_countOf 13 = .ok (.iload_n 1, 1) := dk_27 (dk_at dksX3_countOf_0 13 rfl rfl)
theorem dX3_countOf_14 : decode cX3_countOf 14 = .ok (.imul, 1) := dk_104 (dk_at dksX3_countOf_0 14 rfl rfl)
theorem dX3_countOf_15 : decode cX3_countOf 15 = .ok (.invokevirtual 22, 3) := dk_182 0 22 (dk_at dksX3_countOf_0 15 rfl rfl)
theorem dX3_countOf_18 : decode cX3_countOf 18 = .ok (.isub, 1) := dk_100 (dk_at dksX3_countOf_0 18 rfl rfl)
theorem dX3_countOf_19 : decode cX3_countOf 19 = .ok (.ireturn, 1) := dk_172 (dk_at dksX3_countOf_0 19 rfl rfl)

abbrev cX5_init : ByteArray := prog_6_method_1_code
def yX5_init : MethodName := ⟨RX5, "<init>", "(Ljava/lang/String;)V"⟩
def dkwX5_init_0 : List UInt8 := [42, 43, 183, 0, 1, 177]
abbrev dktX5_init_0 : List UInt8 := dkwX5_init_0 ++ []
theorem dksX5_init_0 : cX5_init.data.toList.drop 0 = dktX5_init_0 := by decide +kernel
theorem dX5_init_0 : decode cX5_init 0 = .ok (.aload_n 0, 1) := dk_42 (dk_at dksX5_init_0 0 rfl rfl)
theorem dX5_init_1 : decode cX5_init 1 = .ok (.aload_n 1, 1) := dk_43 (dk_at dksX5_init_0 1 rfl rfl)
theorem dX5_init_2 : decode cX5_init 2 = .ok (.invokespecial 1, 3) := dk_183 0 1 (dk_at dksX5_init_0 2 rfl rfl)
theorem dX5_init_5 : decode cX5_init 5 = .ok (.return_, 1) := dk_177 (dk_at dksX5_init_0 5 rfl rfl)

abbrev cX6_init : ByteArray := prog_4_method_1_code
def yX6_init : MethodName := ⟨RX6, "<init>", "()V"⟩
theorem dX6_init_0 : decode cX6_init 0 = .ok (.aload_n 0, 1) := by decide +kernel
theorem dX6_init_1 : decode cX6_init 1 = .ok (.invokespecial 1, 3) := by decide +kernel
theorem dX6_init_4 : decode cX6_init 4 = .ok (.return_, 1) := by decide +kernel

abbrev cX7_init : ByteArray := prog_5_method_1_code
def yX7_init : MethodName := ⟨RX7, "<init>", "(LRulehearth$Clause;LRulehearth$Facts;LRulehearth$Facts;)V"⟩
def dkwX7_init_6 : List UInt8 := [180, 0, 13, 42, 180, 0, 44, 183, 0, 64, 167, 0, 4, 1, 181, 0, 71, 177]
abbrev dktX7_init_6 : List UInt8 := dkwX7_init_6 ++ []
def dkwX7_init_5 : List UInt8 := [21, 4, 153, 0, 33, 187, 0, 52, 89, 43, 180, 0, 54, 43, 180, 0, 54, 182, 0, 58, 44, 42]
abbrev dktX7_init_5 : List UInt8 := dkwX7_init_5 ++ dktX7_init_6
def dkwX7_init_4 : List UInt8 := [180, 0, 54, 43, 180, 0, 54, 182, 0, 58, 44, 42, 180, 0, 13, 25, 5, 183, 0, 64, 181, 0, 67, 42]
abbrev dktX7_init_4 : List UInt8 := dkwX7_init_4 ++ dktX7_init_5
def dkwX7_init_3 : List UInt8 := [167, 0, 4, 1, 181, 0, 44, 42, 43, 186, 0, 48, 0, 0, 58, 5, 42, 187, 0, 52, 89, 43]
abbrev dktX7_init_3 : List UInt8 := dkwX7_init_3 ++ dktX7_init_4
def dkwX7_init_2 : List UInt8 := [183, 0, 35, 167, 0, 4, 45, 181, 0, 36, 42, 21, 4, 153, 0, 14, 187, 0, 39, 89, 43, 183, 0, 41]
abbrev dktX7_init_2 : List UInt8 := dkwX7_init_2 ++ dktX7_init_3
def dkwX7_init_1 : List UInt8 := [54, 4, 42, 43, 181, 0, 25, 42, 45, 181, 0, 29, 42, 21, 4, 153, 0, 13, 187, 0, 33, 89]
abbrev dktX7_init_1 : List UInt8 := dkwX7_init_1 ++ dktX7_init_2
def dkwX7_init_0 : List UInt8 := [42, 183, 0, 3, 42, 184, 0, 9, 181, 0, 13, 43, 180, 0, 19, 2, 159, 0, 7, 4, 167, 0, 4, 3]
abbrev dktX7_init_0 : List UInt8 := dkwX7_init_0 ++ dktX7_init_1
theorem dksX7_init_0 : cX7_init.data.toList.drop 0 = dktX7_init_0 := by decide +kernel
theorem dksX7_init_1 : cX7_init.data.toList.drop 24 = dktX7_init_1 := dk_seg dksX7_init_0 24 rfl rfl
theorem dksX7_init_2 : cX7_init.data.toList.drop 46 = dktX7_init_2 := dk_seg dksX7_init_1 22 rfl rfl
theorem dksX7_init_3 : cX7_init.data.toList.drop 70 = dktX7_init_3 := dk_seg dksX7_init_2 24 rfl rfl
theorem dksX7_init_4 : cX7_init.data.toList.drop 92 = dktX7_init_4 := dk_seg dksX7_init_3 22 rfl rfl
theorem dksX7_init_5 : cX7_init.data.toList.drop 116 = dktX7_init_5 := dk_seg dksX7_init_4 24 rfl rfl
theorem dksX7_init_6 : cX7_init.data.toList.drop 138 = dktX7_init_6 := dk_seg dksX7_init_5 22 rfl rfl
theorem dX7_init_0 : decode cX7_init 0 = .ok (.aload_n 0, 1) := dk_42 (dk_at dksX7_init_0 0 rfl rfl)
theorem dX7_init_1 : decode cX7_init 1 = .ok (.invokespecial 3, 3) := dk_183 0 3 (dk_at dksX7_init_0 1 rfl rfl)
theorem dX7_init_4 : decode cX7_init 4 = .ok (.aload_n 0, 1) := dk_42 (dk_at dksX7_init_0 4 rfl rfl)
theorem dX7_init_5 : decode cX7_init 5 = .ok (.invokestatic 9, 3) := dk_184 0 9 (dk_at dksX7_init_0 5 rfl rfl)
theorem dX7_init_8 : decode cX7_init 8 = .ok (.putfield 13, 3) := dk_181 0 13 (dk_at dksX7_init_0 8 rfl rfl)
theorem dX7_init_11 : decode cX7_init 11 = .ok (.aload_n 1, 1) := dk_43 (dk_at dksX7_init_0 11 rfl rfl)
theorem dX7_init_12 : decode cX7_init 12 = .ok (.getfield 19, 3) := dk_180 0 19 (dk_at dksX7_init_0 12 rfl rfl)
theorem dX7_init_15 : decode cX7_init 15 = .ok (.iconst (-1), 1) := dk_2 (dk_at dksX7_init_0 15 rfl rfl)
theorem dX7_init_16 : decode cX7_init 16 = .ok (.if_icmp .eq 7, 3) := dk_159 0 7 (dk_at dksX7_init_0 16 rfl rfl)
theorem dX7_init_19 : decode cX7_init 19 = .ok (.iconst 1, 1) := dk_4 (dk_at dksX7_init_0 19 rfl rfl)
theorem dX7_init_20 : decode cX7_init 20 = .ok (.goto 4, 3) := dk_167 0 4 (dk_at dksX7_init_0 20 rfl rfl)
theorem dX7_init_23 : decode cX7_init 23 = .ok (.iconst 0, 1) := dk_3 (dk_at dksX7_init_0 23 rfl rfl)
theorem dX7_init_24 : decode cX7_init 24 = .ok (.istore 4, 2) := dk_54 4 (dk_at dksX7_init_1 0 rfl rfl)
theorem dX7_init_26 : decode cX7_init 26 = .ok (.aload_n 0, 1) := dk_42 (dk_at dksX7_init_1 2 rfl rfl)
theorem dX7_init_27 : decode cX7_init 27 = .ok (.aload_n 1, 1) := dk_43 (dk_at dksX7_init_1 3 rfl rfl)
theorem dX7_init_28 : decode cX7_init 28 = .ok (.putfield 25, 3) := dk_181 0 25 (dk_at dksX7_init_1 4 rfl rfl)
theorem dX7_init_31 : decode cX7_init 31 = .ok (.aload_n 0, 1) := dk_42 (dk_at dksX7_init_1 7 rfl rfl)
theorem dX7_init_32 : decode cX7_init 32 = .ok (.aload_n 3, 1) := dk_45 (dk_at dksX7_init_1 8 rfl rfl)
theorem dX7_init_33 : decode cX7_init 33 = .ok (.putfield 29, 3) := dk_181 0 29 (dk_at dksX7_init_1 9 rfl rfl)
theorem dX7_init_36 : decode cX7_init 36 = .ok (.aload_n 0, 1) := dk_42 (dk_at dksX7_init_1 12 rfl rfl)
theorem dX7_init_37 : decode cX7_init 37 = .ok (.iload 4, 2) := dk_21 4 (dk_at dksX7_init_1 13 rfl rfl)
theorem dX7_init_39 : decode cX7_init 39 = .ok (.ifCond .eq 13, 3) := dk_153 0 13 (dk_at dksX7_init_1 15 rfl rfl)
theorem dX7_init_42 : decode cX7_init 42 = .ok (.new 33, 3) := dk_187 0 33 (dk_at dksX7_init_1 18 rfl rfl)
theorem dX7_init_45 : decode cX7_init 45 = .ok (.dup, 1) := dk_89 (dk_at dksX7_init_1 21 rfl rfl)
theorem dX7_init_46 : decode cX7_init 46 = .ok (.invokespecial 35, 3) := dk_183 0 35 (dk_at dksX7_init_2 0 rfl rfl)
theorem dX7_init_49 : decode cX7_init 49 = .ok (.goto 4, 3) := dk_167 0 4 (dk_at dksX7_init_2 3 rfl rfl)
theorem dX7_init_52 : decode cX7_init 52 = .ok (.aload_n 3, 1) := dk_45 (dk_at dksX7_init_2 6 rfl rfl)
theorem dX7_init_53 : decode cX7_init 53 = .ok (.putfield 36, 3) := dk_181 0 36 (dk_at dksX7_init_2 7 rfl rfl)
theorem dX7_init_56 : decode cX7_init 56 = .ok (.aload_n 0, 1) := dk_42 (dk_at dksX7_init_2 10 rfl rfl)
theorem dX7_init_57 : decode cX7_init 57 = .ok (.iload 4, 2) := dk_21 4 (dk_at dksX7_init_2 11 rfl rfl)
theorem dX7_init_59 : decode cX7_init 59 = .ok (.ifCond .eq 14, 3) := dk_153 0 14 (dk_at dksX7_init_2 13 rfl rfl)
theorem dX7_init_62 : decode cX7_init 62 = .ok (.new 39, 3) := dk_187 0 39 (dk_at dksX7_init_2 16 rfl rfl)
theorem dX7_init_65 : decode cX7_init 65 = .ok (.dup, 1) := dk_89 (dk_at dksX7_init_2 19 rfl rfl)
theorem dX7_init_66 : decode cX7_init 66 = .ok (.aload_n 1, 1) := dk_43 (dk_at dksX7_init_2 20 rfl rfl)
theorem dX7_init_67 : decode cX7_init 67 = .ok (.invokespecial 41, 3) := dk_183 0 41 (dk_at dksX7_init_2 21 rfl rfl)
theorem dX7_init_70 : decode cX7_init 70 = .ok (.goto 4, 3) := dk_167 0 4 (dk_at dksX7_init_3 0 rfl rfl)
theorem dX7_init_73 : decode cX7_init 73 = .ok (.aconst_null, 1) := dk_1 (dk_at dksX7_init_3 3 rfl rfl)
theorem dX7_init_74 : decode cX7_init 74 = .ok (.putfield 44, 3) := dk_181 0 44 (dk_at dksX7_init_3 4 rfl rfl)
theorem dX7_init_77 : decode cX7_init 77 = .ok (.aload_n 0, 1) := dk_42 (dk_at dksX7_init_3 7 rfl rfl)
theorem dX7_init_78 : decode cX7_init 78 = .ok (.aload_n 1, 1) := dk_43 (dk_at dksX7_init_3 8 rfl rfl)
theorem dX7_init_79 : decode cX7_init 79 = .ok (.invokedynamic 48, 5) := by decide +kernel
theorem dX7_init_84 : decode cX7_init 84 = .ok (.astore 5, 2) := dk_58 5 (dk_at dksX7_init_3 14 rfl rfl)
theorem dX7_init_86 : decode cX7_init 86 = .ok (.aload_n 0, 1) := dk_42 (dk_at dksX7_init_3 16 rfl rfl)
theorem dX7_init_87 : decode cX7_init 87 = .ok (.new 52, 3) := dk_187 0 52 (dk_at dksX7_init_3 17 rfl rfl)
theorem dX7_init_90 : decode cX7_init 90 = .ok (.dup, 1) := dk_89 (dk_at dksX7_init_3 20 rfl rfl)
theorem dX7_init_91 : decode cX7_init 91 = .ok (.aload_n 1, 1) := dk_43 (dk_at dksX7_init_3 21 rfl rfl)
theorem dX7_init_92 : decode cX7_init 92 = .ok (.getfield 54, 3) := dk_180 0 54 (dk_at dksX7_init_4 0 rfl rfl)
theorem dX7_init_95 : decode cX7_init 95 = .ok (.aload_n 1, 1) := dk_43 (dk_at dksX7_init_4 3 rfl rfl)
theorem dX7_init_96 : decode cX7_init 96 = .ok (.getfield 54, 3) := dk_180 0 54 (dk_at dksX7_init_4 4 rfl rfl)
theorem dX7_init_99 : decode cX7_init 99 = .ok (.invokevirtual 58, 3) := dk_182 0 58 (dk_at dksX7_init_4 7 rfl rfl)
theorem dX7_init_102 : decode cX7_init 102 = .ok (.aload_n 2, 1) := dk_44 (dk_at dksX7_init_4 10 rfl rfl)
theorem dX7_init_103 : decode cX7_init 103 = .ok (.aload_n 0, 1) := dk_42 (dk_at dksX7_init_4 11 rfl rfl)
theorem dX7_init_104 : decode cX7_init 104 = .ok (.getfield 13, 3) := dk_180 0 13 (dk_at dksX7_init_4 12 rfl rfl)
theorem dX7_init_107 : decode cX7_init 107 = .ok (.aload 5, 2) := dk_25 5 (dk_at dksX7_init_4 15 rfl rfl)
theorem dX7_init_109 : decode cX7_init 109 = .ok (.invokespecial 64, 3) := dk_183 0 64 (dk_at dksX7_init_4 17 rfl rfl)
theorem dX7_init_112 : decode cX7_init 112 = .ok (.putfield 67, 3) := dk_181 0 67 (dk_at dksX7_init_4 20 rfl rfl)
theorem dX7_init_115 : decode cX7_init 115 = .ok (.aload_n 0, 1) := dk_42 (dk_at dksX7_init_4 23 rfl rfl)
theorem dX7_init_116 : decode cX7_init 116 = .ok (.iload 4, 2) := dk_21 4 (dk_at dksX7_init_5 0 rfl rfl)
theorem dX7_init_118 : decode cX7_init 118 = .ok (.ifCond .eq 33, 3) := dk_153 0 33 (dk_at dksX7_init_5 2 rfl rfl)
theorem dX7_init_121 : decode cX7_init 121 = .ok (.new 52, 3) := dk_187 0 52 (dk_at dksX7_init_5 5 rfl rfl)
theorem dX7_init_124 : decode cX7_init 124 = .ok (.dup, 1) := dk_89 (dk_at dksX7_init_5 8 rfl rfl)
theorem dX7_init_125 : decode cX7_init 125 = .ok (.aload_n 1, 1) := dk_43 (dk_at dksX7_init_5 9 rfl rfl)
theorem dX7_init_126 : decode cX7_init 126 = .ok (.getfield 54, 3) := dk_180 0 54 (dk_at dksX7_init_5 10 rfl rfl)
theorem dX7_init_129 : decode cX7_init 129 = .ok (.aload_n 1, 1) := dk_43 (dk_at dksX7_init_5 13 rfl rfl)
theorem dX7_init_130 : decode cX7_init 130 = .ok (.getfield 54, 3) := dk_180 0 54 (dk_at dksX7_init_5 14 rfl rfl)
theorem dX7_init_133 : decode cX7_init 133 = .ok (.invokevirtual 58, 3) := dk_182 0 58 (dk_at dksX7_init_5 17 rfl rfl)
theorem dX7_init_136 : decode cX7_init 136 = .ok (.aload_n 2, 1) := dk_44 (dk_at dksX7_init_5 20 rfl rfl)
theorem dX7_init_137 : decode cX7_init 137 = .ok (.aload_n 0, 1) := dk_42 (dk_at dksX7_init_5 21 rfl rfl)
theorem dX7_init_138 : decode cX7_init 138 = .ok (.getfield 13, 3) := dk_180 0 13 (dk_at dksX7_init_6 0 rfl rfl)
theorem dX7_init_141 : decode cX7_init 141 = .ok (.aload_n 0, 1) := dk_42 (dk_at dksX7_init_6 3 rfl rfl)
theorem dX7_init_142 : decode cX7_init 142 = .ok (.getfield 44, 3) := dk_180 0 44 (dk_at dksX7_init_6 4 rfl rfl)
theorem dX7_init_145 : decode cX7_init 145 = .ok (.invokespecial 64, 3) := dk_183 0 64 (dk_at dksX7_init_6 7 rfl rfl)
theorem dX7_init_148 : decode cX7_init 148 = .ok (.goto 4, 3) := dk_167 0 4 (dk_at dksX7_init_6 10 rfl rfl)
theorem dX7_init_151 : decode cX7_init 151 = .ok (.aconst_null, 1) := dk_1 (dk_at dksX7_init_6 13 rfl rfl)
theorem dX7_init_152 : decode cX7_init 152 = .ok (.putfield 71, 3) := dk_181 0 71 (dk_at dksX7_init_6 14 rfl rfl)
theorem dX7_init_155 : decode cX7_init 155 = .ok (.return_, 1) := dk_177 (dk_at dksX7_init_6 17 rfl rfl)
abbrev cX7_lambda_new_0 : ByteArray := prog_5_method_4_code
def yX7_lambda_new_0 : MethodName := ⟨RX7, "lambda$new$0", "(LRulehearth$Clause;[I[I)Z"⟩
def dkwX7_lambda_new_0_0 : List UInt8 := [42, 180, 0, 36, 43, 44, 3, 182, 0, 107, 3, 182, 0, 97, 4, 172]
abbrev dktX7_lambda_new_0_0 : List UInt8 := dkwX7_lambda_new_0_0 ++ []
theorem dksX7_lambda_new_0_0 : cX7_lambda_new_0.data.toList.drop 0 = dktX7_lambda_new_0_0 := by decide +kernel
theorem dX7_lambda_new_0_0 : decode cX7_lambda_new_0 0 = .ok (.aload_n 0, 1) := dk_42 (dk_at dksX7_lambda_new_0_0 0 rfl rfl)
theorem dX7_lambda_new_0_1 : decode cX7_lambda_new_0 1 = .ok (.getfield 36, 3) := dk_180 0 36 (dk_at dksX7_lambda_new_0_0 1 rfl rfl)
theorem dX7_lambda_new_0_4 : decode cX7_lambda_new_0 4 = .ok (.aload_n 1, 1) := dk_43 (dk_at dksX7_lambda_new_0_0 4 rfl rfl)
theorem dX7_lambda_new_0_5 : decode cX7_lambda_new_0 5 = .ok (.aload_n 2, 1) := dk_44 (dk_at dksX7_lambda_new_0_0 5 rfl rfl)
theorem dX7_lambda_new_0_6 : decode cX7_lambda_new_0 6 = .ok (.iconst 0, 1) := dk_3 (dk_at dksX7_lambda_new_0_0 6 rfl rfl)
theorem dX7_lambda_new_0_7 : decode cX7_lambda_new_0 7 = .ok (.invokevirtual 107, 3) := dk_182 0 107 (dk_at dksX7_lambda_new_0_0 7 rfl rfl)
theorem dX7_lambda_new_0_10 : decode cX7_lambda_new_0 10 = .ok (.iconst 0, 1) := dk_3 (dk_at dksX7_lambda_new_0_0 10 rfl rfl)
theorem dX7_lambda_new_0_11 : decode cX7_lambda_new_0 11 = .ok (.invokevirtual 97, 3) := dk_182 0 97 (dk_at dksX7_lambda_new_0_0 11 rfl rfl)
theorem dX7_lambda_new_0_14 : decode cX7_lambda_new_0 14 = .ok (.iconst 1, 1) := dk_4 (dk_at dksX7_lambda_new_0_0 14 rfl rfl)
theorem dX7_lambda_new_0_15 : decode cX7_lambda_new_0 15 = .ok (.ireturn, 1) := dk_172 (dk_at dksX7_lambda_new_0_0 15 rfl rfl)
abbrev cX7_deriveAll : ByteArray := prog_5_method_2_code
def yX7_deriveAll : MethodName := ⟨RX7, "deriveAll", "()V"⟩
def dkwX7_deriveAll_5 : List UInt8 := [167, 255, 176, 177]
abbrev dktX7_deriveAll_5 : List UInt8 := dkwX7_deriveAll_5 ++ []
def dkwX7_deriveAll_4 : List UInt8 := [180, 0, 86, 27, 46, 182, 0, 93, 3, 182, 0, 97, 42, 180, 0, 13, 184, 0, 100, 132, 1, 1]
abbrev dktX7_deriveAll_4 : List UInt8 := dkwX7_deriveAll_4 ++ dktX7_deriveAll_5
def dkwX7_deriveAll_3 : List UInt8 := [182, 0, 89, 87, 42, 180, 0, 71, 182, 0, 81, 42, 180, 0, 29, 42, 180, 0, 44, 42, 180, 0, 36]
abbrev dktX7_deriveAll_3 : List UInt8 := dkwX7_deriveAll_3 ++ dktX7_deriveAll_4
def dkwX7_deriveAll_2 : List UInt8 := [180, 0, 44, 182, 0, 83, 42, 180, 0, 25, 42, 180, 0, 36, 180, 0, 86, 27, 46, 42, 180, 0, 13]
abbrev dktX7_deriveAll_2 : List UInt8 := dkwX7_deriveAll_2 ++ dktX7_deriveAll_3
def dkwX7_deriveAll_1 : List UInt8 := [181, 0, 78, 42, 180, 0, 67, 182, 0, 81, 3, 60, 27, 42, 180, 0, 36, 180, 0, 78, 162, 0, 75, 42]
abbrev dktX7_deriveAll_1 : List UInt8 := dkwX7_deriveAll_1 ++ dktX7_deriveAll_2
def dkwX7_deriveAll_0 : List UInt8 := [42, 180, 0, 44, 199, 0, 13, 42, 180, 0, 67, 2, 3, 182, 0, 74, 177, 42, 180, 0, 36, 3]
abbrev dktX7_deriveAll_0 : List UInt8 := dkwX7_deriveAll_0 ++ dktX7_deriveAll_1
theorem dksX7_deriveAll_0 : cX7_deriveAll.data.toList.drop 0 = dktX7_deriveAll_0 := by decide +kernel
theorem dksX7_deriveAll_1 : cX7_deriveAll.data.toList.drop 22 = dktX7_deriveAll_1 := dk_seg dksX7_deriveAll_0 22 rfl rfl
theorem dksX7_deriveAll_2 : cX7_deriveAll.data.toList.drop 46 = dktX7_deriveAll_2 := dk_seg dksX7_deriveAll_1 24 rfl rfl
theorem dksX7_deriveAll_3 : cX7_deriveAll.data.toList.drop 69 = dktX7_deriveAll_3 := dk_seg dksX7_deriveAll_2 23 rfl rfl
theorem dksX7_deriveAll_4 : cX7_deriveAll.data.toList.drop 92 = dktX7_deriveAll_4 := dk_seg dksX7_deriveAll_3 23 rfl rfl
theorem dksX7_deriveAll_5 : cX7_deriveAll.data.toList.drop 114 = dktX7_deriveAll_5 := dk_seg dksX7_deriveAll_4 22 rfl rfl
theorem dX7_deriveAll_0 : decode cX7_deriveAll 0 = .ok (.aload_n 0, 1) := dk_42 (dk_at dksX7_deriveAll_0 0 rfl rfl)
theorem dX7_deriveAll_1 : decode cX7_deriveAll 1 = .ok (.getfield 44, 3) := dk_180 0 44 (dk_at dksX7_deriveAll_0 1 rfl rfl)
theorem dX7_deriveAll_4 : decode cX7_deriveAll 4 = .ok (.ifnonnull 13, 3) := dk_199 0 13 (dk_at dksX7_deriveAll_0 4 rfl rfl)
theorem dX7_deriveAll_7 : decode cX7_deriveAll 7 = .ok (.aload_n 0, 1) := dk_42 (dk_at dksX7_deriveAll_0 7 rfl rfl)
theorem dX7_deriveAll_8 : decode cX7_deriveAll 8 = .ok (.getfield 67, 3) := dk_180 0 67 (dk_at dksX7_deriveAll_0 8 rfl rfl)
theorem dX7_deriveAll_11 : decode cX7_deriveAll 11 = .ok (.iconst (-1), 1) := dk_2 (dk_at dksX7_deriveAll_0 11 rfl rfl)
theorem dX7_deriveAll_12 : decode cX7_deriveAll 12 = .ok (.iconst 0, 1) := dk_3 (dk_at dksX7_deriveAll_0 12 rfl rfl)
theorem dX7_deriveAll_13 : decode cX7_deriveAll 13 = .ok (.invokevirtual 74, 3) := dk_182 0 74 (dk_at dksX7_deriveAll_0 13 rfl rfl)
theorem dX7_deriveAll_16 : decode cX7_deriveAll 16 = .ok (.return_, 1) := dk_177 (dk_at dksX7_deriveAll_0 16 rfl rfl)
theorem dX7_deriveAll_17 : decode cX7_deriveAll 17 = .ok (.aload_n 0, 1) := dk_42 (dk_at dksX7_deriveAll_0 17 rfl rfl)
theorem dX7_deriveAll_18 : decode cX7_deriveAll 18 = .ok (.getfield 36, 3) := dk_180 0 36 (dk_at dksX7_deriveAll_0 18 rfl rfl)
theorem dX7_deriveAll_21 : decode cX7_deriveAll 21 = .ok (.iconst 0, 1) := dk_3 (dk_at dksX7_deriveAll_0 21 rfl rfl)
theorem dX7_deriveAll_22 : decode cX7_deriveAll 22 = .ok (.putfield 78, 3) := dk_181 0 78 (dk_at dksX7_deriveAll_1 0 rfl rfl)
theorem dX7_deriveAll_25 : decode cX7_deriveAll 25 = .ok (.aload_n 0, 1) := dk_42 (dk_at dksX7_deriveAll_1 3 rfl rfl)
theorem dX7_deriveAll_26 : decode cX7_deriveAll 26 = .ok (.getfield 67, 3) := dk_180 0 67 (dk_at dksX7_deriveAll_1 4 rfl rfl)
theorem dX7_deriveAll_29 : decode cX7_deriveAll 29 = .ok (.invokevirtual 81, 3) := dk_182 0 81 (dk_at dksX7_deriveAll_1 7 rfl rfl)
theorem dX7_deriveAll_32 : decode cX7_deriveAll 32 = .ok (.iconst 0, 1) := dk_3 (dk_at dksX7_deriveAll_1 10 rfl rfl)
theorem dX7_deriveAll_33 : decode cX7_deriveAll 33 = .ok (.istore_n 1, 1) := dk_60 (dk_at dksX7_deriveAll_1 11 rfl rfl)
theorem dX7_deriveAll_34 : decode cX7_deriveAll 34 = .ok (.iload_n 1, 1) := dk_27 (dk_at dksX7_deriveAll_1 12 rfl rfl)
theorem dX7_deriveAll_35 : decode cX7_deriveAll 35 = .ok (.aload_n 0, 1) := dk_42 (dk_at dksX7_deriveAll_1 13 rfl rfl)
theorem dX7_deriveAll_36 : decode cX7_deriveAll 36 = .ok (.getfield 36, 3) := dk_180 0 36 (dk_at dksX7_deriveAll_1 14 rfl rfl)
theorem dX7_deriveAll_39 : decode cX7_deriveAll 39 = .ok (.getfield 78, 3) := dk_180 0 78 (dk_at dksX7_deriveAll_1 17 rfl rfl)
theorem dX7_deriveAll_42 : decode cX7_deriveAll 42 = .ok (.if_icmp .ge 75, 3) := dk_162 0 75 (dk_at dksX7_deriveAll_1 20 rfl rfl)
theorem dX7_deriveAll_45 : decode cX7_deriveAll 45 = .ok (.aload_n 0, 1) := dk_42 (dk_at dksX7_deriveAll_1 23 rfl rfl)
theorem dX7_deriveAll_46 : decode cX7_deriveAll 46 = .ok (.getfield 44, 3) := dk_180 0 44 (dk_at dksX7_deriveAll_2 0 rfl rfl)
theorem dX7_deriveAll_49 : decode cX7_deriveAll 49 = .ok (.invokevirtual 83, 3) := dk_182 0 83 (dk_at dksX7_deriveAll_2 3 rfl rfl)
theorem dX7_deriveAll_52 : decode cX7_deriveAll 52 = .ok (.aload_n 0, 1) := dk_42 (dk_at dksX7_deriveAll_2 6 rfl rfl)
theorem dX7_deriveAll_53 : decode cX7_deriveAll 53 = .ok (.getfield 25, 3) := dk_180 0 25 (dk_at dksX7_deriveAll_2 7 rfl rfl)
theorem dX7_deriveAll_56 : decode cX7_deriveAll 56 = .ok (.aload_n 0, 1) := dk_42 (dk_at dksX7_deriveAll_2 10 rfl rfl)
theorem dX7_deriveAll_57 : decode cX7_deriveAll 57 = .ok (.getfield 36, 3) := dk_180 0 36 (dk_at dksX7_deriveAll_2 11 rfl rfl)
theorem dX7_deriveAll_60 : decode cX7_deriveAll 60 = .ok (.getfield 86, 3) := dk_180 0 86 (dk_at dksX7_deriveAll_2 14 rfl rfl)
theorem dX7_deriveAll_63 : decode cX7_deriveAll 63 = .ok (.iload_n 1, 1) := dk_27 (dk_at dksX7_deriveAll_2 17 rfl rfl)
theorem dX7_deriveAll_64 : decode cX7_deriveAll 64 = .ok (.iaload, 1) := dk_46 (dk_at dksX7_deriveAll_2 18 rfl rfl)
theorem dX7_deriveAll_65 : decode cX7_deriveAll 65 = .ok (.aload_n 0, 1) := dk_42 (dk_at dksX7_deriveAll_2 19 rfl rfl)
theorem dX7_deriveAll_66 : decode cX7_deriveAll 66 = .ok (.getfield 13, 3) := dk_180 0 13 (dk_at dksX7_deriveAll_2 20 rfl rfl)
theorem dX7_deriveAll_69 : decode cX7_deriveAll 69 = .ok (.invokevirtual 89, 3) := dk_182 0 89 (dk_at dksX7_deriveAll_3 0 rfl rfl)
theorem dX7_deriveAll_72 : decode cX7_deriveAll 72 = .ok (.pop, 1) := dk_87 (dk_at dksX7_deriveAll_3 3 rfl rfl)
theorem dX7_deriveAll_73 : decode cX7_deriveAll 73 = .ok (.aload_n 0, 1) := dk_42 (dk_at dksX7_deriveAll_3 4 rfl rfl)
theorem dX7_deriveAll_74 : decode cX7_deriveAll 74 = .ok (.getfield 71, 3) := dk_180 0 71 (dk_at dksX7_deriveAll_3 5 rfl rfl)
theorem dX7_deriveAll_77 : decode cX7_deriveAll 77 = .ok (.invokevirtual 81, 3) := dk_182 0 81 (dk_at dksX7_deriveAll_3 8 rfl rfl)
theorem dX7_deriveAll_80 : decode cX7_deriveAll 80 = .ok (.aload_n 0, 1) := dk_42 (dk_at dksX7_deriveAll_3 11 rfl rfl)
theorem dX7_deriveAll_81 : decode cX7_deriveAll 81 = .ok (.getfield 29, 3) := dk_180 0 29 (dk_at dksX7_deriveAll_3 12 rfl rfl)
theorem dX7_deriveAll_84 : decode cX7_deriveAll 84 = .ok (.aload_n 0, 1) := dk_42 (dk_at dksX7_deriveAll_3 15 rfl rfl)
theorem dX7_deriveAll_85 : decode cX7_deriveAll 85 = .ok (.getfield 44, 3) := dk_180 0 44 (dk_at dksX7_deriveAll_3 16 rfl rfl)
theorem dX7_deriveAll_88 : decode cX7_deriveAll 88 = .ok (.aload_n 0, 1) := dk_42 (dk_at dksX7_deriveAll_3 19 rfl rfl)
theorem dX7_deriveAll_89 : decode cX7_deriveAll 89 = .ok (.getfield 36, 3) := dk_180 0 36 (dk_at dksX7_deriveAll_3 20 rfl rfl)
theorem dX7_deriveAll_92 : decode cX7_deriveAll 92 = .ok (.getfield 86, 3) := dk_180 0 86 (dk_at dksX7_deriveAll_4 0 rfl rfl)
theorem dX7_deriveAll_95 : decode cX7_deriveAll 95 = .ok (.iload_n 1, 1) := dk_27 (dk_at dksX7_deriveAll_4 3 rfl rfl)
theorem dX7_deriveAll_96 : decode cX7_deriveAll 96 = .ok (.iaload, 1) := dk_46 (dk_at dksX7_deriveAll_4 4 rfl rfl)
theorem dX7_deriveAll_97 : decode cX7_deriveAll 97 = .ok (.invokevirtual 93, 3) := dk_182 0 93 (dk_at dksX7_deriveAll_4 5 rfl rfl)
theorem dX7_deriveAll_100 : decode cX7_deriveAll 100 = .ok (.iconst 0, 1) := dk_3 (dk_at dksX7_deriveAll_4 8 rfl rfl)
theorem dX7_deriveAll_101 : decode cX7_deriveAll 101 = .ok (.invokevirtual 97, 3) := dk_182 0 97 (dk_at dksX7_deriveAll_4 9 rfl rfl)
theorem dX7_deriveAll_104 : decode cX7_deriveAll 104 = .ok (.aload_n 0, 1) := dk_42 (dk_at dksX7_deriveAll_4 12 rfl rfl)
theorem dX7_deriveAll_105 : decode cX7_deriveAll 105 = .ok (.getfield 13, 3) := dk_180 0 13 (dk_at dksX7_deriveAll_4 13 rfl rfl)
theorem dX7_deriveAll_108 : decode cX7_deriveAll 108 = .ok (.invokestatic 100, 3) := dk_184 0 100 (dk_at dksX7_deriveAll_4 16 rfl rfl)
theorem dX7_deriveAll_111 : decode cX7_deriveAll 111 = .ok (.iinc 1 1, 3) := dk_132 1 1 (dk_at dksX7_deriveAll_4 19 rfl rfl)
theorem dX7_deriveAll_114 : decode cX7_deriveAll 114 = .ok (.goto (-80), 3) := dk_167 255 176 (dk_at dksX7_deriveAll_5 0 rfl rfl)
theorem dX7_deriveAll_117 : decode cX7_deriveAll 117 = .ok (.return_, 1) := dk_177 (dk_at dksX7_deriveAll_5 3 rfl rfl)
abbrev cX7_deriveNew : ByteArray := prog_5_method_3_code
def yX7_deriveNew : MethodName := ⟨RX7, "deriveNew", "(I)V"⟩
def dkwX7_deriveNew_1 : List UInt8 := [28, 27, 182, 0, 74, 132, 2, 1, 167, 255, 226, 177]
abbrev dktX7_deriveNew_1 : List UInt8 := dkwX7_deriveNew_1 ++ []
def dkwX7_deriveNew_0 : List UInt8 := [3, 61, 28, 42, 180, 0, 25, 182, 0, 104, 162, 0, 25, 42, 180, 0, 44, 199, 0, 18, 42, 180, 0, 67]
abbrev dktX7_deriveNew_0 : List UInt8 := dkwX7_deriveNew_0 ++ dktX7_deriveNew_1
theorem dksX7_deriveNew_0 : cX7_deriveNew.data.toList.drop 0 = dktX7_deriveNew_0 := by decide +kernel
theorem dksX7_deriveNew_1 : cX7_deriveNew.data.toList.drop 24 = dktX7_deriveNew_1 := dk_seg dksX7_deriveNew_0 24 rfl rfl
theorem dX7_deriveNew_0 : decode cX7_deriveNew 0 = .ok (.iconst 0, 1) := dk_3 (dk_at dksX7_deriveNew_0 0 rfl rfl)
theorem dX7_deriveNew_1 : decode cX7_deriveNew 1 = .ok (.istore_n 2, 1) := dk_61 (dk_at dksX7_deriveNew_0 1 rfl rfl)
theorem dX7_deriveNew_2 : decode cX7_deriveNew 2 = .ok (.iload_n 2, 1) := dk_28 (dk_at dksX7_deriveNew_0 2 rfl rfl)
theorem dX7_deriveNew_3 : decode cX7_deriveNew 3 = .ok (.aload_n 0, 1) := dk_42 (dk_at dksX7_deriveNew_0 3 rfl rfl)
theorem dX7_deriveNew_4 : decode cX7_deriveNew 4 = .ok (.getfield 25, 3) := dk_180 0 25 (dk_at dksX7_deriveNew_0 4 rfl rfl)
theorem dX7_deriveNew_7 : decode cX7_deriveNew 7 = .ok (.invokevirtual 104, 3) := dk_182 0 104 (dk_at dksX7_deriveNew_0 7 rfl rfl)
theorem dX7_deriveNew_10 : decode cX7_deriveNew 10 = .ok (.if_icmp .ge 25, 3) := dk_162 0 25 (dk_at dksX7_deriveNew_0 10 rfl rfl)
theorem dX7_deriveNew_13 : decode cX7_deriveNew 13 = .ok (.aload_n 0, 1) := dk_42 (dk_at dksX7_deriveNew_0 13 rfl rfl)
theorem dX7_deriveNew_14 : decode cX7_deriveNew 14 = .ok (.getfield 44, 3) := dk_180 0 44 (dk_at dksX7_deriveNew_0 14 rfl rfl)
theorem dX7_deriveNew_17 : decode cX7_deriveNew 17 = .ok (.ifnonnull 18, 3) := dk_199 0 18 (dk_at dksX7_deriveNew_0 17 rfl rfl)
theorem dX7_deriveNew_20 : decode cX7_deriveNew 20 = .ok (.aload_n 0, 1) := dk_42 (dk_at dksX7_deriveNew_0 20 rfl rfl)
theorem dX7_deriveNew_21 : decode cX7_deriveNew 21 = .ok (.getfield 67, 3) := dk_180 0 67 (dk_at dksX7_deriveNew_0 21 rfl rfl)
theorem dX7_deriveNew_24 : decode cX7_deriveNew 24 = .ok (.iload_n 2, 1) := dk_28 (dk_at dksX7_deriveNew_1 0 rfl rfl)
theorem dX7_deriveNew_25 : decode cX7_deriveNew 25 = .ok (.iload_n 1, 1) := dk_27 (dk_at dksX7_deriveNew_1 1 rfl rfl)
theorem dX7_deriveNew_26 : decode cX7_deriveNew 26 = .ok (.invokevirtual 74, 3) := dk_182 0 74 (dk_at dksX7_deriveNew_1 2 rfl rfl)
theorem dX7_deriveNew_29 : decode cX7_deriveNew 29 = .ok (.iinc 2 1, 3) := dk_132 2 1 (dk_at dksX7_deriveNew_1 5 rfl rfl)
theorem dX7_deriveNew_32 : decode cX7_deriveNew 32 = .ok (.goto (-30), 3) := dk_167 255 226 (dk_at dksX7_deriveNew_1 8 rfl rfl)
theorem dX7_deriveNew_35 : decode cX7_deriveNew 35 = .ok (.return_, 1) := dk_177 (dk_at dksX7_deriveNew_1 11 rfl rfl)

abbrev cX8_take : ByteArray := prog_10_method_3_code
def yX8_take : MethodName := ⟨RX8, "take", "([I[I)Z"⟩
def dkwX8_take_1 : List UInt8 := [42, 180, 0, 15, 180, 0, 35, 46, 43, 184, 0, 38, 4, 84, 4, 172]
abbrev dktX8_take_1 : List UInt8 := dkwX8_take_1 ++ []
def dkwX8_take_0 : List UInt8 := [42, 89, 180, 0, 19, 4, 96, 181, 0, 19, 42, 180, 0, 9, 42, 180, 0, 15, 180, 0, 23, 180, 0, 29]
abbrev dktX8_take_0 : List UInt8 := dkwX8_take_0 ++ dktX8_take_1
theorem dksX8_take_0 : cX8_take.data.toList.drop 0 = dktX8_take_0 := by decide +kernel
theorem dksX8_take_1 : cX8_take.data.toList.drop 24 = dktX8_take_1 := dk_seg dksX8_take_0 24 rfl rfl
theorem dX8_take_0 : decode cX8_take 0 = .ok (.aload_n 0, 1) := dk_42 (dk_at dksX8_take_0 0 rfl rfl)
theorem dX8_take_1 : decode cX8_take 1 = .ok (.dup, 1) := dk_89 (dk_at dksX8_take_0 1 rfl rfl)
theorem dX8_take_2 : decode cX8_take 2 = .ok (.getfield 19, 3) := dk_180 0 19 (dk_at dksX8_take_0 2 rfl rfl)
theorem dX8_take_5 : decode cX8_take 5 = .ok (.iconst 1, 1) := dk_4 (dk_at dksX8_take_0 5 rfl rfl)
theorem dX8_take_6 : decode cX8_take 6 = .ok (.iadd, 1) := dk_96 (dk_at dksX8_take_0 6 rfl rfl)
theorem dX8_take_7 : decode cX8_take 7 = .ok (.putfield 19, 3) := dk_181 0 19 (dk_at dksX8_take_0 7 rfl rfl)
theorem dX8_take_10 : decode cX8_take 10 = .ok (.aload_n 0, 1) := dk_42 (dk_at dksX8_take_0 10 rfl rfl)
theorem dX8_take_11 : decode cX8_take 11 = .ok (.getfield 9, 3) := dk_180 0 9 (dk_at dksX8_take_0 11 rfl rfl)
theorem dX8_take_14 : decode cX8_take 14 = .ok (.aload_n 0, 1) := dk_42 (dk_at dksX8_take_0 14 rfl rfl)
theorem dX8_take_15 : decode cX8_take 15 = .ok (.getfield 15, 3) := dk_180 0 15 (dk_at dksX8_take_0 15 rfl rfl)
theorem dX8_take_18 : decode cX8_take 18 = .ok (.getfield 23, 3) := dk_180 0 23 (dk_at dksX8_take_0 18 rfl rfl)
theorem dX8_take_21 : decode cX8_take 21 = .ok (.getfield 29, 3) := dk_180 0 29 (dk_at dksX8_take_0 21 rfl rfl)
theorem dX8_take_24 : decode cX8_take 24 = .ok (.aload_n 0, 1) := dk_42 (dk_at dksX8_take_1 0 rfl rfl)
theorem dX8_take_25 : decode cX8_take 25 = .ok (.getfield 15, 3) := dk_180 0 15 (dk_at dksX8_take_1 1 rfl rfl)
theorem dX8_take_28 : decode cX8_take 28 = .ok (.getfield 35, 3) := dk_180 0 35 (dk_at dksX8_take_1 4 rfl rfl)
theorem dX8_take_31 : decode cX8_take 31 = .ok (.iaload, 1) := dk_46 (dk_at dksX8_take_1 7 rfl rfl)
theorem dX8_take_32 : decode cX8_take 32 = .ok (.aload_n 1, 1) := dk_43 (dk_at dksX8_take_1 8 rfl rfl)
theorem dX8_take_33 : decode cX8_take 33 = .ok (.invokestatic 38, 3) := dk_184 0 38 (dk_at dksX8_take_1 9 rfl rfl)
theorem dX8_take_36 : decode cX8_take 36 = .ok (.iconst 1, 1) := dk_4 (dk_at dksX8_take_1 12 rfl rfl)
theorem dX8_take_37 : decode cX8_take 37 = .ok (.bastore, 1) := dk_84 (dk_at dksX8_take_1 13 rfl rfl)
theorem dX8_take_38 : decode cX8_take 38 = .ok (.iconst 1, 1) := dk_4 (dk_at dksX8_take_1 14 rfl rfl)
theorem dX8_take_39 : decode cX8_take 39 = .ok (.ireturn, 1) := dk_172 (dk_at dksX8_take_1 15 rfl rfl)
abbrev cX8_init : ByteArray := prog_10_method_1_code
def yX8_init : MethodName := ⟨RX8, "<init>", "(LRulehearth$Clause;)V"⟩
def dkwX8_init_0 : List UInt8 := [42, 183, 0, 3, 42, 16, 100, 188, 4, 181, 0, 9, 42, 43, 181, 0, 15, 177]
abbrev dktX8_init_0 : List UInt8 := dkwX8_init_0 ++ []
theorem dksX8_init_0 : cX8_init.data.toList.drop 0 = dktX8_init_0 := by decide +kernel
theorem dX8_init_0 : decode cX8_init 0 = .ok (.aload_n 0, 1) := dk_42 (dk_at dksX8_init_0 0 rfl rfl)
theorem dX8_init_1 : decode cX8_init 1 = .ok (.invokespecial 3, 3) := dk_183 0 3 (dk_at dksX8_init_0 1 rfl rfl)
theorem dX8_init_4 : decode cX8_init 4 = .ok (.aload_n 0, 1) := dk_42 (dk_at dksX8_init_0 4 rfl rfl)
theorem dX8_init_5 : decode cX8_init 5 = .ok (.bipush 100, 2) := dk_16 100 (dk_at dksX8_init_0 5 rfl rfl)
theorem dX8_init_7 : decode cX8_init 7 = .ok (.newarray .boolean, 2) := dk_188_4 (dk_at dksX8_init_0 7 rfl rfl)
theorem dX8_init_9 : decode cX8_init 9 = .ok (.putfield 9, 3) := dk_181 0 9 (dk_at dksX8_init_0 9 rfl rfl)
theorem dX8_init_12 : decode cX8_init 12 = .ok (.aload_n 0, 1) := dk_42 (dk_at dksX8_init_0 12 rfl rfl)
theorem dX8_init_13 : decode cX8_init 13 = .ok (.aload_n 1, 1) := dk_43 (dk_at dksX8_init_0 13 rfl rfl)
theorem dX8_init_14 : decode cX8_init 14 = .ok (.putfield 15, 3) := dk_181 0 15 (dk_at dksX8_init_0 14 rfl rfl)
theorem dX8_init_17 : decode cX8_init 17 = .ok (.return_, 1) := dk_177 (dk_at dksX8_init_0 17 rfl rfl)
abbrev cX8_clear : ByteArray := prog_10_method_2_code
def yX8_clear : MethodName := ⟨RX8, "clear", "()V"⟩
def dkwX8_clear_1 : List UInt8 := [167, 255, 240, 177]
abbrev dktX8_clear_1 : List UInt8 := dkwX8_clear_1 ++ []
def dkwX8_clear_0 : List UInt8 := [42, 3, 181, 0, 19, 3, 60, 27, 16, 100, 162, 0, 16, 42, 180, 0, 9, 27, 3, 84, 132, 1, 1]
abbrev dktX8_clear_0 : List UInt8 := dkwX8_clear_0 ++ dktX8_clear_1
theorem dksX8_clear_0 : cX8_clear.data.toList.drop 0 = dktX8_clear_0 := by decide +kernel
theorem dksX8_clear_1 : cX8_clear.data.toList.drop 23 = dktX8_clear_1 := dk_seg dksX8_clear_0 23 rfl rfl
theorem dX8_clear_0 : decode cX8_clear 0 = .ok (.aload_n 0, 1) := dk_42 (dk_at dksX8_clear_0 0 rfl rfl)
theorem dX8_clear_1 : decode cX8_clear 1 = .ok (.iconst 0, 1) := dk_3 (dk_at dksX8_clear_0 1 rfl rfl)
theorem dX8_clear_2 : decode cX8_clear 2 = .ok (.putfield 19, 3) := dk_181 0 19 (dk_at dksX8_clear_0 2 rfl rfl)
theorem dX8_clear_5 : decode cX8_clear 5 = .ok (.iconst 0, 1) := dk_3 (dk_at dksX8_clear_0 5 rfl rfl)
theorem dX8_clear_6 : decode cX8_clear 6 = .ok (.istore_n 1, 1) := dk_60 (dk_at dksX8_clear_0 6 rfl rfl)
theorem dX8_clear_7 : decode cX8_clear 7 = .ok (.iload_n 1, 1) := dk_27 (dk_at dksX8_clear_0 7 rfl rfl)
theorem dX8_clear_8 : decode cX8_clear 8 = .ok (.bipush 100, 2) := dk_16 100 (dk_at dksX8_clear_0 8 rfl rfl)
theorem dX8_clear_10 : decode cX8_clear 10 = .ok (.if_icmp .ge 16, 3) := dk_162 0 16 (dk_at dksX8_clear_0 10 rfl rfl)
theorem dX8_clear_13 : decode cX8_clear 13 = .ok (.aload_n 0, 1) := dk_42 (dk_at dksX8_clear_0 13 rfl rfl)
theorem dX8_clear_14 : decode cX8_clear 14 = .ok (.getfield 9, 3) := dk_180 0 9 (dk_at dksX8_clear_0 14 rfl rfl)
theorem dX8_clear_17 : decode cX8_clear 17 = .ok (.iload_n 1, 1) := dk_27 (dk_at dksX8_clear_0 17 rfl rfl)
theorem dX8_clear_18 : decode cX8_clear 18 = .ok (.iconst 0, 1) := dk_3 (dk_at dksX8_clear_0 18 rfl rfl)
theorem dX8_clear_19 : decode cX8_clear 19 = .ok (.bastore, 1) := dk_84 (dk_at dksX8_clear_0 19 rfl rfl)
theorem dX8_clear_20 : decode cX8_clear 20 = .ok (.iinc 1 1, 3) := dk_132 1 1 (dk_at dksX8_clear_0 20 rfl rfl)
theorem dX8_clear_23 : decode cX8_clear 23 = .ok (.goto (-16), 3) := dk_167 255 240 (dk_at dksX8_clear_1 0 rfl rfl)
theorem dX8_clear_26 : decode cX8_clear 26 = .ok (.return_, 1) := dk_177 (dk_at dksX8_clear_1 3 rfl rfl)
abbrev cX8_fact : ByteArray := prog_10_method_5_code
def yX8_fact : MethodName := ⟨RX8, "fact", "(I)I"⟩
def dkwX8_fact_2 : List UInt8 := [100, 42, 182, 0, 54, 28, 104, 96, 172]
abbrev dktX8_fact_2 : List UInt8 := dkwX8_fact_2 ++ []
def dkwX8_fact_1 : List UInt8 := [160, 0, 8, 16, 100, 167, 0, 4, 4, 61, 27, 27, 42, 180, 0, 15, 180, 0, 35, 184, 0, 51, 28, 104]
abbrev dktX8_fact_1 : List UInt8 := dkwX8_fact_1 ++ dktX8_fact_2
def dkwX8_fact_0 : List UInt8 := [42, 180, 0, 15, 180, 0, 35, 154, 0, 9, 17, 39, 16, 167, 0, 20, 42, 180, 0, 15, 180, 0, 35, 4]
abbrev dktX8_fact_0 : List UInt8 := dkwX8_fact_0 ++ dktX8_fact_1
theorem dksX8_fact_0 : cX8_fact.data.toList.drop 0 = dktX8_fact_0 := by decide +kernel
theorem dksX8_fact_1 : cX8_fact.data.toList.drop 24 = dktX8_fact_1 := dk_seg dksX8_fact_0 24 rfl rfl
theorem dksX8_fact_2 : cX8_fact.data.toList.drop 48 = dktX8_fact_2 := dk_seg dksX8_fact_1 24 rfl rfl
theorem dX8_fact_0 : decode cX8_fact 0 = .ok (.aload_n 0, 1) := dk_42 (dk_at dksX8_fact_0 0 rfl rfl)
theorem dX8_fact_1 : decode cX8_fact 1 = .ok (.getfield 15, 3) := dk_180 0 15 (dk_at dksX8_fact_0 1 rfl rfl)
theorem dX8_fact_4 : decode cX8_fact 4 = .ok (.getfield 35, 3) := dk_180 0 35 (dk_at dksX8_fact_0 4 rfl rfl)
theorem dX8_fact_7 : decode cX8_fact 7 = .ok (.ifCond .ne 9, 3) := dk_154 0 9 (dk_at dksX8_fact_0 7 rfl rfl)
theorem dX8_fact_10 : decode cX8_fact 10 = .ok (.sipush 10000, 3) := dk_17 39 16 (dk_at dksX8_fact_0 10 rfl rfl)
theorem dX8_fact_13 : decode cX8_fact 13 = .ok (.goto 20, 3) := dk_167 0 20 (dk_at dksX8_fact_0 13 rfl rfl)
theorem dX8_fact_16 : decode cX8_fact 16 = .ok (.aload_n 0, 1) := dk_42 (dk_at dksX8_fact_0 16 rfl rfl)
theorem dX8_fact_17 : decode cX8_fact 17 = .ok (.getfield 15, 3) := dk_180 0 15 (dk_at dksX8_fact_0 17 rfl rfl)
theorem dX8_fact_20 : decode cX8_fact 20 = .ok (.getfield 35, 3) := dk_180 0 35 (dk_at dksX8_fact_0 20 rfl rfl)
theorem dX8_fact_23 : decode cX8_fact 23 = .ok (.iconst 1, 1) := dk_4 (dk_at dksX8_fact_0 23 rfl rfl)
theorem dX8_fact_24 : decode cX8_fact 24 = .ok (.if_icmp .ne 8, 3) := dk_160 0 8 (dk_at dksX8_fact_1 0 rfl rfl)
theorem dX8_fact_27 : decode cX8_fact 27 = .ok (.bipush 100, 2) := dk_16 100 (dk_at dksX8_fact_1 3 rfl rfl)
theorem dX8_fact_29 : decode cX8_fact 29 = .ok (.goto 4, 3) := dk_167 0 4 (dk_at dksX8_fact_1 5 rfl rfl)
theorem dX8_fact_32 : decode cX8_fact 32 = .ok (.iconst 1, 1) := dk_4 (dk_at dksX8_fact_1 8 rfl rfl)
theorem dX8_fact_33 : decode cX8_fact 33 = .ok (.istore_n 2, 1) := dk_61 (dk_at dksX8_fact_1 9 rfl rfl)
theorem dX8_fact_34 : decode cX8_fact 34 = .ok (.iload_n 1, 1) := dk_27 (dk_at dksX8_fact_1 10 rfl rfl)
theorem dX8_fact_35 : decode cX8_fact 35 = .ok (.iload_n 1, 1) := dk_27 (dk_at dksX8_fact_1 11 rfl rfl)
theorem dX8_fact_36 : decode cX8_fact 36 = .ok (.aload_n 0, 1) := dk_42 (dk_at dksX8_fact_1 12 rfl rfl)
theorem dX8_fact_37 : decode cX8_fact 37 = .ok (.getfield 15, 3) := dk_180 0 15 (dk_at dksX8_fact_1 13 rfl rfl)
theorem dX8_fact_40 : decode cX8_fact 40 = .ok (.getfield 35, 3) := dk_180 0 35 (dk_at dksX8_fact_1 16 rfl rfl)
theorem dX8_fact_43 : decode cX8_fact 43 = .ok (.invokestatic 51, 3) := dk_184 0 51 (dk_at dksX8_fact_1 19 rfl rfl)
theorem dX8_fact_46 : decode cX8_fact 46 = .ok (.iload_n 2, 1) := dk_28 (dk_at dksX8_fact_1 22 rfl rfl)
theorem dX8_fact_47 : decode cX8_fact 47 = .ok (.imul, 1) := dk_104 (dk_at dksX8_fact_1 23 rfl rfl)
theorem dX8_fact_48 : decode cX8_fact 48 = .ok (.isub, 1) := dk_100 (dk_at dksX8_fact_2 0 rfl rfl)
theorem dX8_fact_49 : decode cX8_fact 49 = .ok (.aload_n 0, 1) := dk_42 (dk_at dksX8_fact_2 1 rfl rfl)
theorem dX8_fact_50 : decode cX8_fact 50 = .ok (.invokevirtual 54, 3) := dk_182 0 54 (dk_at dksX8_fact_2 2 rfl rfl)
theorem dX8_fact_53 : decode cX8_fact 53 = .ok (.iload_n 2, 1) := dk_28 (dk_at dksX8_fact_2 5 rfl rfl)
theorem dX8_fact_54 : decode cX8_fact 54 = .ok (.imul, 1) := dk_104 (dk_at dksX8_fact_2 6 rfl rfl)
theorem dX8_fact_55 : decode cX8_fact 55 = .ok (.iadd, 1) := dk_96 (dk_at dksX8_fact_2 7 rfl rfl)
theorem dX8_fact_56 : decode cX8_fact 56 = .ok (.ireturn, 1) := dk_172 (dk_at dksX8_fact_2 8 rfl rfl)
abbrev cX8_value : ByteArray := prog_10_method_4_code
def yX8_value : MethodName := ⟨RX8, "value", "()I"⟩
def dkwX8_value_4 : List UInt8 := [27, 16, 99, 184, 0, 45, 172, 28, 16, 99, 184, 0, 45, 172, 29, 172, 21, 4, 172]
abbrev dktX8_value_4 : List UInt8 := dkwX8_value_4 ++ []
def dkwX8_value_3 : List UInt8 := [170, 0, 0, 0, 0, 42, 0, 0, 0, 0, 0, 0, 0, 2, 0, 0, 0, 26, 0, 0, 0, 33, 0, 0, 0, 40]
abbrev dktX8_value_3 : List UInt8 := dkwX8_value_3 ++ dktX8_value_4
def dkwX8_value_2 : List UInt8 := [29, 62, 21, 5, 54, 4, 132, 5, 1, 167, 255, 212, 42, 180, 0, 15, 180, 0, 42]
abbrev dktX8_value_2 : List UInt8 := dkwX8_value_2 ++ dktX8_value_3
def dkwX8_value_1 : List UInt8 := [21, 5, 51, 153, 0, 27, 132, 1, 1, 28, 21, 5, 96, 61, 29, 2, 160, 0, 8, 21, 5, 167, 0, 4]
abbrev dktX8_value_1 : List UInt8 := dkwX8_value_1 ++ dktX8_value_2
def dkwX8_value_0 : List UInt8 := [3, 60, 3, 61, 2, 62, 2, 54, 4, 3, 54, 5, 21, 5, 16, 100, 162, 0, 43, 42, 180, 0, 9]
abbrev dktX8_value_0 : List UInt8 := dkwX8_value_0 ++ dktX8_value_1
theorem dksX8_value_0 : cX8_value.data.toList.drop 0 = dktX8_value_0 := by decide +kernel
theorem dksX8_value_1 : cX8_value.data.toList.drop 23 = dktX8_value_1 := dk_seg dksX8_value_0 23 rfl rfl
theorem dksX8_value_2 : cX8_value.data.toList.drop 47 = dktX8_value_2 := dk_seg dksX8_value_1 24 rfl rfl
theorem dksX8_value_3 : cX8_value.data.toList.drop 66 = dktX8_value_3 := dk_seg dksX8_value_2 19 rfl rfl
theorem dksX8_value_4 : cX8_value.data.toList.drop 92 = dktX8_value_4 := dk_seg dksX8_value_3 26 rfl rfl
theorem dX8_value_0 : decode cX8_value 0 = .ok (.iconst 0, 1) := dk_3 (dk_at dksX8_value_0 0 rfl rfl)
theorem dX8_value_1 : decode cX8_value 1 = .ok (.istore_n 1, 1) := dk_60 (dk_at dksX8_value_0 1 rfl rfl)
theorem dX8_value_2 : decode cX8_value 2 = .ok (.iconst 0, 1) := dk_3 (dk_at dksX8_value_0 2 rfl rfl)
theorem dX8_value_3 : decode cX8_value 3 = .ok (.istore_n 2, 1) := dk_61 (dk_at dksX8_value_0 3 rfl rfl)
theorem dX8_value_4 : decode cX8_value 4 = .ok (.iconst (-1), 1) := dk_2 (dk_at dksX8_value_0 4 rfl rfl)
theorem dX8_value_5 : decode cX8_value 5 = .ok (.istore_n 3, 1) := dk_62 (dk_at dksX8_value_0 5 rfl rfl)
theorem dX8_value_6 : decode cX8_value 6 = .ok (.iconst (-1), 1) := dk_2 (dk_at dksX8_value_0 6 rfl rfl)
theorem dX8_value_7 : decode cX8_value 7 = .ok (.istore 4, 2) := dk_54 4 (dk_at dksX8_value_0 7 rfl rfl)
theorem dX8_value_9 : decode cX8_value 9 = .ok (.iconst 0, 1) := dk_3 (dk_at dksX8_value_0 9 rfl rfl)
theorem dX8_value_10 : decode cX8_value 10 = .ok (.istore 5, 2) := dk_54 5 (dk_at dksX8_value_0 10 rfl rfl)
theorem dX8_value_12 : decode cX8_value 12 = .ok (.iload 5, 2) := dk_21 5 (dk_at dksX8_value_0 12 rfl rfl)
theorem dX8_value_14 : decode cX8_value 14 = .ok (.bipush 100, 2) := dk_16 100 (dk_at dksX8_value_0 14 rfl rfl)
theorem dX8_value_16 : decode cX8_value 16 = .ok (.if_icmp .ge 43, 3) := dk_162 0 43 (dk_at dksX8_value_0 16 rfl rfl)
theorem dX8_value_19 : decode cX8_value 19 = .ok (.aload_n 0, 1) := dk_42 (dk_at dksX8_value_0 19 rfl rfl)
theorem dX8_value_20 : decode cX8_value 20 = .ok (.getfield 9, 3) := dk_180 0 9 (dk_at dksX8_value_0 20 rfl rfl)
theorem dX8_value_23 : decode cX8_value 23 = .ok (.iload 5, 2) := dk_21 5 (dk_at dksX8_value_1 0 rfl rfl)
theorem dX8_value_25 : decode cX8_value 25 = .ok (.baload, 1) := dk_51 (dk_at dksX8_value_1 2 rfl rfl)
theorem dX8_value_26 : decode cX8_value 26 = .ok (.ifCond .eq 27, 3) := dk_153 0 27 (dk_at dksX8_value_1 3 rfl rfl)
theorem dX8_value_29 : decode cX8_value 29 = .ok (.iinc 1 1, 3) := dk_132 1 1 (dk_at dksX8_value_1 6 rfl rfl)
theorem dX8_value_32 : decode cX8_value 32 = .ok (.iload_n 2, 1) := dk_28 (dk_at dksX8_value_1 9 rfl rfl)
theorem dX8_value_33 : decode cX8_value 33 = .ok (.iload 5, 2) := dk_21 5 (dk_at dksX8_value_1 10 rfl rfl)
theorem dX8_value_35 : decode cX8_value 35 = .ok (.iadd, 1) := dk_96 (dk_at dksX8_value_1 12 rfl rfl)
theorem dX8_value_36 : decode cX8_value 36 = .ok (.istore_n 2, 1) := dk_61 (dk_at dksX8_value_1 13 rfl rfl)
theorem dX8_value_37 : decode cX8_value 37 = .ok (.iload_n 3, 1) := dk_29 (dk_at dksX8_value_1 14 rfl rfl)
theorem dX8_value_38 : decode cX8_value 38 = .ok (.iconst (-1), 1) := dk_2 (dk_at dksX8_value_1 15 rfl rfl)
theorem dX8_value_39 : decode cX8_value 39 = .ok (.if_icmp .ne 8, 3) := dk_160 0 8 (dk_at dksX8_value_1 16 rfl rfl)
theorem dX8_value_42 : decode cX8_value 42 = .ok (.iload 5, 2) := dk_21 5 (dk_at dksX8_value_1 19 rfl rfl)
theorem dX8_value_44 : decode cX8_value 44 = .ok (.goto 4, 3) := dk_167 0 4 (dk_at dksX8_value_1 21 rfl rfl)
theorem dX8_value_47 : decode cX8_value 47 = .ok (.iload_n 3, 1) := dk_29 (dk_at dksX8_value_2 0 rfl rfl)
theorem dX8_value_48 : decode cX8_value 48 = .ok (.istore_n 3, 1) := dk_62 (dk_at dksX8_value_2 1 rfl rfl)
theorem dX8_value_49 : decode cX8_value 49 = .ok (.iload 5, 2) := dk_21 5 (dk_at dksX8_value_2 2 rfl rfl)
theorem dX8_value_51 : decode cX8_value 51 = .ok (.istore 4, 2) := dk_54 4 (dk_at dksX8_value_2 4 rfl rfl)
theorem dX8_value_53 : decode cX8_value 53 = .ok (.iinc 5 1, 3) := dk_132 5 1 (dk_at dksX8_value_2 6 rfl rfl)
theorem dX8_value_56 : decode cX8_value 56 = .ok (.goto (-44), 3) := dk_167 255 212 (dk_at dksX8_value_2 9 rfl rfl)
theorem dX8_value_59 : decode cX8_value 59 = .ok (.aload_n 0, 1) := dk_42 (dk_at dksX8_value_2 12 rfl rfl)
theorem dX8_value_60 : decode cX8_value 60 = .ok (.getfield 15, 3) := dk_180 0 15 (dk_at dksX8_value_2 13 rfl rfl)
theorem dX8_value_63 : decode cX8_value 63 = .ok (.getfield 42, 3) := dk_180 0 42 (dk_at dksX8_value_2 16 rfl rfl)
theorem dX8_value_66 : decode cX8_value 66 = .ok (.tableswitch 42 0 2 #[26, 33, 40], 26) := by decide +kernel
theorem dX8_value_92 : decode cX8_value 92 = .ok (.iload_n 1, 1) := dk_27 (dk_at dksX8_value_4 0 rfl rfl)
theorem dX8_value_93 : decode cX8_value 93 = .ok (.bipush 99, 2) := dk_16 99 (dk_at dksX8_value_4 1 rfl rfl)
theorem dX8_value_95 : decode cX8_value 95 = .ok (.invokestatic 45, 3) := dk_184 0 45 (dk_at dksX8_value_4 3 rfl rfl)
theorem dX8_value_98 : decode cX8_value 98 = .ok (.ireturn, 1) := dk_172 (dk_at dksX8_value_4 6 rfl rfl)
theorem dX8_value_99 : decode cX8_value 99 = .ok (.iload_n 2, 1) := dk_28 (dk_at dksX8_value_4 7 rfl rfl)
theorem dX8_value_100 : decode cX8_value 100 = .ok (.bipush 99, 2) := dk_16 99 (dk_at dksX8_value_4 8 rfl rfl)
theorem dX8_value_102 : decode cX8_value 102 = .ok (.invokestatic 45, 3) := dk_184 0 45 (dk_at dksX8_value_4 10 rfl rfl)
theorem dX8_value_105 : decode cX8_value 105 = .ok (.ireturn, 1) := dk_172 (dk_at dksX8_value_4 13 rfl rfl)
theorem dX8_value_106 : decode cX8_value 106 = .ok (.iload_n 3, 1) := dk_29 (dk_at dksX8_value_4 14 rfl rfl)
theorem dX8_value_107 : decode cX8_value 107 = .ok (.ireturn, 1) := dk_172 (dk_at dksX8_value_4 15 rfl rfl)
theorem dX8_value_108 : decode cX8_value 108 = .ok (.iload 4, 2) := dk_21 4 (dk_at dksX8_value_4 16 rfl rfl)
theorem dX8_value_110 : decode cX8_value 110 = .ok (.ireturn, 1) := dk_172 (dk_at dksX8_value_4 18 rfl rfl)
abbrev cX8_gives : ByteArray := prog_10_method_6_code
def yX8_gives : MethodName := ⟨RX8, "gives", "(I)Z"⟩
def dkwX8_gives_0 : List UInt8 := [42, 180, 0, 19, 158, 0, 16, 42, 27, 182, 0, 58, 27, 160, 0, 7, 4, 167, 0, 4, 3, 172]
abbrev dktX8_gives_0 : List UInt8 := dkwX8_gives_0 ++ []
theorem dksX8_gives_0 : cX8_gives.data.toList.drop 0 = dktX8_gives_0 := by decide +kernel
theorem dX8_gives_0 : decode cX8_gives 0 = .ok (.aload_n 0, 1) := dk_42 (dk_at dksX8_gives_0 0 rfl rfl)
theorem dX8_gives_1 : decode cX8_gives 1 = .ok (.getfield 19, 3) := dk_180 0 19 (dk_at dksX8_gives_0 1 rfl rfl)
theorem dX8_gives_4 : decode cX8_gives 4 = .ok (.ifCond .le 16, 3) := dk_158 0 16 (dk_at dksX8_gives_0 4 rfl rfl)
theorem dX8_gives_7 : decode cX8_gives 7 = .ok (.aload_n 0, 1) := dk_42 (dk_at dksX8_gives_0 7 rfl rfl)
theorem dX8_gives_8 : decode cX8_gives 8 = .ok (.iload_n 1, 1) := dk_27 (dk_at dksX8_gives_0 8 rfl rfl)
theorem dX8_gives_9 : decode cX8_gives 9 = .ok (.invokevirtual 58, 3) := dk_182 0 58 (dk_at dksX8_gives_0 9 rfl rfl)
theorem dX8_gives_12 : decode cX8_gives 12 = .ok (.iload_n 1, 1) := dk_27 (dk_at dksX8_gives_0 12 rfl rfl)
theorem dX8_gives_13 : decode cX8_gives 13 = .ok (.if_icmp .ne 7, 3) := dk_160 0 7 (dk_at dksX8_gives_0 13 rfl rfl)
theorem dX8_gives_16 : decode cX8_gives 16 = .ok (.iconst 1, 1) := dk_4 (dk_at dksX8_gives_0 16 rfl rfl)
theorem dX8_gives_17 : decode cX8_gives 17 = .ok (.goto 4, 3) := dk_167 0 4 (dk_at dksX8_gives_0 17 rfl rfl)
theorem dX8_gives_20 : decode cX8_gives 20 = .ok (.iconst 0, 1) := dk_3 (dk_at dksX8_gives_0 20 rfl rfl)
theorem dX8_gives_21 : decode cX8_gives 21 = .ok (.ireturn, 1) := dk_172 (dk_at dksX8_gives_0 21 rfl rfl)

abbrev cX9_init : ByteArray := prog_12_method_1_code
def yX9_init : MethodName := ⟨RX9, "<init>", "(Ljava/util/ArrayList;ILRulehearth$Facts;[ILRulehearth$Taker;)V"⟩
def dkwX9_init_1 : List UInt8 := [181, 0, 23, 42, 45, 181, 0, 26, 42, 25, 4, 181, 0, 30, 42, 25, 5, 181, 0, 33, 177]
abbrev dktX9_init_1 : List UInt8 := dkwX9_init_1 ++ []
def dkwX9_init_0 : List UInt8 := [42, 183, 0, 3, 42, 6, 188, 10, 181, 0, 9, 42, 2, 181, 0, 15, 42, 43, 181, 0, 19, 42, 28]
abbrev dktX9_init_0 : List UInt8 := dkwX9_init_0 ++ dktX9_init_1
theorem dksX9_init_0 : cX9_init.data.toList.drop 0 = dktX9_init_0 := by decide +kernel
theorem dksX9_init_1 : cX9_init.data.toList.drop 23 = dktX9_init_1 := dk_seg dksX9_init_0 23 rfl rfl
theorem dX9_init_0 : decode cX9_init 0 = .ok (.aload_n 0, 1) := dk_42 (dk_at dksX9_init_0 0 rfl rfl)
theorem dX9_init_1 : decode cX9_init 1 = .ok (.invokespecial 3, 3) := dk_183 0 3 (dk_at dksX9_init_0 1 rfl rfl)
theorem dX9_init_4 : decode cX9_init 4 = .ok (.aload_n 0, 1) := dk_42 (dk_at dksX9_init_0 4 rfl rfl)
theorem dX9_init_5 : decode cX9_init 5 = .ok (.iconst 3, 1) := dk_6 (dk_at dksX9_init_0 5 rfl rfl)
theorem dX9_init_6 : decode cX9_init 6 = .ok (.newarray .int, 2) := dk_188_10 (dk_at dksX9_init_0 6 rfl rfl)
theorem dX9_init_8 : decode cX9_init 8 = .ok (.putfield 9, 3) := dk_181 0 9 (dk_at dksX9_init_0 8 rfl rfl)
theorem dX9_init_11 : decode cX9_init 11 = .ok (.aload_n 0, 1) := dk_42 (dk_at dksX9_init_0 11 rfl rfl)
theorem dX9_init_12 : decode cX9_init 12 = .ok (.iconst (-1), 1) := dk_2 (dk_at dksX9_init_0 12 rfl rfl)
theorem dX9_init_13 : decode cX9_init 13 = .ok (.putfield 15, 3) := dk_181 0 15 (dk_at dksX9_init_0 13 rfl rfl)
theorem dX9_init_16 : decode cX9_init 16 = .ok (.aload_n 0, 1) := dk_42 (dk_at dksX9_init_0 16 rfl rfl)
theorem dX9_init_17 : decode cX9_init 17 = .ok (.aload_n 1, 1) := dk_43 (dk_at dksX9_init_0 17 rfl rfl)
theorem dX9_init_18 : decode cX9_init 18 = .ok (.putfield 19, 3) := dk_181 0 19 (dk_at dksX9_init_0 18 rfl rfl)
theorem dX9_init_21 : decode cX9_init 21 = .ok (.aload_n 0, 1) := dk_42 (dk_at dksX9_init_0 21 rfl rfl)
theorem dX9_init_22 : decode cX9_init 22 = .ok (.iload_n 2, 1) := dk_28 (dk_at dksX9_init_0 22 rfl rfl)
theorem dX9_init_23 : decode cX9_init 23 = .ok (.putfield 23, 3) := dk_181 0 23 (dk_at dksX9_init_1 0 rfl rfl)
theorem dX9_init_26 : decode cX9_init 26 = .ok (.aload_n 0, 1) := dk_42 (dk_at dksX9_init_1 3 rfl rfl)
theorem dX9_init_27 : decode cX9_init 27 = .ok (.aload_n 3, 1) := dk_45 (dk_at dksX9_init_1 4 rfl rfl)
theorem dX9_init_28 : decode cX9_init 28 = .ok (.putfield 26, 3) := dk_181 0 26 (dk_at dksX9_init_1 5 rfl rfl)
theorem dX9_init_31 : decode cX9_init 31 = .ok (.aload_n 0, 1) := dk_42 (dk_at dksX9_init_1 8 rfl rfl)
theorem dX9_init_32 : decode cX9_init 32 = .ok (.aload 4, 2) := dk_25 4 (dk_at dksX9_init_1 9 rfl rfl)
theorem dX9_init_34 : decode cX9_init 34 = .ok (.putfield 30, 3) := dk_181 0 30 (dk_at dksX9_init_1 11 rfl rfl)
theorem dX9_init_37 : decode cX9_init 37 = .ok (.aload_n 0, 1) := dk_42 (dk_at dksX9_init_1 14 rfl rfl)
theorem dX9_init_38 : decode cX9_init 38 = .ok (.aload 5, 2) := dk_25 5 (dk_at dksX9_init_1 15 rfl rfl)
theorem dX9_init_40 : decode cX9_init 40 = .ok (.putfield 33, 3) := dk_181 0 33 (dk_at dksX9_init_1 17 rfl rfl)
theorem dX9_init_43 : decode cX9_init 43 = .ok (.return_, 1) := dk_177 (dk_at dksX9_init_1 20 rfl rfl)
abbrev cX9_run : ByteArray := prog_12_method_2_code
def yX9_run : MethodName := ⟨RX9, "run", "()V"⟩
def dkwX9_run_0 : List UInt8 := [42, 3, 181, 0, 37, 42, 3, 3, 182, 0, 41, 177]
abbrev dktX9_run_0 : List UInt8 := dkwX9_run_0 ++ []
theorem dksX9_run_0 : cX9_run.data.toList.drop 0 = dktX9_run_0 := by decide +kernel
theorem dX9_run_0 : decode cX9_run 0 = .ok (.aload_n 0, 1) := dk_42 (dk_at dksX9_run_0 0 rfl rfl)
theorem dX9_run_1 : decode cX9_run 1 = .ok (.iconst 0, 1) := dk_3 (dk_at dksX9_run_0 1 rfl rfl)
theorem dX9_run_2 : decode cX9_run 2 = .ok (.putfield 37, 3) := dk_181 0 37 (dk_at dksX9_run_0 2 rfl rfl)
theorem dX9_run_5 : decode cX9_run 5 = .ok (.aload_n 0, 1) := dk_42 (dk_at dksX9_run_0 5 rfl rfl)
theorem dX9_run_6 : decode cX9_run 6 = .ok (.iconst 0, 1) := dk_3 (dk_at dksX9_run_0 6 rfl rfl)
theorem dX9_run_7 : decode cX9_run 7 = .ok (.iconst 0, 1) := dk_3 (dk_at dksX9_run_0 7 rfl rfl)
theorem dX9_run_8 : decode cX9_run 8 = .ok (.invokevirtual 41, 3) := dk_182 0 41 (dk_at dksX9_run_0 8 rfl rfl)
theorem dX9_run_11 : decode cX9_run 11 = .ok (.return_, 1) := dk_177 (dk_at dksX9_run_0 11 rfl rfl)
abbrev cX9_go : ByteArray := prog_12_method_4_code
def yX9_go : MethodName := ⟨RX9, "go", "(II)V"⟩
def dkwX9_go_6 : List UInt8 := [4, 96, 28, 182, 0, 41, 167, 0, 10, 42, 45, 27, 28, 182, 0, 95, 177]
abbrev dktX9_go_6 : List UInt8 := dkwX9_go_6 ++ []
def dkwX9_go_5 : List UInt8 := [154, 0, 40, 42, 27, 4, 96, 28, 182, 0, 41, 167, 0, 29, 42, 45, 182, 0, 91, 153, 0, 21, 42, 27]
abbrev dktX9_go_5 : List UInt8 := dkwX9_go_5 ++ dktX9_go_6
def dkwX9_go_4 : List UInt8 := [42, 45, 27, 28, 182, 0, 77, 167, 0, 55, 42, 180, 0, 26, 42, 45, 182, 0, 81, 182, 0, 85]
abbrev dktX9_go_4 : List UInt8 := dkwX9_go_4 ++ dktX9_go_5
def dkwX9_go_3 : List UInt8 := [170, 0, 0, 0, 0, 81, 0, 0, 0, 0, 0, 0, 0, 2, 0, 0, 0, 26, 0, 0, 0, 36, 0, 0, 0, 62]
abbrev dktX9_go_3 : List UInt8 := dkwX9_go_3 ++ dktX9_go_4
def dkwX9_go_2 : List UInt8 := [181, 0, 37, 177, 42, 180, 0, 19, 27, 182, 0, 66, 192, 0, 72, 78, 45, 180, 0, 74]
abbrev dktX9_go_2 : List UInt8 := dkwX9_go_2 ++ dktX9_go_3
def dkwX9_go_1 : List UInt8 := [180, 0, 33, 42, 180, 0, 30, 42, 180, 0, 9, 185, 0, 60, 3, 0, 154, 0, 7, 4, 167, 0, 4, 3]
abbrev dktX9_go_1 : List UInt8 := dkwX9_go_1 ++ dktX9_go_2
def dkwX9_go_0 : List UInt8 := [42, 42, 180, 0, 51, 27, 184, 0, 54, 181, 0, 51, 27, 42, 180, 0, 23, 160, 0, 33, 42, 42]
abbrev dktX9_go_0 : List UInt8 := dkwX9_go_0 ++ dktX9_go_1
theorem dksX9_go_0 : cX9_go.data.toList.drop 0 = dktX9_go_0 := by decide +kernel
theorem dksX9_go_1 : cX9_go.data.toList.drop 22 = dktX9_go_1 := dk_seg dksX9_go_0 22 rfl rfl
theorem dksX9_go_2 : cX9_go.data.toList.drop 46 = dktX9_go_2 := dk_seg dksX9_go_1 24 rfl rfl
theorem dksX9_go_3 : cX9_go.data.toList.drop 66 = dktX9_go_3 := dk_seg dksX9_go_2 20 rfl rfl
theorem dksX9_go_4 : cX9_go.data.toList.drop 92 = dktX9_go_4 := dk_seg dksX9_go_3 26 rfl rfl
theorem dksX9_go_5 : cX9_go.data.toList.drop 114 = dktX9_go_5 := dk_seg dksX9_go_4 22 rfl rfl
theorem dksX9_go_6 : cX9_go.data.toList.drop 138 = dktX9_go_6 := dk_seg dksX9_go_5 24 rfl rfl
theorem dX9_go_0 : decode cX9_go 0 = .ok (.aload_n 0, 1) := dk_42 (dk_at dksX9_go_0 0 rfl rfl)
theorem dX9_go_1 : decode cX9_go 1 = .ok (.aload_n 0, 1) := dk_42 (dk_at dksX9_go_0 1 rfl rfl)
theorem dX9_go_2 : decode cX9_go 2 = .ok (.getfield 51, 3) := dk_180 0 51 (dk_at dksX9_go_0 2 rfl rfl)
theorem dX9_go_5 : decode cX9_go 5 = .ok (.iload_n 1, 1) := dk_27 (dk_at dksX9_go_0 5 rfl rfl)
theorem dX9_go_6 : decode cX9_go 6 = .ok (.invokestatic 54, 3) := dk_184 0 54 (dk_at dksX9_go_0 6 rfl rfl)
theorem dX9_go_9 : decode cX9_go 9 = .ok (.putfield 51, 3) := dk_181 0 51 (dk_at dksX9_go_0 9 rfl rfl)
theorem dX9_go_12 : decode cX9_go 12 = .ok (.iload_n 1, 1) := dk_27 (dk_at dksX9_go_0 12 rfl rfl)
theorem dX9_go_13 : decode cX9_go 13 = .ok (.aload_n 0, 1) := dk_42 (dk_at dksX9_go_0 13 rfl rfl)
theorem dX9_go_14 : decode cX9_go 14 = .ok (.getfield 23, 3) := dk_180 0 23 (dk_at dksX9_go_0 14 rfl rfl)
theorem dX9_go_17 : decode cX9_go 17 = .ok (.if_icmp .ne 33, 3) := dk_160 0 33 (dk_at dksX9_go_0 17 rfl rfl)
theorem dX9_go_20 : decode cX9_go 20 = .ok (.aload_n 0, 1) := dk_42 (dk_at dksX9_go_0 20 rfl rfl)
theorem dX9_go_21 : decode cX9_go 21 = .ok (.aload_n 0, 1) := dk_42 (dk_at dksX9_go_0 21 rfl rfl)
theorem dX9_go_22 : decode cX9_go 22 = .ok (.getfield 33, 3) := dk_180 0 33 (dk_at dksX9_go_1 0 rfl rfl)
theorem dX9_go_25 : decode cX9_go 25 = .ok (.aload_n 0, 1) := dk_42 (dk_at dksX9_go_1 3 rfl rfl)
theorem dX9_go_26 : decode cX9_go 26 = .ok (.getfield 30, 3) := dk_180 0 30 (dk_at dksX9_go_1 4 rfl rfl)
theorem dX9_go_29 : decode cX9_go 29 = .ok (.aload_n 0, 1) := dk_42 (dk_at dksX9_go_1 7 rfl rfl)
theorem dX9_go_30 : decode cX9_go 30 = .ok (.getfield 9, 3) := dk_180 0 9 (dk_at dksX9_go_1 8 rfl rfl)
theorem dX9_go_33 : decode cX9_go 33 = .ok (.invokeinterface 60 3, 5) := by decide +kernel
theorem dX9_go_38 : decode cX9_go 38 = .ok (.ifCond .ne 7, 3) := dk_154 0 7 (dk_at dksX9_go_1 16 rfl rfl)
theorem dX9_go_41 : decode cX9_go 41 = .ok (.iconst 1, 1) := dk_4 (dk_at dksX9_go_1 19 rfl rfl)
theorem dX9_go_42 : decode cX9_go 42 = .ok (.goto 4, 3) := dk_167 0 4 (dk_at dksX9_go_1 20 rfl rfl)
theorem dX9_go_45 : decode cX9_go 45 = .ok (.iconst 0, 1) := dk_3 (dk_at dksX9_go_1 23 rfl rfl)
theorem dX9_go_46 : decode cX9_go 46 = .ok (.putfield 37, 3) := dk_181 0 37 (dk_at dksX9_go_2 0 rfl rfl)
theorem dX9_go_49 : decode cX9_go 49 = .ok (.return_, 1) := dk_177 (dk_at dksX9_go_2 3 rfl rfl)
theorem dX9_go_50 : decode cX9_go 50 = .ok (.aload_n 0, 1) := dk_42 (dk_at dksX9_go_2 4 rfl rfl)
theorem dX9_go_51 : decode cX9_go 51 = .ok (.getfield 19, 3) := dk_180 0 19 (dk_at dksX9_go_2 5 rfl rfl)
theorem dX9_go_54 : decode cX9_go 54 = .ok (.iload_n 1, 1) := dk_27 (dk_at dksX9_go_2 8 rfl rfl)
theorem dX9_go_55 : decode cX9_go 55 = .ok (.invokevirtual 66, 3) := dk_182 0 66 (dk_at dksX9_go_2 9 rfl rfl)
theorem dX9_go_58 : decode cX9_go 58 = .ok (.checkcast 72, 3) := dk_192 0 72 (dk_at dksX9_go_2 12 rfl rfl)
theorem dX9_go_61 : decode cX9_go 61 = .ok (.astore_n 3, 1) := dk_78 (dk_at dksX9_go_2 15 rfl rfl)
theorem dX9_go_62 : decode cX9_go 62 = .ok (.aload_n 3, 1) := dk_45 (dk_at dksX9_go_2 16 rfl rfl)
theorem dX9_go_63 : decode cX9_go 63 = .ok (.getfield 74, 3) := dk_180 0 74 (dk_at dksX9_go_2 17 rfl rfl)
theorem dX9_go_66 : decode cX9_go 66 = .ok (.tableswitch 81 0 2 #[26, 36, 62], 26) := by decide +kernel
theorem dX9_go_92 : decode cX9_go 92 = .ok (.aload_n 0, 1) := dk_42 (dk_at dksX9_go_4 0 rfl rfl)
theorem dX9_go_93 : decode cX9_go 93 = .ok (.aload_n 3, 1) := dk_45 (dk_at dksX9_go_4 1 rfl rfl)
theorem dX9_go_94 : decode cX9_go 94 = .ok (.iload_n 1, 1) := dk_27 (dk_at dksX9_go_4 2 rfl rfl)
theorem dX9_go_95 : decode cX9_go 95 = .ok (.iload_n 2, 1) := dk_28 (dk_at dksX9_go_4 3 rfl rfl)
theorem dX9_go_96 : decode cX9_go 96 = .ok (.invokevirtual 77, 3) := dk_182 0 77 (dk_at dksX9_go_4 4 rfl rfl)
theorem dX9_go_99 : decode cX9_go 99 = .ok (.goto 55, 3) := dk_167 0 55 (dk_at dksX9_go_4 7 rfl rfl)
theorem dX9_go_102 : decode cX9_go 102 = .ok (.aload_n 0, 1) := dk_42 (dk_at dksX9_go_4 10 rfl rfl)
theorem dX9_go_103 : decode cX9_go 103 = .ok (.getfield 26, 3) := dk_180 0 26 (dk_at dksX9_go_4 11 rfl rfl)
theorem dX9_go_106 : decode cX9_go 106 = .ok (.aload_n 0, 1) := dk_42 (dk_at dksX9_go_4 14 rfl rfl)
theorem dX9_go_107 : decode cX9_go 107 = .ok (.aload_n 3, 1) := dk_45 (dk_at dksX9_go_4 15 rfl rfl)
theorem dX9_go_108 : decode cX9_go 108 = .ok (.invokevirtual 81, 3) := dk_182 0 81 (dk_at dksX9_go_4 16 rfl rfl)
theorem dX9_go_111 : decode cX9_go 111 = .ok (.invokevirtual 85, 3) := dk_182 0 85 (dk_at dksX9_go_4 19 rfl rfl)
theorem dX9_go_114 : decode cX9_go 114 = .ok (.ifCond .ne 40, 3) := dk_154 0 40 (dk_at dksX9_go_5 0 rfl rfl)
theorem dX9_go_117 : decode cX9_go 117 = .ok (.aload_n 0, 1) := dk_42 (dk_at dksX9_go_5 3 rfl rfl)
theorem dX9_go_118 : decode cX9_go 118 = .ok (.iload_n 1, 1) := dk_27 (dk_at dksX9_go_5 4 rfl rfl)
theorem dX9_go_119 : decode cX9_go 119 = .ok (.iconst 1, 1) := dk_4 (dk_at dksX9_go_5 5 rfl rfl)
theorem dX9_go_120 : decode cX9_go 120 = .ok (.iadd, 1) := dk_96 (dk_at dksX9_go_5 6 rfl rfl)
theorem dX9_go_121 : decode cX9_go 121 = .ok (.iload_n 2, 1) := dk_28 (dk_at dksX9_go_5 7 rfl rfl)
theorem dX9_go_122 : decode cX9_go 122 = .ok (.invokevirtual 41, 3) := dk_182 0 41 (dk_at dksX9_go_5 8 rfl rfl)
theorem dX9_go_125 : decode cX9_go 125 = .ok (.goto 29, 3) := dk_167 0 29 (dk_at dksX9_go_5 11 rfl rfl)
theorem dX9_go_128 : decode cX9_go 128 = .ok (.aload_n 0, 1) := dk_42 (dk_at dksX9_go_5 14 rfl rfl)
theorem dX9_go_129 : decode cX9_go 129 = .ok (.aload_n 3, 1) := dk_45 (dk_at dksX9_go_5 15 rfl rfl)
theorem dX9_go_130 : decode cX9_go 130 = .ok (.invokevirtual 91, 3) := dk_182 0 91 (dk_at dksX9_go_5 16 rfl rfl)
theorem dX9_go_133 : decode cX9_go 133 = .ok (.ifCond .eq 21, 3) := dk_153 0 21 (dk_at dksX9_go_5 19 rfl rfl)
theorem dX9_go_136 : decode cX9_go 136 = .ok (.aload_n 0, 1) := dk_42 (dk_at dksX9_go_5 22 rfl rfl)
theorem dX9_go_137 : decode cX9_go 137 = .ok (.iload_n 1, 1) := dk_27 (dk_at dksX9_go_5 23 rfl rfl)
theorem dX9_go_138 : decode cX9_go 138 = .ok (.iconst 1, 1) := dk_4 (dk_at dksX9_go_6 0 rfl rfl)
theorem dX9_go_139 : decode cX9_go 139 = .ok (.iadd, 1) := dk_96 (dk_at dksX9_go_6 1 rfl rfl)
theorem dX9_go_140 : decode cX9_go 140 = .ok (.iload_n 2, 1) := dk_28 (dk_at dksX9_go_6 2 rfl rfl)
theorem dX9_go_141 : decode cX9_go 141 = .ok (.invokevirtual 41, 3) := dk_182 0 41 (dk_at dksX9_go_6 3 rfl rfl)
theorem dX9_go_144 : decode cX9_go 144 = .ok (.goto 10, 3) := dk_167 0 10 (dk_at dksX9_go_6 6 rfl rfl)
theorem dX9_go_147 : decode cX9_go 147 = .ok (.aload_n 0, 1) := dk_42 (dk_at dksX9_go_6 9 rfl rfl)
theorem dX9_go_148 : decode cX9_go 148 = .ok (.aload_n 3, 1) := dk_45 (dk_at dksX9_go_6 10 rfl rfl)
theorem dX9_go_149 : decode cX9_go 149 = .ok (.iload_n 1, 1) := dk_27 (dk_at dksX9_go_6 11 rfl rfl)
theorem dX9_go_150 : decode cX9_go 150 = .ok (.iload_n 2, 1) := dk_28 (dk_at dksX9_go_6 12 rfl rfl)
theorem dX9_go_151 : decode cX9_go 151 = .ok (.invokevirtual 95, 3) := dk_182 0 95 (dk_at dksX9_go_6 13 rfl rfl)
theorem dX9_go_154 : decode cX9_go 154 = .ok (.return_, 1) := dk_177 (dk_at dksX9_go_6 16 rfl rfl)
abbrev cX9_goAtom : ByteArray := prog_12_method_8_code
def yX9_goAtom : MethodName := ⟨RX9, "goAtom", "(LRulehearth$Item;II)V"⟩
def dkwX9_goAtom_6 : List UInt8 := [96, 29, 4, 96, 182, 0, 41, 42, 21, 5, 182, 0, 134, 132, 6, 1, 167, 255, 138, 177]
abbrev dktX9_goAtom_6 : List UInt8 := dkwX9_goAtom_6 ++ []
def dkwX9_goAtom_5 : List UInt8 := [21, 7, 153, 0, 29, 42, 180, 0, 9, 29, 42, 180, 0, 26, 180, 0, 124, 21, 6, 46, 79, 42, 28, 4]
abbrev dktX9_goAtom_5 : List UInt8 := dkwX9_goAtom_5 ++ dktX9_goAtom_6
def dkwX9_goAtom_4 : List UInt8 := [21, 6, 46, 21, 8, 184, 0, 127, 42, 180, 0, 30, 184, 0, 130, 54, 7, 132, 8, 1, 167, 255, 207]
abbrev dktX9_goAtom_4 : List UInt8 := dkwX9_goAtom_4 ++ dktX9_goAtom_5
def dkwX9_goAtom_3 : List UInt8 := [190, 162, 0, 45, 21, 7, 153, 0, 40, 43, 180, 0, 101, 21, 8, 46, 42, 180, 0, 26, 180, 0, 124]
abbrev dktX9_goAtom_3 : List UInt8 := dkwX9_goAtom_3 ++ dktX9_goAtom_4
def dkwX9_goAtom_2 : List UInt8 := [180, 0, 37, 154, 0, 110, 42, 21, 6, 29, 182, 0, 120, 54, 7, 3, 54, 8, 21, 8, 43, 180, 0, 101]
abbrev dktX9_goAtom_2 : List UInt8 := dkwX9_goAtom_2 ++ dktX9_goAtom_3
def dkwX9_goAtom_1 : List UInt8 := [42, 180, 0, 26, 18, 111, 43, 180, 0, 98, 104, 182, 0, 112, 54, 6, 21, 6, 21, 4, 162, 0, 117, 42]
abbrev dktX9_goAtom_1 : List UInt8 := dkwX9_goAtom_1 ++ dktX9_goAtom_2
def dkwX9_goAtom_0 : List UInt8 := [42, 180, 0, 26, 18, 111, 43, 180, 0, 98, 4, 96, 104, 182, 0, 112, 54, 4, 42, 182, 0, 116, 54, 5]
abbrev dktX9_goAtom_0 : List UInt8 := dkwX9_goAtom_0 ++ dktX9_goAtom_1
theorem dksX9_goAtom_0 : cX9_goAtom.data.toList.drop 0 = dktX9_goAtom_0 := by decide +kernel
theorem dksX9_goAtom_1 : cX9_goAtom.data.toList.drop 24 = dktX9_goAtom_1 := dk_seg dksX9_goAtom_0 24 rfl rfl
theorem dksX9_goAtom_2 : cX9_goAtom.data.toList.drop 48 = dktX9_goAtom_2 := dk_seg dksX9_goAtom_1 24 rfl rfl
theorem dksX9_goAtom_3 : cX9_goAtom.data.toList.drop 72 = dktX9_goAtom_3 := dk_seg dksX9_goAtom_2 24 rfl rfl
theorem dksX9_goAtom_4 : cX9_goAtom.data.toList.drop 95 = dktX9_goAtom_4 := dk_seg dksX9_goAtom_3 23 rfl rfl
theorem dksX9_goAtom_5 : cX9_goAtom.data.toList.drop 118 = dktX9_goAtom_5 := dk_seg dksX9_goAtom_4 23 rfl rfl
theorem dksX9_goAtom_6 : cX9_goAtom.data.toList.drop 142 = dktX9_goAtom_6 := dk_seg dksX9_goAtom_5 24 rfl rfl
theorem dX9_goAtom_0 : decode cX9_goAtom 0 = .ok (.aload_n 0, 1) := dk_42 (dk_at dksX9_goAtom_0 0 rfl rfl)
theorem dX9_goAtom_1 : decode cX9_goAtom 1 = .ok (.getfield 26, 3) := dk_180 0 26 (dk_at dksX9_goAtom_0 1 rfl rfl)
theorem dX9_goAtom_4 : decode cX9_goAtom 4 = .ok (.ldc 111, 2) := dk_18 111 (dk_at dksX9_goAtom_0 4 rfl rfl)
theorem dX9_goAtom_6 : decode cX9_goAtom 6 = .ok (.aload_n 1, 1) := dk_43 (dk_at dksX9_goAtom_0 6 rfl rfl)
theorem dX9_goAtom_7 : decode cX9_goAtom 7 = .ok (.getfield 98, 3) := dk_180 0 98 (dk_at dksX9_goAtom_0 7 rfl rfl)
theorem dX9_goAtom_10 : decode cX9_goAtom 10 = .ok (.iconst 1, 1) := dk_4 (dk_at dksX9_goAtom_0 10 rfl rfl)
theorem dX9_goAtom_11 : decode cX9_goAtom 11 = .ok (.iadd, 1) := dk_96 (dk_at dksX9_goAtom_0 11 rfl rfl)
theorem dX9_goAtom_12 : decode cX9_goAtom 12 = .ok (.imul, 1) := dk_104 (dk_at dksX9_goAtom_0 12 rfl rfl)
theorem dX9_goAtom_13 : decode cX9_goAtom 13 = .ok (.invokevirtual 112, 3) := dk_182 0 112 (dk_at dksX9_goAtom_0 13 rfl rfl)
theorem dX9_goAtom_16 : decode cX9_goAtom 16 = .ok (.istore 4, 2) := dk_54 4 (dk_at dksX9_goAtom_0 16 rfl rfl)
theorem dX9_goAtom_18 : decode cX9_goAtom 18 = .ok (.aload_n 0, 1) := dk_42 (dk_at dksX9_goAtom_0 18 rfl rfl)
theorem dX9_goAtom_19 : decode cX9_goAtom 19 = .ok (.invokevirtual 116, 3) := dk_182 0 116 (dk_at dksX9_goAtom_0 19 rfl rfl)
theorem dX9_goAtom_22 : decode cX9_goAtom 22 = .ok (.istore 5, 2) := dk_54 5 (dk_at dksX9_goAtom_0 22 rfl rfl)
theorem dX9_goAtom_24 : decode cX9_goAtom 24 = .ok (.aload_n 0, 1) := dk_42 (dk_at dksX9_goAtom_1 0 rfl rfl)
theorem dX9_goAtom_25 : decode cX9_goAtom 25 = .ok (.getfield 26, 3) := dk_180 0 26 (dk_at dksX9_goAtom_1 1 rfl rfl)
theorem dX9_goAtom_28 : decode cX9_goAtom 28 = .ok (.ldc 111, 2) := dk_18 111 (dk_at dksX9_goAtom_1 4 rfl rfl)
theorem dX9_goAtom_30 : decode cX9_goAtom 30 = .ok (.aload_n 1, 1) := dk_43 (dk_at dksX9_goAtom_1 6 rfl rfl)
theorem dX9_goAtom_31 : decode cX9_goAtom 31 = .ok (.getfield 98, 3) := dk_180 0 98 (dk_at dksX9_goAtom_1 7 rfl rfl)
theorem dX9_goAtom_34 : decode cX9_goAtom 34 = .ok (.imul, 1) := dk_104 (dk_at dksX9_goAtom_1 10 rfl rfl)
theorem dX9_goAtom_35 : decode cX9_goAtom 35 = .ok (.invokevirtual 112, 3) := dk_182 0 112 (dk_at dksX9_goAtom_1 11 rfl rfl)
theorem dX9_goAtom_38 : decode cX9_goAtom 38 = .ok (.istore 6, 2) := dk_54 6 (dk_at dksX9_goAtom_1 14 rfl rfl)
theorem dX9_goAtom_40 : decode cX9_goAtom 40 = .ok (.iload 6, 2) := dk_21 6 (dk_at dksX9_goAtom_1 16 rfl rfl)
theorem dX9_goAtom_42 : decode cX9_goAtom 42 = .ok (.iload 4, 2) := dk_21 4 (dk_at dksX9_goAtom_1 18 rfl rfl)
theorem dX9_goAtom_44 : decode cX9_goAtom 44 = .ok (.if_icmp .ge 117, 3) := dk_162 0 117 (dk_at dksX9_goAtom_1 20 rfl rfl)
theorem dX9_goAtom_47 : decode cX9_goAtom 47 = .ok (.aload_n 0, 1) := dk_42 (dk_at dksX9_goAtom_1 23 rfl rfl)
theorem dX9_goAtom_48 : decode cX9_goAtom 48 = .ok (.getfield 37, 3) := dk_180 0 37 (dk_at dksX9_goAtom_2 0 rfl rfl)
theorem dX9_goAtom_51 : decode cX9_goAtom 51 = .ok (.ifCond .ne 110, 3) := dk_154 0 110 (dk_at dksX9_goAtom_2 3 rfl rfl)
theorem dX9_goAtom_54 : decode cX9_goAtom 54 = .ok (.aload_n 0, 1) := dk_42 (dk_at dksX9_goAtom_2 6 rfl rfl)
theorem dX9_goAtom_55 : decode cX9_goAtom 55 = .ok (.iload 6, 2) := dk_21 6 (dk_at dksX9_goAtom_2 7 rfl rfl)
theorem dX9_goAtom_57 : decode cX9_goAtom 57 = .ok (.iload_n 3, 1) := dk_29 (dk_at dksX9_goAtom_2 9 rfl rfl)
theorem dX9_goAtom_58 : decode cX9_goAtom 58 = .ok (.invokevirtual 120, 3) := dk_182 0 120 (dk_at dksX9_goAtom_2 10 rfl rfl)
theorem dX9_goAtom_61 : decode cX9_goAtom 61 = .ok (.istore 7, 2) := dk_54 7 (dk_at dksX9_goAtom_2 13 rfl rfl)
theorem dX9_goAtom_63 : decode cX9_goAtom 63 = .ok (.iconst 0, 1) := dk_3 (dk_at dksX9_goAtom_2 15 rfl rfl)
theorem dX9_goAtom_64 : decode cX9_goAtom 64 = .ok (.istore 8, 2) := dk_54 8 (dk_at dksX9_goAtom_2 16 rfl rfl)
theorem dX9_goAtom_66 : decode cX9_goAtom 66 = .ok (.iload 8, 2) := dk_21 8 (dk_at dksX9_goAtom_2 18 rfl rfl)
theorem dX9_goAtom_68 : decode cX9_goAtom 68 = .ok (.aload_n 1, 1) := dk_43 (dk_at dksX9_goAtom_2 20 rfl rfl)
theorem dX9_goAtom_69 : decode cX9_goAtom 69 = .ok (.getfield 101, 3) := dk_180 0 101 (dk_at dksX9_goAtom_2 21 rfl rfl)
theorem dX9_goAtom_72 : decode cX9_goAtom 72 = .ok (.arraylength, 1) := dk_190 (dk_at dksX9_goAtom_3 0 rfl rfl)
theorem dX9_goAtom_73 : decode cX9_goAtom 73 = .ok (.if_icmp .ge 45, 3) := dk_162 0 45 (dk_at dksX9_goAtom_3 1 rfl rfl)
theorem dX9_goAtom_76 : decode cX9_goAtom 76 = .ok (.iload 7, 2) := dk_21 7 (dk_at dksX9_goAtom_3 4 rfl rfl)
theorem dX9_goAtom_78 : decode cX9_goAtom 78 = .ok (.ifCond .eq 40, 3) := dk_153 0 40 (dk_at dksX9_goAtom_3 6 rfl rfl)
theorem dX9_goAtom_81 : decode cX9_goAtom 81 = .ok (.aload_n 1, 1) := dk_43 (dk_at dksX9_goAtom_3 9 rfl rfl)
theorem dX9_goAtom_82 : decode cX9_goAtom 82 = .ok (.getfield 101, 3) := dk_180 0 101 (dk_at dksX9_goAtom_3 10 rfl rfl)
theorem dX9_goAtom_85 : decode cX9_goAtom 85 = .ok (.iload 8, 2) := dk_21 8 (dk_at dksX9_goAtom_3 13 rfl rfl)
theorem dX9_goAtom_87 : decode cX9_goAtom 87 = .ok (.iaload, 1) := dk_46 (dk_at dksX9_goAtom_3 15 rfl rfl)
theorem dX9_goAtom_88 : decode cX9_goAtom 88 = .ok (.aload_n 0, 1) := dk_42 (dk_at dksX9_goAtom_3 16 rfl rfl)
theorem dX9_goAtom_89 : decode cX9_goAtom 89 = .ok (.getfield 26, 3) := dk_180 0 26 (dk_at dksX9_goAtom_3 17 rfl rfl)
theorem dX9_goAtom_92 : decode cX9_goAtom 92 = .ok (.getfield 124, 3) := dk_180 0 124 (dk_at dksX9_goAtom_3 20 rfl rfl)
theorem dX9_goAtom_95 : decode cX9_goAtom 95 = .ok (.iload 6, 2) := dk_21 6 (dk_at dksX9_goAtom_4 0 rfl rfl)
theorem dX9_goAtom_97 : decode cX9_goAtom 97 = .ok (.iaload, 1) := dk_46 (dk_at dksX9_goAtom_4 2 rfl rfl)
theorem dX9_goAtom_98 : decode cX9_goAtom 98 = .ok (.iload 8, 2) := dk_21 8 (dk_at dksX9_goAtom_4 3 rfl rfl)
theorem dX9_goAtom_100 : decode cX9_goAtom 100 = .ok (.invokestatic 127, 3) := dk_184 0 127 (dk_at dksX9_goAtom_4 5 rfl rfl)
theorem dX9_goAtom_103 : decode cX9_goAtom 103 = .ok (.aload_n 0, 1) := dk_42 (dk_at dksX9_goAtom_4 8 rfl rfl)
theorem dX9_goAtom_104 : decode cX9_goAtom 104 = .ok (.getfield 30, 3) := dk_180 0 30 (dk_at dksX9_goAtom_4 9 rfl rfl)
theorem dX9_goAtom_107 : decode cX9_goAtom 107 = .ok (.invokestatic 130, 3) := dk_184 0 130 (dk_at dksX9_goAtom_4 12 rfl rfl)
theorem dX9_goAtom_110 : decode cX9_goAtom 110 = .ok (.istore 7, 2) := dk_54 7 (dk_at dksX9_goAtom_4 15 rfl rfl)
theorem dX9_goAtom_112 : decode cX9_goAtom 112 = .ok (.iinc 8 1, 3) := dk_132 8 1 (dk_at dksX9_goAtom_4 17 rfl rfl)
theorem dX9_goAtom_115 : decode cX9_goAtom 115 = .ok (.goto (-49), 3) := dk_167 255 207 (dk_at dksX9_goAtom_4 20 rfl rfl)
theorem dX9_goAtom_118 : decode cX9_goAtom 118 = .ok (.iload 7, 2) := dk_21 7 (dk_at dksX9_goAtom_5 0 rfl rfl)
theorem dX9_goAtom_120 : decode cX9_goAtom 120 = .ok (.ifCond .eq 29, 3) := dk_153 0 29 (dk_at dksX9_goAtom_5 2 rfl rfl)
theorem dX9_goAtom_123 : decode cX9_goAtom 123 = .ok (.aload_n 0, 1) := dk_42 (dk_at dksX9_goAtom_5 5 rfl rfl)
theorem dX9_goAtom_124 : decode cX9_goAtom 124 = .ok (.getfield 9, 3) := dk_180 0 9 (dk_at dksX9_goAtom_5 6 rfl rfl)
theorem dX9_goAtom_127 : decode cX9_goAtom 127 = .ok (.iload_n 3, 1) := dk_29 (dk_at dksX9_goAtom_5 9 rfl rfl)
theorem dX9_goAtom_128 : decode cX9_goAtom 128 = .ok (.aload_n 0, 1) := dk_42 (dk_at dksX9_goAtom_5 10 rfl rfl)
theorem dX9_goAtom_129 : decode cX9_goAtom 129 = .ok (.getfield 26, 3) := dk_180 0 26 (dk_at dksX9_goAtom_5 11 rfl rfl)
theorem dX9_goAtom_132 : decode cX9_goAtom 132 = .ok (.getfield 124, 3) := dk_180 0 124 (dk_at dksX9_goAtom_5 14 rfl rfl)
theorem dX9_goAtom_135 : decode cX9_goAtom 135 = .ok (.iload 6, 2) := dk_21 6 (dk_at dksX9_goAtom_5 17 rfl rfl)
theorem dX9_goAtom_137 : decode cX9_goAtom 137 = .ok (.iaload, 1) := dk_46 (dk_at dksX9_goAtom_5 19 rfl rfl)
theorem dX9_goAtom_138 : decode cX9_goAtom 138 = .ok (.iastore, 1) := dk_79 (dk_at dksX9_goAtom_5 20 rfl rfl)
theorem dX9_goAtom_139 : decode cX9_goAtom 139 = .ok (.aload_n 0, 1) := dk_42 (dk_at dksX9_goAtom_5 21 rfl rfl)
theorem dX9_goAtom_140 : decode cX9_goAtom 140 = .ok (.iload_n 2, 1) := dk_28 (dk_at dksX9_goAtom_5 22 rfl rfl)
theorem dX9_goAtom_141 : decode cX9_goAtom 141 = .ok (.iconst 1, 1) := dk_4 (dk_at dksX9_goAtom_5 23 rfl rfl)
theorem dX9_goAtom_142 : decode cX9_goAtom 142 = .ok (.iadd, 1) := dk_96 (dk_at dksX9_goAtom_6 0 rfl rfl)
theorem dX9_goAtom_143 : decode cX9_goAtom 143 = .ok (.iload_n 3, 1) := dk_29 (dk_at dksX9_goAtom_6 1 rfl rfl)
theorem dX9_goAtom_144 : decode cX9_goAtom 144 = .ok (.iconst 1, 1) := dk_4 (dk_at dksX9_goAtom_6 2 rfl rfl)
theorem dX9_goAtom_145 : decode cX9_goAtom 145 = .ok (.iadd, 1) := dk_96 (dk_at dksX9_goAtom_6 3 rfl rfl)
theorem dX9_goAtom_146 : decode cX9_goAtom 146 = .ok (.invokevirtual 41, 3) := dk_182 0 41 (dk_at dksX9_goAtom_6 4 rfl rfl)
theorem dX9_goAtom_149 : decode cX9_goAtom 149 = .ok (.aload_n 0, 1) := dk_42 (dk_at dksX9_goAtom_6 7 rfl rfl)
theorem dX9_goAtom_150 : decode cX9_goAtom 150 = .ok (.iload 5, 2) := dk_21 5 (dk_at dksX9_goAtom_6 8 rfl rfl)
theorem dX9_goAtom_152 : decode cX9_goAtom 152 = .ok (.invokevirtual 134, 3) := dk_182 0 134 (dk_at dksX9_goAtom_6 10 rfl rfl)
theorem dX9_goAtom_155 : decode cX9_goAtom 155 = .ok (.iinc 6 1, 3) := dk_132 6 1 (dk_at dksX9_goAtom_6 13 rfl rfl)
theorem dX9_goAtom_158 : decode cX9_goAtom 158 = .ok (.goto (-118), 3) := dk_167 255 138 (dk_at dksX9_goAtom_6 16 rfl rfl)
theorem dX9_goAtom_161 : decode cX9_goAtom 161 = .ok (.return_, 1) := dk_177 (dk_at dksX9_goAtom_6 19 rfl rfl)
abbrev cX9_mask : ByteArray := prog_12_method_10_code
def yX9_mask : MethodName := ⟨RX9, "mask", "()I"⟩
def dkwX9_mask_1 : List UInt8 := [167, 0, 4, 3, 128, 60, 132, 2, 1, 167, 255, 227, 27, 172]
abbrev dktX9_mask_1 : List UInt8 := dkwX9_mask_1 ++ []
def dkwX9_mask_0 : List UInt8 := [3, 60, 3, 61, 28, 16, 8, 162, 0, 29, 27, 42, 180, 0, 30, 28, 46, 2, 159, 0, 9, 4, 28, 120]
abbrev dktX9_mask_0 : List UInt8 := dkwX9_mask_0 ++ dktX9_mask_1
theorem dksX9_mask_0 : cX9_mask.data.toList.drop 0 = dktX9_mask_0 := by decide +kernel
theorem dksX9_mask_1 : cX9_mask.data.toList.drop 24 = dktX9_mask_1 := dk_seg dksX9_mask_0 24 rfl rfl
theorem dX9_mask_0 : decode cX9_mask 0 = .ok (.iconst 0, 1) := dk_3 (dk_at dksX9_mask_0 0 rfl rfl)
theorem dX9_mask_1 : decode cX9_mask 1 = .ok (.istore_n 1, 1) := dk_60 (dk_at dksX9_mask_0 1 rfl rfl)
theorem dX9_mask_2 : decode cX9_mask 2 = .ok (.iconst 0, 1) := dk_3 (dk_at dksX9_mask_0 2 rfl rfl)
theorem dX9_mask_3 : decode cX9_mask 3 = .ok (.istore_n 2, 1) := dk_61 (dk_at dksX9_mask_0 3 rfl rfl)
theorem dX9_mask_4 : decode cX9_mask 4 = .ok (.iload_n 2, 1) := dk_28 (dk_at dksX9_mask_0 4 rfl rfl)
theorem dX9_mask_5 : decode cX9_mask 5 = .ok (.bipush 8, 2) := dk_16 8 (dk_at dksX9_mask_0 5 rfl rfl)
theorem dX9_mask_7 : decode cX9_mask 7 = .ok (.if_icmp .ge 29, 3) := dk_162 0 29 (dk_at dksX9_mask_0 7 rfl rfl)
theorem dX9_mask_10 : decode cX9_mask 10 = .ok (.iload_n 1, 1) := dk_27 (dk_at dksX9_mask_0 10 rfl rfl)
theorem dX9_mask_11 : decode cX9_mask 11 = .ok (.aload_n 0, 1) := dk_42 (dk_at dksX9_mask_0 11 rfl rfl)
theorem dX9_mask_12 : decode cX9_mask 12 = .ok (.getfield 30, 3) := dk_180 0 30 (dk_at dksX9_mask_0 12 rfl rfl)
theorem dX9_mask_15 : decode cX9_mask 15 = .ok (.iload_n 2, 1) := dk_28 (dk_at dksX9_mask_0 15 rfl rfl)
theorem dX9_mask_16 : decode cX9_mask 16 = .ok (.iaload, 1) := dk_46 (dk_at dksX9_mask_0 16 rfl rfl)
theorem dX9_mask_17 : decode cX9_mask 17 = .ok (.iconst (-1), 1) := dk_2 (dk_at dksX9_mask_0 17 rfl rfl)
theorem dX9_mask_18 : decode cX9_mask 18 = .ok (.if_icmp .eq 9, 3) := dk_159 0 9 (dk_at dksX9_mask_0 18 rfl rfl)
theorem dX9_mask_21 : decode cX9_mask 21 = .ok (.iconst 1, 1) := dk_4 (dk_at dksX9_mask_0 21 rfl rfl)
theorem dX9_mask_22 : decode cX9_mask 22 = .ok (.iload_n 2, 1) := dk_28 (dk_at dksX9_mask_0 22 rfl rfl)
theorem dX9_mask_23 : decode cX9_mask 23 = .ok (.ishl, 1) := dk_120 (dk_at dksX9_mask_0 23 rfl rfl)
theorem dX9_mask_24 : decode cX9_mask 24 = .ok (.goto 4, 3) := dk_167 0 4 (dk_at dksX9_mask_1 0 rfl rfl)
theorem dX9_mask_27 : decode cX9_mask 27 = .ok (.iconst 0, 1) := dk_3 (dk_at dksX9_mask_1 3 rfl rfl)
theorem dX9_mask_28 : decode cX9_mask 28 = .ok (.ior, 1) := dk_128 (dk_at dksX9_mask_1 4 rfl rfl)
theorem dX9_mask_29 : decode cX9_mask 29 = .ok (.istore_n 1, 1) := dk_60 (dk_at dksX9_mask_1 5 rfl rfl)
theorem dX9_mask_30 : decode cX9_mask 30 = .ok (.iinc 2 1, 3) := dk_132 2 1 (dk_at dksX9_mask_1 6 rfl rfl)
theorem dX9_mask_33 : decode cX9_mask 33 = .ok (.goto (-29), 3) := dk_167 255 227 (dk_at dksX9_mask_1 9 rfl rfl)
theorem dX9_mask_36 : decode cX9_mask 36 = .ok (.iload_n 1, 1) := dk_27 (dk_at dksX9_mask_1 12 rfl rfl)
theorem dX9_mask_37 : decode cX9_mask 37 = .ok (.ireturn, 1) := dk_172 (dk_at dksX9_mask_1 13 rfl rfl)
abbrev cX9_isAllowed : ByteArray := prog_12_method_7_code
def yX9_isAllowed : MethodName := ⟨RX9, "isAllowed", "(II)Z"⟩
def dkwX9_isAllowed_2 : List UInt8 := [180, 0, 108, 27, 46, 42, 180, 0, 45, 160, 0, 7, 4, 167, 0, 4, 3, 172]
abbrev dktX9_isAllowed_2 : List UInt8 := dkwX9_isAllowed_2 ++ []
def dkwX9_isAllowed_1 : List UInt8 := [46, 42, 180, 0, 45, 162, 0, 34, 167, 0, 27, 28, 42, 180, 0, 15, 163, 0, 19, 42, 180, 0, 26]
abbrev dktX9_isAllowed_1 : List UInt8 := dkwX9_isAllowed_1 ++ dktX9_isAllowed_2
def dkwX9_isAllowed_0 : List UInt8 := [42, 180, 0, 15, 2, 159, 0, 54, 28, 42, 180, 0, 15, 162, 0, 22, 42, 180, 0, 26, 180, 0, 108, 27]
abbrev dktX9_isAllowed_0 : List UInt8 := dkwX9_isAllowed_0 ++ dktX9_isAllowed_1
theorem dksX9_isAllowed_0 : cX9_isAllowed.data.toList.drop 0 = dktX9_isAllowed_0 := by decide +kernel
theorem dksX9_isAllowed_1 : cX9_isAllowed.data.toList.drop 24 = dktX9_isAllowed_1 := dk_seg dksX9_isAllowed_0 24 rfl rfl
theorem dksX9_isAllowed_2 : cX9_isAllowed.data.toList.drop 47 = dktX9_isAllowed_2 := dk_seg dksX9_isAllowed_1 23 rfl rfl
theorem dX9_isAllowed_0 : decode cX9_isAllowed 0 = .ok (.aload_n 0, 1) := dk_42 (dk_at dksX9_isAllowed_0 0 rfl rfl)
theorem dX9_isAllowed_1 : decode cX9_isAllowed 1 = .ok (.getfield 15, 3) := dk_180 0 15 (dk_at dksX9_isAllowed_0 1 rfl rfl)
theorem dX9_isAllowed_4 : decode cX9_isAllowed 4 = .ok (.iconst (-1), 1) := dk_2 (dk_at dksX9_isAllowed_0 4 rfl rfl)
theorem dX9_isAllowed_5 : decode cX9_isAllowed 5 = .ok (.if_icmp .eq 54, 3) := dk_159 0 54 (dk_at dksX9_isAllowed_0 5 rfl rfl)
theorem dX9_isAllowed_8 : decode cX9_isAllowed 8 = .ok (.iload_n 2, 1) := dk_28 (dk_at dksX9_isAllowed_0 8 rfl rfl)
theorem dX9_isAllowed_9 : decode cX9_isAllowed 9 = .ok (.aload_n 0, 1) := dk_42 (dk_at dksX9_isAllowed_0 9 rfl rfl)
theorem dX9_isAllowed_10 : decode cX9_isAllowed 10 = .ok (.getfield 15, 3) := dk_180 0 15 (dk_at dksX9_isAllowed_0 10 rfl rfl)
theorem dX9_isAllowed_13 : decode cX9_isAllowed 13 = .ok (.if_icmp .ge 22, 3) := dk_162 0 22 (dk_at dksX9_isAllowed_0 13 rfl rfl)
theorem dX9_isAllowed_16 : decode cX9_isAllowed 16 = .ok (.aload_n 0, 1) := dk_42 (dk_at dksX9_isAllowed_0 16 rfl rfl)
theorem dX9_isAllowed_17 : decode cX9_isAllowed 17 = .ok (.getfield 26, 3) := dk_180 0 26 (dk_at dksX9_isAllowed_0 17 rfl rfl)
theorem dX9_isAllowed_20 : decode cX9_isAllowed 20 = .ok (.getfield 108, 3) := dk_180 0 108 (dk_at dksX9_isAllowed_0 20 rfl rfl)
theorem dX9_isAllowed_23 : decode cX9_isAllowed 23 = .ok (.iload_n 1, 1) := dk_27 (dk_at dksX9_isAllowed_0 23 rfl rfl)
theorem dX9_isAllowed_24 : decode cX9_isAllowed 24 = .ok (.iaload, 1) := dk_46 (dk_at dksX9_isAllowed_1 0 rfl rfl)
theorem dX9_isAllowed_25 : decode cX9_isAllowed 25 = .ok (.aload_n 0, 1) := dk_42 (dk_at dksX9_isAllowed_1 1 rfl rfl)
theorem dX9_isAllowed_26 : decode cX9_isAllowed 26 = .ok (.getfield 45, 3) := dk_180 0 45 (dk_at dksX9_isAllowed_1 2 rfl rfl)
theorem dX9_isAllowed_29 : decode cX9_isAllowed 29 = .ok (.if_icmp .ge 34, 3) := dk_162 0 34 (dk_at dksX9_isAllowed_1 5 rfl rfl)
theorem dX9_isAllowed_32 : decode cX9_isAllowed 32 = .ok (.goto 27, 3) := dk_167 0 27 (dk_at dksX9_isAllowed_1 8 rfl rfl)
theorem dX9_isAllowed_35 : decode cX9_isAllowed 35 = .ok (.iload_n 2, 1) := dk_28 (dk_at dksX9_isAllowed_1 11 rfl rfl)
theorem dX9_isAllowed_36 : decode cX9_isAllowed 36 = .ok (.aload_n 0, 1) := dk_42 (dk_at dksX9_isAllowed_1 12 rfl rfl)
theorem dX9_isAllowed_37 : decode cX9_isAllowed 37 = .ok (.getfield 15, 3) := dk_180 0 15 (dk_at dksX9_isAllowed_1 13 rfl rfl)
theorem dX9_isAllowed_40 : decode cX9_isAllowed 40 = .ok (.if_icmp .gt 19, 3) := dk_163 0 19 (dk_at dksX9_isAllowed_1 16 rfl rfl)
theorem dX9_isAllowed_43 : decode cX9_isAllowed 43 = .ok (.aload_n 0, 1) := dk_42 (dk_at dksX9_isAllowed_1 19 rfl rfl)
theorem dX9_isAllowed_44 : decode cX9_isAllowed 44 = .ok (.getfield 26, 3) := dk_180 0 26 (dk_at dksX9_isAllowed_1 20 rfl rfl)
theorem dX9_isAllowed_47 : decode cX9_isAllowed 47 = .ok (.getfield 108, 3) := dk_180 0 108 (dk_at dksX9_isAllowed_2 0 rfl rfl)
theorem dX9_isAllowed_50 : decode cX9_isAllowed 50 = .ok (.iload_n 1, 1) := dk_27 (dk_at dksX9_isAllowed_2 3 rfl rfl)
theorem dX9_isAllowed_51 : decode cX9_isAllowed 51 = .ok (.iaload, 1) := dk_46 (dk_at dksX9_isAllowed_2 4 rfl rfl)
theorem dX9_isAllowed_52 : decode cX9_isAllowed 52 = .ok (.aload_n 0, 1) := dk_42 (dk_at dksX9_isAllowed_2 5 rfl rfl)
theorem dX9_isAllowed_53 : decode cX9_isAllowed 53 = .ok (.getfield 45, 3) := dk_180 0 45 (dk_at dksX9_isAllowed_2 6 rfl rfl)
theorem dX9_isAllowed_56 : decode cX9_isAllowed 56 = .ok (.if_icmp .ne 7, 3) := dk_160 0 7 (dk_at dksX9_isAllowed_2 9 rfl rfl)
theorem dX9_isAllowed_59 : decode cX9_isAllowed 59 = .ok (.iconst 1, 1) := dk_4 (dk_at dksX9_isAllowed_2 12 rfl rfl)
theorem dX9_isAllowed_60 : decode cX9_isAllowed 60 = .ok (.goto 4, 3) := dk_167 0 4 (dk_at dksX9_isAllowed_2 13 rfl rfl)
theorem dX9_isAllowed_63 : decode cX9_isAllowed 63 = .ok (.iconst 0, 1) := dk_3 (dk_at dksX9_isAllowed_2 16 rfl rfl)
theorem dX9_isAllowed_64 : decode cX9_isAllowed 64 = .ok (.ireturn, 1) := dk_172 (dk_at dksX9_isAllowed_2 17 rfl rfl)
abbrev cX9_unbind : ByteArray := prog_12_method_11_code
def yX9_unbind : MethodName := ⟨RX9, "unbind", "(I)V"⟩
def dkwX9_unbind_1 : List UInt8 := [180, 0, 30, 28, 46, 167, 0, 4, 2, 79, 132, 2, 1, 167, 255, 222, 177]
abbrev dktX9_unbind_1 : List UInt8 := dkwX9_unbind_1 ++ []
def dkwX9_unbind_0 : List UInt8 := [3, 61, 28, 16, 8, 162, 0, 34, 42, 180, 0, 30, 28, 27, 28, 122, 4, 126, 4, 160, 0, 12, 42]
abbrev dktX9_unbind_0 : List UInt8 := dkwX9_unbind_0 ++ dktX9_unbind_1
theorem dksX9_unbind_0 : cX9_unbind.data.toList.drop 0 = dktX9_unbind_0 := by decide +kernel
theorem dksX9_unbind_1 : cX9_unbind.data.toList.drop 23 = dktX9_unbind_1 := dk_seg dksX9_unbind_0 23 rfl rfl
theorem dX9_unbind_0 : decode cX9_unbind 0 = .ok (.iconst 0, 1) := dk_3 (dk_at dksX9_unbind_0 0 rfl rfl)
theorem dX9_unbind_1 : decode cX9_unbind 1 = .ok (.istore_n 2, 1) := dk_61 (dk_at dksX9_unbind_0 1 rfl rfl)
theorem dX9_unbind_2 : decode cX9_unbind 2 = .ok (.iload_n 2, 1) := dk_28 (dk_at dksX9_unbind_0 2 rfl rfl)
theorem dX9_unbind_3 : decode cX9_unbind 3 = .ok (.bipush 8, 2) := dk_16 8 (dk_at dksX9_unbind_0 3 rfl rfl)
theorem dX9_unbind_5 : decode cX9_unbind 5 = .ok (.if_icmp .ge 34, 3) := dk_162 0 34 (dk_at dksX9_unbind_0 5 rfl rfl)
theorem dX9_unbind_8 : decode cX9_unbind 8 = .ok (.aload_n 0, 1) := dk_42 (dk_at dksX9_unbind_0 8 rfl rfl)
theorem dX9_unbind_9 : decode cX9_unbind 9 = .ok (.getfield 30, 3) := dk_180 0 30 (dk_at dksX9_unbind_0 9 rfl rfl)
theorem dX9_unbind_12 : decode cX9_unbind 12 = .ok (.iload_n 2, 1) := dk_28 (dk_at dksX9_unbind_0 12 rfl rfl)
theorem dX9_unbind_13 : decode cX9_unbind 13 = .ok (.iload_n 1, 1) := dk_27 (dk_at dksX9_unbind_0 13 rfl rfl)
theorem dX9_unbind_14 : decode cX9_unbind 14 = .ok (.iload_n 2, 1) := dk_28 (dk_at dksX9_unbind_0 14 rfl rfl)
theorem dX9_unbind_15 : decode cX9_unbind 15 = .ok (.ishr, 1) := dk_122 (dk_at dksX9_unbind_0 15 rfl rfl)
theorem dX9_unbind_16 : decode cX9_unbind 16 = .ok (.iconst 1, 1) := dk_4 (dk_at dksX9_unbind_0 16 rfl rfl)
theorem dX9_unbind_17 : decode cX9_unbind 17 = .ok (.iand, 1) := dk_126 (dk_at dksX9_unbind_0 17 rfl rfl)
theorem dX9_unbind_18 : decode cX9_unbind 18 = .ok (.iconst 1, 1) := dk_4 (dk_at dksX9_unbind_0 18 rfl rfl)
theorem dX9_unbind_19 : decode cX9_unbind 19 = .ok (.if_icmp .ne 12, 3) := dk_160 0 12 (dk_at dksX9_unbind_0 19 rfl rfl)
theorem dX9_unbind_22 : decode cX9_unbind 22 = .ok (.aload_n 0, 1) := dk_42 (dk_at dksX9_unbind_0 22 rfl rfl)
theorem dX9_unbind_23 : decode cX9_unbind 23 = .ok (.getfield 30, 3) := dk_180 0 30 (dk_at dksX9_unbind_1 0 rfl rfl)
theorem dX9_unbind_26 : decode cX9_unbind 26 = .ok (.iload_n 2, 1) := dk_28 (dk_at dksX9_unbind_1 3 rfl rfl)
theorem dX9_unbind_27 : decode cX9_unbind 27 = .ok (.iaload, 1) := dk_46 (dk_at dksX9_unbind_1 4 rfl rfl)
theorem dX9_unbind_28 : decode cX9_unbind 28 = .ok (.goto 4, 3) := dk_167 0 4 (dk_at dksX9_unbind_1 5 rfl rfl)
theorem dX9_unbind_31 : decode cX9_unbind 31 = .ok (.iconst (-1), 1) := dk_2 (dk_at dksX9_unbind_1 8 rfl rfl)
theorem dX9_unbind_32 : decode cX9_unbind 32 = .ok (.iastore, 1) := dk_79 (dk_at dksX9_unbind_1 9 rfl rfl)
theorem dX9_unbind_33 : decode cX9_unbind 33 = .ok (.iinc 2 1, 3) := dk_132 2 1 (dk_at dksX9_unbind_1 10 rfl rfl)
theorem dX9_unbind_36 : decode cX9_unbind 36 = .ok (.goto (-34), 3) := dk_167 255 222 (dk_at dksX9_unbind_1 13 rfl rfl)
theorem dX9_unbind_39 : decode cX9_unbind 39 = .ok (.return_, 1) := dk_177 (dk_at dksX9_unbind_1 16 rfl rfl)
abbrev cX9_factOf : ByteArray := prog_12_method_5_code
def yX9_factOf : MethodName := ⟨RX9, "factOf", "(LRulehearth$Item;)I"⟩
def dkwX9_factOf_2 : List UInt8 := [132, 3, 1, 167, 255, 216, 28, 172]
abbrev dktX9_factOf_2 : List UInt8 := dkwX9_factOf_2 ++ []
def dkwX9_factOf_1 : List UInt8 := [162, 0, 19, 43, 180, 0, 101, 29, 46, 42, 180, 0, 30, 184, 0, 104, 167, 0, 4, 3, 96, 61]
abbrev dktX9_factOf_1 : List UInt8 := dkwX9_factOf_1 ++ dktX9_factOf_2
def dkwX9_factOf_0 : List UInt8 := [43, 180, 0, 98, 61, 3, 62, 29, 6, 162, 0, 41, 16, 100, 28, 104, 29, 43, 180, 0, 101, 190]
abbrev dktX9_factOf_0 : List UInt8 := dkwX9_factOf_0 ++ dktX9_factOf_1
theorem dksX9_factOf_0 : cX9_factOf.data.toList.drop 0 = dktX9_factOf_0 := by decide +kernel
theorem dksX9_factOf_1 : cX9_factOf.data.toList.drop 22 = dktX9_factOf_1 := dk_seg dksX9_factOf_0 22 rfl rfl
theorem dksX9_factOf_2 : cX9_factOf.data.toList.drop 44 = dktX9_factOf_2 := dk_seg dksX9_factOf_1 22 rfl rfl
theorem dX9_factOf_0 : decode cX9_factOf 0 = .ok (.aload_n 1, 1) := dk_43 (dk_at dksX9_factOf_0 0 rfl rfl)
theorem dX9_factOf_1 : decode cX9_factOf 1 = .ok (.getfield 98, 3) := dk_180 0 98 (dk_at dksX9_factOf_0 1 rfl rfl)
theorem dX9_factOf_4 : decode cX9_factOf 4 = .ok (.istore_n 2, 1) := dk_61 (dk_at dksX9_factOf_0 4 rfl rfl)
theorem dX9_factOf_5 : decode cX9_factOf 5 = .ok (.iconst 0, 1) := dk_3 (dk_at dksX9_factOf_0 5 rfl rfl)
theorem dX9_factOf_6 : decode cX9_factOf 6 = .ok (.istore_n 3, 1) := dk_62 (dk_at dksX9_factOf_0 6 rfl rfl)
theorem dX9_factOf_7 : decode cX9_factOf 7 = .ok (.iload_n 3, 1) := dk_29 (dk_at dksX9_factOf_0 7 rfl rfl)
theorem dX9_factOf_8 : decode cX9_factOf 8 = .ok (.iconst 3, 1) := dk_6 (dk_at dksX9_factOf_0 8 rfl rfl)
theorem dX9_factOf_9 : decode cX9_factOf 9 = .ok (.if_icmp .ge 41, 3) := dk_162 0 41 (dk_at dksX9_factOf_0 9 rfl rfl)
theorem dX9_factOf_12 : decode cX9_factOf 12 = .ok (.bipush 100, 2) := dk_16 100 (dk_at dksX9_factOf_0 12 rfl rfl)
theorem dX9_factOf_14 : decode cX9_factOf 14 = .ok (.iload_n 2, 1) := dk_28 (dk_at dksX9_factOf_0 14 rfl rfl)
theorem dX9_factOf_15 : decode cX9_factOf 15 = .ok (.imul, 1) := dk_104 (dk_at dksX9_factOf_0 15 rfl rfl)
theorem dX9_factOf_16 : decode cX9_factOf 16 = .ok (.iload_n 3, 1) := dk_29 (dk_at dksX9_factOf_0 16 rfl rfl)
theorem dX9_factOf_17 : decode cX9_factOf 17 = .ok (.aload_n 1, 1) := dk_43 (dk_at dksX9_factOf_0 17 rfl rfl)
theorem dX9_factOf_18 : decode cX9_factOf 18 = .ok (.getfield 101, 3) := dk_180 0 101 (dk_at dksX9_factOf_0 18 rfl rfl)
theorem dX9_factOf_21 : decode cX9_factOf 21 = .ok (.arraylength, 1) := dk_190 (dk_at dksX9_factOf_0 21 rfl rfl)
theorem dX9_factOf_22 : decode cX9_factOf 22 = .ok (.if_icmp .ge 19, 3) := dk_162 0 19 (dk_at dksX9_factOf_1 0 rfl rfl)
theorem dX9_factOf_25 : decode cX9_factOf 25 = .ok (.aload_n 1, 1) := dk_43 (dk_at dksX9_factOf_1 3 rfl rfl)
theorem dX9_factOf_26 : decode cX9_factOf 26 = .ok (.getfield 101, 3) := dk_180 0 101 (dk_at dksX9_factOf_1 4 rfl rfl)
theorem dX9_factOf_29 : decode cX9_factOf 29 = .ok (.iload_n 3, 1) := dk_29 (dk_at dksX9_factOf_1 7 rfl rfl)
theorem dX9_factOf_30 : decode cX9_factOf 30 = .ok (.iaload, 1) := dk_46 (dk_at dksX9_factOf_1 8 rfl rfl)
theorem dX9_factOf_31 : decode cX9_factOf 31 = .ok (.aload_n 0, 1) := dk_42 (dk_at dksX9_factOf_1 9 rfl rfl)
theorem dX9_factOf_32 : decode cX9_factOf 32 = .ok (.getfield 30, 3) := dk_180 0 30 (dk_at dksX9_factOf_1 10 rfl rfl)
theorem dX9_factOf_35 : decode cX9_factOf 35 = .ok (.invokestatic 104, 3) := dk_184 0 104 (dk_at dksX9_factOf_1 13 rfl rfl)
theorem dX9_factOf_38 : decode cX9_factOf 38 = .ok (.goto 4, 3) := dk_167 0 4 (dk_at dksX9_factOf_1 16 rfl rfl)
theorem dX9_factOf_41 : decode cX9_factOf 41 = .ok (.iconst 0, 1) := dk_3 (dk_at dksX9_factOf_1 19 rfl rfl)
theorem dX9_factOf_42 : decode cX9_factOf 42 = .ok (.iadd, 1) := dk_96 (dk_at dksX9_factOf_1 20 rfl rfl)
theorem dX9_factOf_43 : decode cX9_factOf 43 = .ok (.istore_n 2, 1) := dk_61 (dk_at dksX9_factOf_1 21 rfl rfl)
theorem dX9_factOf_44 : decode cX9_factOf 44 = .ok (.iinc 3 1, 3) := dk_132 3 1 (dk_at dksX9_factOf_2 0 rfl rfl)
theorem dX9_factOf_47 : decode cX9_factOf 47 = .ok (.goto (-40), 3) := dk_167 255 216 (dk_at dksX9_factOf_2 3 rfl rfl)
theorem dX9_factOf_50 : decode cX9_factOf 50 = .ok (.iload_n 2, 1) := dk_28 (dk_at dksX9_factOf_2 6 rfl rfl)
theorem dX9_factOf_51 : decode cX9_factOf 51 = .ok (.ireturn, 1) := dk_172 (dk_at dksX9_factOf_2 7 rfl rfl)
abbrev cX9_holds : ByteArray := prog_12_method_6_code
def yX9_holds : MethodName := ⟨RX9, "holds", "(LRulehearth$Item;)Z"⟩
def dkwX9_holds_3 : List UInt8 := [162, 0, 7, 4, 167, 0, 4, 3, 172]
abbrev dktX9_holds_3 : List UInt8 := dkwX9_holds_3 ++ []
def dkwX9_holds_2 : List UInt8 := [43, 180, 0, 98, 4, 160, 0, 16, 28, 29, 159, 0, 7, 4, 167, 0, 17, 3, 167, 0, 13, 28, 29]
abbrev dktX9_holds_2 : List UInt8 := dkwX9_holds_2 ++ dktX9_holds_3
def dkwX9_holds_1 : List UInt8 := [184, 0, 104, 62, 43, 180, 0, 98, 154, 0, 16, 28, 29, 160, 0, 7, 4, 167, 0, 38, 3, 167, 0, 34]
abbrev dktX9_holds_1 : List UInt8 := dkwX9_holds_1 ++ dktX9_holds_2
def dkwX9_holds_0 : List UInt8 := [43, 180, 0, 101, 3, 46, 42, 180, 0, 30, 184, 0, 104, 61, 43, 180, 0, 101, 4, 46, 42, 180, 0, 30]
abbrev dktX9_holds_0 : List UInt8 := dkwX9_holds_0 ++ dktX9_holds_1
theorem dksX9_holds_0 : cX9_holds.data.toList.drop 0 = dktX9_holds_0 := by decide +kernel
theorem dksX9_holds_1 : cX9_holds.data.toList.drop 24 = dktX9_holds_1 := dk_seg dksX9_holds_0 24 rfl rfl
theorem dksX9_holds_2 : cX9_holds.data.toList.drop 48 = dktX9_holds_2 := dk_seg dksX9_holds_1 24 rfl rfl
theorem dksX9_holds_3 : cX9_holds.data.toList.drop 71 = dktX9_holds_3 := dk_seg dksX9_holds_2 23 rfl rfl
theorem dX9_holds_0 : decode cX9_holds 0 = .ok (.aload_n 1, 1) := dk_43 (dk_at dksX9_holds_0 0 rfl rfl)
theorem dX9_holds_1 : decode cX9_holds 1 = .ok (.getfield 101, 3) := dk_180 0 101 (dk_at dksX9_holds_0 1 rfl rfl)
theorem dX9_holds_4 : decode cX9_holds 4 = .ok (.iconst 0, 1) := dk_3 (dk_at dksX9_holds_0 4 rfl rfl)
theorem dX9_holds_5 : decode cX9_holds 5 = .ok (.iaload, 1) := dk_46 (dk_at dksX9_holds_0 5 rfl rfl)
theorem dX9_holds_6 : decode cX9_holds 6 = .ok (.aload_n 0, 1) := dk_42 (dk_at dksX9_holds_0 6 rfl rfl)
theorem dX9_holds_7 : decode cX9_holds 7 = .ok (.getfield 30, 3) := dk_180 0 30 (dk_at dksX9_holds_0 7 rfl rfl)
theorem dX9_holds_10 : decode cX9_holds 10 = .ok (.invokestatic 104, 3) := dk_184 0 104 (dk_at dksX9_holds_0 10 rfl rfl)
theorem dX9_holds_13 : decode cX9_holds 13 = .ok (.istore_n 2, 1) := dk_61 (dk_at dksX9_holds_0 13 rfl rfl)
theorem dX9_holds_14 : decode cX9_holds 14 = .ok (.aload_n 1, 1) := dk_43 (dk_at dksX9_holds_0 14 rfl rfl)
theorem dX9_holds_15 : decode cX9_holds 15 = .ok (.getfield 101, 3) := dk_180 0 101 (dk_at dksX9_holds_0 15 rfl rfl)
theorem dX9_holds_18 : decode cX9_holds 18 = .ok (.iconst 1, 1) := dk_4 (dk_at dksX9_holds_0 18 rfl rfl)
theorem dX9_holds_19 : decode cX9_holds 19 = .ok (.iaload, 1) := dk_46 (dk_at dksX9_holds_0 19 rfl rfl)
theorem dX9_holds_20 : decode cX9_holds 20 = .ok (.aload_n 0, 1) := dk_42 (dk_at dksX9_holds_0 20 rfl rfl)
theorem dX9_holds_21 : decode cX9_holds 21 = .ok (.getfield 30, 3) := dk_180 0 30 (dk_at dksX9_holds_0 21 rfl rfl)
theorem dX9_holds_24 : decode cX9_holds 24 = .ok (.invokestatic 104, 3) := dk_184 0 104 (dk_at dksX9_holds_1 0 rfl rfl)
theorem dX9_holds_27 : decode cX9_holds 27 = .ok (.istore_n 3, 1) := dk_62 (dk_at dksX9_holds_1 3 rfl rfl)
theorem dX9_holds_28 : decode cX9_holds 28 = .ok (.aload_n 1, 1) := dk_43 (dk_at dksX9_holds_1 4 rfl rfl)
theorem dX9_holds_29 : decode cX9_holds 29 = .ok (.getfield 98, 3) := dk_180 0 98 (dk_at dksX9_holds_1 5 rfl rfl)
theorem dX9_holds_32 : decode cX9_holds 32 = .ok (.ifCond .ne 16, 3) := dk_154 0 16 (dk_at dksX9_holds_1 8 rfl rfl)
theorem dX9_holds_35 : decode cX9_holds 35 = .ok (.iload_n 2, 1) := dk_28 (dk_at dksX9_holds_1 11 rfl rfl)
theorem dX9_holds_36 : decode cX9_holds 36 = .ok (.iload_n 3, 1) := dk_29 (dk_at dksX9_holds_1 12 rfl rfl)
theorem dX9_holds_37 : decode cX9_holds 37 = .ok (.if_icmp .ne 7, 3) := dk_160 0 7 (dk_at dksX9_holds_1 13 rfl rfl)
theorem dX9_holds_40 : decode cX9_holds 40 = .ok (.iconst 1, 1) := dk_4 (dk_at dksX9_holds_1 16 rfl rfl)
theorem dX9_holds_41 : decode cX9_holds 41 = .ok (.goto 38, 3) := dk_167 0 38 (dk_at dksX9_holds_1 17 rfl rfl)
theorem dX9_holds_44 : decode cX9_holds 44 = .ok (.iconst 0, 1) := dk_3 (dk_at dksX9_holds_1 20 rfl rfl)
theorem dX9_holds_45 : decode cX9_holds 45 = .ok (.goto 34, 3) := dk_167 0 34 (dk_at dksX9_holds_1 21 rfl rfl)
theorem dX9_holds_48 : decode cX9_holds 48 = .ok (.aload_n 1, 1) := dk_43 (dk_at dksX9_holds_2 0 rfl rfl)
theorem dX9_holds_49 : decode cX9_holds 49 = .ok (.getfield 98, 3) := dk_180 0 98 (dk_at dksX9_holds_2 1 rfl rfl)
theorem dX9_holds_52 : decode cX9_holds 52 = .ok (.iconst 1, 1) := dk_4 (dk_at dksX9_holds_2 4 rfl rfl)
theorem dX9_holds_53 : decode cX9_holds 53 = .ok (.if_icmp .ne 16, 3) := dk_160 0 16 (dk_at dksX9_holds_2 5 rfl rfl)
theorem dX9_holds_56 : decode cX9_holds 56 = .ok (.iload_n 2, 1) := dk_28 (dk_at dksX9_holds_2 8 rfl rfl)
theorem dX9_holds_57 : decode cX9_holds 57 = .ok (.iload_n 3, 1) := dk_29 (dk_at dksX9_holds_2 9 rfl rfl)
theorem dX9_holds_58 : decode cX9_holds 58 = .ok (.if_icmp .eq 7, 3) := dk_159 0 7 (dk_at dksX9_holds_2 10 rfl rfl)
theorem dX9_holds_61 : decode cX9_holds 61 = .ok (.iconst 1, 1) := dk_4 (dk_at dksX9_holds_2 13 rfl rfl)
theorem dX9_holds_62 : decode cX9_holds 62 = .ok (.goto 17, 3) := dk_167 0 17 (dk_at dksX9_holds_2 14 rfl rfl)
theorem dX9_holds_65 : decode cX9_holds 65 = .ok (.iconst 0, 1) := dk_3 (dk_at dksX9_holds_2 17 rfl rfl)
theorem dX9_holds_66 : decode cX9_holds 66 = .ok (.goto 13, 3) := dk_167 0 13 (dk_at dksX9_holds_2 18 rfl rfl)
theorem dX9_holds_69 : decode cX9_holds 69 = .ok (.iload_n 2, 1) := dk_28 (dk_at dksX9_holds_2 21 rfl rfl)
theorem dX9_holds_70 : decode cX9_holds 70 = .ok (.iload_n 3, 1) := dk_29 (dk_at dksX9_holds_2 22 rfl rfl)
theorem dX9_holds_71 : decode cX9_holds 71 = .ok (.if_icmp .ge 7, 3) := dk_162 0 7 (dk_at dksX9_holds_3 0 rfl rfl)
theorem dX9_holds_74 : decode cX9_holds 74 = .ok (.iconst 1, 1) := dk_4 (dk_at dksX9_holds_3 3 rfl rfl)
theorem dX9_holds_75 : decode cX9_holds 75 = .ok (.goto 4, 3) := dk_167 0 4 (dk_at dksX9_holds_3 4 rfl rfl)
theorem dX9_holds_78 : decode cX9_holds 78 = .ok (.iconst 0, 1) := dk_3 (dk_at dksX9_holds_3 7 rfl rfl)
theorem dX9_holds_79 : decode cX9_holds 79 = .ok (.ireturn, 1) := dk_172 (dk_at dksX9_holds_3 8 rfl rfl)
abbrev cX9_goPlus : ByteArray := prog_12_method_9_code
def yX9_goPlus : MethodName := ⟨RX9, "goPlus", "(LRulehearth$Item;II)V"⟩
def dkwX9_goPlus_3 : List UInt8 := [182, 0, 134, 177]
abbrev dktX9_goPlus_3 : List UInt8 := dkwX9_goPlus_3 ++ []
def dkwX9_goPlus_2 : List UInt8 := [46, 21, 4, 42, 180, 0, 30, 184, 0, 130, 153, 0, 11, 42, 28, 4, 96, 29, 182, 0, 41, 42, 21, 5]
abbrev dktX9_goPlus_2 : List UInt8 := dkwX9_goPlus_2 ++ dktX9_goPlus_3
def dkwX9_goPlus_1 : List UInt8 := [184, 0, 104, 96, 54, 4, 42, 182, 0, 116, 54, 5, 21, 4, 16, 100, 162, 0, 29, 43, 180, 0, 101, 5]
abbrev dktX9_goPlus_1 : List UInt8 := dkwX9_goPlus_1 ++ dktX9_goPlus_2
def dkwX9_goPlus_0 : List UInt8 := [43, 180, 0, 101, 3, 46, 42, 180, 0, 30, 184, 0, 104, 43, 180, 0, 101, 4, 46, 42, 180, 0, 30]
abbrev dktX9_goPlus_0 : List UInt8 := dkwX9_goPlus_0 ++ dktX9_goPlus_1
theorem dksX9_goPlus_0 : cX9_goPlus.data.toList.drop 0 = dktX9_goPlus_0 := by decide +kernel
theorem dksX9_goPlus_1 : cX9_goPlus.data.toList.drop 23 = dktX9_goPlus_1 := dk_seg dksX9_goPlus_0 23 rfl rfl
theorem dksX9_goPlus_2 : cX9_goPlus.data.toList.drop 47 = dktX9_goPlus_2 := dk_seg dksX9_goPlus_1 24 rfl rfl
theorem dksX9_goPlus_3 : cX9_goPlus.data.toList.drop 71 = dktX9_goPlus_3 := dk_seg dksX9_goPlus_2 24 rfl rfl
theorem dX9_goPlus_0 : decode cX9_goPlus 0 = .ok (.aload_n 1, 1) := dk_43 (dk_at dksX9_goPlus_0 0 rfl rfl)
theorem dX9_goPlus_1 : decode cX9_goPlus 1 = .ok (.getfield 101, 3) := dk_180 0 101 (dk_at dksX9_goPlus_0 1 rfl rfl)
theorem dX9_goPlus_4 : decode cX9_goPlus 4 = .ok (.iconst 0, 1) := dk_3 (dk_at dksX9_goPlus_0 4 rfl rfl)
theorem dX9_goPlus_5 : decode cX9_goPlus 5 = .ok (.iaload, 1) := dk_46 (dk_at dksX9_goPlus_0 5 rfl rfl)
theorem dX9_goPlus_6 : decode cX9_goPlus 6 = .ok (.aload_n 0, 1) := dk_42 (dk_at dksX9_goPlus_0 6 rfl rfl)
theorem dX9_goPlus_7 : decode cX9_goPlus 7 = .ok (.getfield 30, 3) := dk_180 0 30 (dk_at dksX9_goPlus_0 7 rfl rfl)
theorem dX9_goPlus_10 : decode cX9_goPlus 10 = .ok (.invokestatic 104, 3) := dk_184 0 104 (dk_at dksX9_goPlus_0 10 rfl rfl)
theorem dX9_goPlus_13 : decode cX9_goPlus 13 = .ok (.aload_n 1, 1) := dk_43 (dk_at dksX9_goPlus_0 13 rfl rfl)
theorem dX9_goPlus_14 : decode cX9_goPlus 14 = .ok (.getfield 101, 3) := dk_180 0 101 (dk_at dksX9_goPlus_0 14 rfl rfl)
theorem dX9_goPlus_17 : decode cX9_goPlus 17 = .ok (.iconst 1, 1) := dk_4 (dk_at dksX9_goPlus_0 17 rfl rfl)
theorem dX9_goPlus_18 : decode cX9_goPlus 18 = .ok (.iaload, 1) := dk_46 (dk_at dksX9_goPlus_0 18 rfl rfl)
theorem dX9_goPlus_19 : decode cX9_goPlus 19 = .ok (.aload_n 0, 1) := dk_42 (dk_at dksX9_goPlus_0 19 rfl rfl)
theorem dX9_goPlus_20 : decode cX9_goPlus 20 = .ok (.getfield 30, 3) := dk_180 0 30 (dk_at dksX9_goPlus_0 20 rfl rfl)
theorem dX9_goPlus_23 : decode cX9_goPlus 23 = .ok (.invokestatic 104, 3) := dk_184 0 104 (dk_at dksX9_goPlus_1 0 rfl rfl)
theorem dX9_goPlus_26 : decode cX9_goPlus 26 = .ok (.iadd, 1) := dk_96 (dk_at dksX9_goPlus_1 3 rfl rfl)
theorem dX9_goPlus_27 : decode cX9_goPlus 27 = .ok (.istore 4, 2) := dk_54 4 (dk_at dksX9_goPlus_1 4 rfl rfl)
theorem dX9_goPlus_29 : decode cX9_goPlus 29 = .ok (.aload_n 0, 1) := dk_42 (dk_at dksX9_goPlus_1 6 rfl rfl)
theorem dX9_goPlus_30 : decode cX9_goPlus 30 = .ok (.invokevirtual 116, 3) := dk_182 0 116 (dk_at dksX9_goPlus_1 7 rfl rfl)
theorem dX9_goPlus_33 : decode cX9_goPlus 33 = .ok (.istore 5, 2) := dk_54 5 (dk_at dksX9_goPlus_1 10 rfl rfl)
theorem dX9_goPlus_35 : decode cX9_goPlus 35 = .ok (.iload 4, 2) := dk_21 4 (dk_at dksX9_goPlus_1 12 rfl rfl)
theorem dX9_goPlus_37 : decode cX9_goPlus 37 = .ok (.bipush 100, 2) := dk_16 100 (dk_at dksX9_goPlus_1 14 rfl rfl)
theorem dX9_goPlus_39 : decode cX9_goPlus 39 = .ok (.if_icmp .ge 29, 3) := dk_162 0 29 (dk_at dksX9_goPlus_1 16 rfl rfl)
theorem dX9_goPlus_42 : decode cX9_goPlus 42 = .ok (.aload_n 1, 1) := dk_43 (dk_at dksX9_goPlus_1 19 rfl rfl)
theorem dX9_goPlus_43 : decode cX9_goPlus 43 = .ok (.getfield 101, 3) := dk_180 0 101 (dk_at dksX9_goPlus_1 20 rfl rfl)
theorem dX9_goPlus_46 : decode cX9_goPlus 46 = .ok (.iconst 2, 1) := dk_5 (dk_at dksX9_goPlus_1 23 rfl rfl)
theorem dX9_goPlus_47 : decode cX9_goPlus 47 = .ok (.iaload, 1) := dk_46 (dk_at dksX9_goPlus_2 0 rfl rfl)
theorem dX9_goPlus_48 : decode cX9_goPlus 48 = .ok (.iload 4, 2) := dk_21 4 (dk_at dksX9_goPlus_2 1 rfl rfl)
theorem dX9_goPlus_50 : decode cX9_goPlus 50 = .ok (.aload_n 0, 1) := dk_42 (dk_at dksX9_goPlus_2 3 rfl rfl)
theorem dX9_goPlus_51 : decode cX9_goPlus 51 = .ok (.getfield 30, 3) := dk_180 0 30 (dk_at dksX9_goPlus_2 4 rfl rfl)
theorem dX9_goPlus_54 : decode cX9_goPlus 54 = .ok (.invokestatic 130, 3) := dk_184 0 130 (dk_at dksX9_goPlus_2 7 rfl rfl)
theorem dX9_goPlus_57 : decode cX9_goPlus 57 = .ok (.ifCond .eq 11, 3) := dk_153 0 11 (dk_at dksX9_goPlus_2 10 rfl rfl)
theorem dX9_goPlus_60 : decode cX9_goPlus 60 = .ok (.aload_n 0, 1) := dk_42 (dk_at dksX9_goPlus_2 13 rfl rfl)
theorem dX9_goPlus_61 : decode cX9_goPlus 61 = .ok (.iload_n 2, 1) := dk_28 (dk_at dksX9_goPlus_2 14 rfl rfl)
theorem dX9_goPlus_62 : decode cX9_goPlus 62 = .ok (.iconst 1, 1) := dk_4 (dk_at dksX9_goPlus_2 15 rfl rfl)
theorem dX9_goPlus_63 : decode cX9_goPlus 63 = .ok (.iadd, 1) := dk_96 (dk_at dksX9_goPlus_2 16 rfl rfl)
theorem dX9_goPlus_64 : decode cX9_goPlus 64 = .ok (.iload_n 3, 1) := dk_29 (dk_at dksX9_goPlus_2 17 rfl rfl)
theorem dX9_goPlus_65 : decode cX9_goPlus 65 = .ok (.invokevirtual 41, 3) := dk_182 0 41 (dk_at dksX9_goPlus_2 18 rfl rfl)
theorem dX9_goPlus_68 : decode cX9_goPlus 68 = .ok (.aload_n 0, 1) := dk_42 (dk_at dksX9_goPlus_2 21 rfl rfl)
theorem dX9_goPlus_69 : decode cX9_goPlus 69 = .ok (.iload 5, 2) := dk_21 5 (dk_at dksX9_goPlus_2 22 rfl rfl)
theorem dX9_goPlus_71 : decode cX9_goPlus 71 = .ok (.invokevirtual 134, 3) := dk_182 0 134 (dk_at dksX9_goPlus_3 0 rfl rfl)
theorem dX9_goPlus_74 : decode cX9_goPlus 74 = .ok (.return_, 1) := dk_177 (dk_at dksX9_goPlus_3 3 rfl rfl)
abbrev cX9_run_2 : ByteArray := prog_12_method_3_code
def yX9_run_2 : MethodName := ⟨RX9, "run", "(II)V"⟩
def dkwX9_run_2_0 : List UInt8 := [42, 27, 181, 0, 15, 42, 28, 181, 0, 45, 42, 182, 0, 48, 177]
abbrev dktX9_run_2_0 : List UInt8 := dkwX9_run_2_0 ++ []
theorem dksX9_run_2_0 : cX9_run_2.data.toList.drop 0 = dktX9_run_2_0 := by decide +kernel
theorem dX9_run_2_0 : decode cX9_run_2 0 = .ok (.aload_n 0, 1) := dk_42 (dk_at dksX9_run_2_0 0 rfl rfl)
theorem dX9_run_2_1 : decode cX9_run_2 1 = .ok (.iload_n 1, 1) := dk_27 (dk_at dksX9_run_2_0 1 rfl rfl)
theorem dX9_run_2_2 : decode cX9_run_2 2 = .ok (.putfield 15, 3) := dk_181 0 15 (dk_at dksX9_run_2_0 2 rfl rfl)
theorem dX9_run_2_5 : decode cX9_run_2 5 = .ok (.aload_n 0, 1) := dk_42 (dk_at dksX9_run_2_0 5 rfl rfl)
theorem dX9_run_2_6 : decode cX9_run_2 6 = .ok (.iload_n 2, 1) := dk_28 (dk_at dksX9_run_2_0 6 rfl rfl)
theorem dX9_run_2_7 : decode cX9_run_2 7 = .ok (.putfield 45, 3) := dk_181 0 45 (dk_at dksX9_run_2_0 7 rfl rfl)
theorem dX9_run_2_10 : decode cX9_run_2 10 = .ok (.aload_n 0, 1) := dk_42 (dk_at dksX9_run_2_0 10 rfl rfl)
theorem dX9_run_2_11 : decode cX9_run_2 11 = .ok (.invokevirtual 48, 3) := dk_182 0 48 (dk_at dksX9_run_2_0 11 rfl rfl)
theorem dX9_run_2_14 : decode cX9_run_2 14 = .ok (.return_, 1) := dk_177 (dk_at dksX9_run_2_0 14 rfl rfl)

abbrev cX10_atoms : ByteArray := prog_3_method_3_code
def yX10_atoms : MethodName := ⟨RX10, "atoms", "()I"⟩
def dkwX10_atoms_1 : List UInt8 := [192, 0, 53, 180, 0, 55, 154, 0, 7, 4, 167, 0, 4, 3, 96, 60, 132, 2, 1, 167, 255, 217, 27, 172]
abbrev dktX10_atoms_1 : List UInt8 := dkwX10_atoms_1 ++ []
def dkwX10_atoms_0 : List UInt8 := [3, 60, 3, 61, 28, 42, 180, 0, 20, 182, 0, 45, 162, 0, 34, 27, 42, 180, 0, 20, 28, 182, 0, 49]
abbrev dktX10_atoms_0 : List UInt8 := dkwX10_atoms_0 ++ dktX10_atoms_1
theorem dksX10_atoms_0 : cX10_atoms.data.toList.drop 0 = dktX10_atoms_0 := by decide +kernel
theorem dksX10_atoms_1 : cX10_atoms.data.toList.drop 24 = dktX10_atoms_1 := dk_seg dksX10_atoms_0 24 rfl rfl
theorem dX10_atoms_0 : decode cX10_atoms 0 = .ok (.iconst 0, 1) := dk_3 (dk_at dksX10_atoms_0 0 rfl rfl)
theorem dX10_atoms_1 : decode cX10_atoms 1 = .ok (.istore_n 1, 1) := dk_60 (dk_at dksX10_atoms_0 1 rfl rfl)
theorem dX10_atoms_2 : decode cX10_atoms 2 = .ok (.iconst 0, 1) := dk_3 (dk_at dksX10_atoms_0 2 rfl rfl)
theorem dX10_atoms_3 : decode cX10_atoms 3 = .ok (.istore_n 2, 1) := dk_61 (dk_at dksX10_atoms_0 3 rfl rfl)
theorem dX10_atoms_4 : decode cX10_atoms 4 = .ok (.iload_n 2, 1) := dk_28 (dk_at dksX10_atoms_0 4 rfl rfl)
theorem dX10_atoms_5 : decode cX10_atoms 5 = .ok (.aload_n 0, 1) := dk_42 (dk_at dksX10_atoms_0 5 rfl rfl)
theorem dX10_atoms_6 : decode cX10_atoms 6 = .ok (.getfield 20, 3) := dk_180 0 20 (dk_at dksX10_atoms_0 6 rfl rfl)
theorem dX10_atoms_9 : decode cX10_atoms 9 = .ok (.invokevirtual 45, 3) := dk_182 0 45 (dk_at dksX10_atoms_0 9 rfl rfl)
theorem dX10_atoms_12 : decode cX10_atoms 12 = .ok (.if_icmp .ge 34, 3) := dk_162 0 34 (dk_at dksX10_atoms_0 12 rfl rfl)
theorem dX10_atoms_15 : decode cX10_atoms 15 = .ok (.iload_n 1, 1) := dk_27 (dk_at dksX10_atoms_0 15 rfl rfl)
theorem dX10_atoms_16 : decode cX10_atoms 16 = .ok (.aload_n 0, 1) := dk_42 (dk_at dksX10_atoms_0 16 rfl rfl)
theorem dX10_atoms_17 : decode cX10_atoms 17 = .ok (.getfield 20, 3) := dk_180 0 20 (dk_at dksX10_atoms_0 17 rfl rfl)
theorem dX10_atoms_20 : decode cX10_atoms 20 = .ok (.iload_n 2, 1) := dk_28 (dk_at dksX10_atoms_0 20 rfl rfl)
theorem dX10_atoms_21 : decode cX10_atoms 21 = .ok (.invokevirtual 49, 3) := dk_182 0 49 (dk_at dksX10_atoms_0 21 rfl rfl)
theorem dX10_atoms_24 : decode cX10_atoms 24 = .ok (.checkcast 53, 3) := dk_192 0 53 (dk_at dksX10_atoms_1 0 rfl rfl)
theorem dX10_atoms_27 : decode cX10_atoms 27 = .ok (.getfield 55, 3) := dk_180 0 55 (dk_at dksX10_atoms_1 3 rfl rfl)
theorem dX10_atoms_30 : decode cX10_atoms 30 = .ok (.ifCond .ne 7, 3) := dk_154 0 7 (dk_at dksX10_atoms_1 6 rfl rfl)
theorem dX10_atoms_33 : decode cX10_atoms 33 = .ok (.iconst 1, 1) := dk_4 (dk_at dksX10_atoms_1 9 rfl rfl)
theorem dX10_atoms_34 : decode cX10_atoms 34 = .ok (.goto 4, 3) := dk_167 0 4 (dk_at dksX10_atoms_1 10 rfl rfl)
theorem dX10_atoms_37 : decode cX10_atoms 37 = .ok (.iconst 0, 1) := dk_3 (dk_at dksX10_atoms_1 13 rfl rfl)
theorem dX10_atoms_38 : decode cX10_atoms 38 = .ok (.iadd, 1) := dk_96 (dk_at dksX10_atoms_1 14 rfl rfl)
theorem dX10_atoms_39 : decode cX10_atoms 39 = .ok (.istore_n 1, 1) := dk_60 (dk_at dksX10_atoms_1 15 rfl rfl)
theorem dX10_atoms_40 : decode cX10_atoms 40 = .ok (.iinc 2 1, 3) := dk_132 2 1 (dk_at dksX10_atoms_1 16 rfl rfl)
theorem dX10_atoms_43 : decode cX10_atoms 43 = .ok (.goto (-39), 3) := dk_167 255 217 (dk_at dksX10_atoms_1 19 rfl rfl)
theorem dX10_atoms_46 : decode cX10_atoms 46 = .ok (.iload_n 1, 1) := dk_27 (dk_at dksX10_atoms_1 22 rfl rfl)
theorem dX10_atoms_47 : decode cX10_atoms 47 = .ok (.ireturn, 1) := dk_172 (dk_at dksX10_atoms_1 23 rfl rfl)
abbrev cX10_fact : ByteArray := prog_3_method_4_code
def yX10_fact : MethodName := ⟨RX10, "fact", "([II)I"⟩
def dkwX10_fact_3 : List UInt8 := [132, 4, 1, 167, 255, 193, 29, 172]
abbrev dktX10_fact_3 : List UInt8 := dkwX10_fact_3 ++ []
def dkwX10_fact_2 : List UInt8 := [42, 180, 0, 24, 180, 0, 61, 21, 4, 46, 43, 184, 0, 65, 54, 5, 16, 100, 29, 104, 21, 5, 96, 62]
abbrev dktX10_fact_2 : List UInt8 := dkwX10_fact_2 ++ dktX10_fact_3
def dkwX10_fact_1 : List UInt8 := [180, 0, 61, 190, 161, 0, 7, 3, 167, 0, 30, 21, 4, 42, 180, 0, 9, 160, 0, 7, 28, 167, 0, 17]
abbrev dktX10_fact_1 : List UInt8 := dkwX10_fact_1 ++ dktX10_fact_2
def dkwX10_fact_0 : List UInt8 := [42, 180, 0, 24, 180, 0, 58, 62, 3, 54, 4, 21, 4, 6, 162, 0, 63, 21, 4, 42, 180, 0, 24]
abbrev dktX10_fact_0 : List UInt8 := dkwX10_fact_0 ++ dktX10_fact_1
theorem dksX10_fact_0 : cX10_fact.data.toList.drop 0 = dktX10_fact_0 := by decide +kernel
theorem dksX10_fact_1 : cX10_fact.data.toList.drop 23 = dktX10_fact_1 := dk_seg dksX10_fact_0 23 rfl rfl
theorem dksX10_fact_2 : cX10_fact.data.toList.drop 47 = dktX10_fact_2 := dk_seg dksX10_fact_1 24 rfl rfl
theorem dksX10_fact_3 : cX10_fact.data.toList.drop 71 = dktX10_fact_3 := dk_seg dksX10_fact_2 24 rfl rfl
theorem dX10_fact_0 : decode cX10_fact 0 = .ok (.aload_n 0, 1) := dk_42 (dk_at dksX10_fact_0 0 rfl rfl)
theorem dX10_fact_1 : decode cX10_fact 1 = .ok (.getfield 24, 3) := dk_180 0 24 (dk_at dksX10_fact_0 1 rfl rfl)
theorem dX10_fact_4 : decode cX10_fact 4 = .ok (.getfield 58, 3) := dk_180 0 58 (dk_at dksX10_fact_0 4 rfl rfl)
theorem dX10_fact_7 : decode cX10_fact 7 = .ok (.istore_n 3, 1) := dk_62 (dk_at dksX10_fact_0 7 rfl rfl)
theorem dX10_fact_8 : decode cX10_fact 8 = .ok (.iconst 0, 1) := dk_3 (dk_at dksX10_fact_0 8 rfl rfl)
theorem dX10_fact_9 : decode cX10_fact 9 = .ok (.istore 4, 2) := dk_54 4 (dk_at dksX10_fact_0 9 rfl rfl)
theorem dX10_fact_11 : decode cX10_fact 11 = .ok (.iload 4, 2) := dk_21 4 (dk_at dksX10_fact_0 11 rfl rfl)
theorem dX10_fact_13 : decode cX10_fact 13 = .ok (.iconst 3, 1) := dk_6 (dk_at dksX10_fact_0 13 rfl rfl)
theorem dX10_fact_14 : decode cX10_fact 14 = .ok (.if_icmp .ge 63, 3) := dk_162 0 63 (dk_at dksX10_fact_0 14 rfl rfl)
theorem dX10_fact_17 : decode cX10_fact 17 = .ok (.iload 4, 2) := dk_21 4 (dk_at dksX10_fact_0 17 rfl rfl)
theorem dX10_fact_19 : decode cX10_fact 19 = .ok (.aload_n 0, 1) := dk_42 (dk_at dksX10_fact_0 19 rfl rfl)
theorem dX10_fact_20 : decode cX10_fact 20 = .ok (.getfield 24, 3) := dk_180 0 24 (dk_at dksX10_fact_0 20 rfl rfl)
theorem dX10_fact_23 : decode cX10_fact 23 = .ok (.getfield 61, 3) := dk_180 0 61 (dk_at dksX10_fact_1 0 rfl rfl)
theorem dX10_fact_26 : decode cX10_fact 26 = .ok (.arraylength, 1) := dk_190 (dk_at dksX10_fact_1 3 rfl rfl)
theorem dX10_fact_27 : decode cX10_fact 27 = .ok (.if_icmp .lt 7, 3) := dk_161 0 7 (dk_at dksX10_fact_1 4 rfl rfl)
theorem dX10_fact_30 : decode cX10_fact 30 = .ok (.iconst 0, 1) := dk_3 (dk_at dksX10_fact_1 7 rfl rfl)
theorem dX10_fact_31 : decode cX10_fact 31 = .ok (.goto 30, 3) := dk_167 0 30 (dk_at dksX10_fact_1 8 rfl rfl)
theorem dX10_fact_34 : decode cX10_fact 34 = .ok (.iload 4, 2) := dk_21 4 (dk_at dksX10_fact_1 11 rfl rfl)
theorem dX10_fact_36 : decode cX10_fact 36 = .ok (.aload_n 0, 1) := dk_42 (dk_at dksX10_fact_1 13 rfl rfl)
theorem dX10_fact_37 : decode cX10_fact 37 = .ok (.getfield 9, 3) := dk_180 0 9 (dk_at dksX10_fact_1 14 rfl rfl)
theorem dX10_fact_40 : decode cX10_fact 40 = .ok (.if_icmp .ne 7, 3) := dk_160 0 7 (dk_at dksX10_fact_1 17 rfl rfl)
theorem dX10_fact_43 : decode cX10_fact 43 = .ok (.iload_n 2, 1) := dk_28 (dk_at dksX10_fact_1 20 rfl rfl)
theorem dX10_fact_44 : decode cX10_fact 44 = .ok (.goto 17, 3) := dk_167 0 17 (dk_at dksX10_fact_1 21 rfl rfl)
theorem dX10_fact_47 : decode cX10_fact 47 = .ok (.aload_n 0, 1) := dk_42 (dk_at dksX10_fact_2 0 rfl rfl)
theorem dX10_fact_48 : decode cX10_fact 48 = .ok (.getfield 24, 3) := dk_180 0 24 (dk_at dksX10_fact_2 1 rfl rfl)
theorem dX10_fact_51 : decode cX10_fact 51 = .ok (.getfield 61, 3) := dk_180 0 61 (dk_at dksX10_fact_2 4 rfl rfl)
theorem dX10_fact_54 : decode cX10_fact 54 = .ok (.iload 4, 2) := dk_21 4 (dk_at dksX10_fact_2 7 rfl rfl)
theorem dX10_fact_56 : decode cX10_fact 56 = .ok (.iaload, 1) := dk_46 (dk_at dksX10_fact_2 9 rfl rfl)
theorem dX10_fact_57 : decode cX10_fact 57 = .ok (.aload_n 1, 1) := dk_43 (dk_at dksX10_fact_2 10 rfl rfl)
theorem dX10_fact_58 : decode cX10_fact 58 = .ok (.invokestatic 65, 3) := dk_184 0 65 (dk_at dksX10_fact_2 11 rfl rfl)
theorem dX10_fact_61 : decode cX10_fact 61 = .ok (.istore 5, 2) := dk_54 5 (dk_at dksX10_fact_2 14 rfl rfl)
theorem dX10_fact_63 : decode cX10_fact 63 = .ok (.bipush 100, 2) := dk_16 100 (dk_at dksX10_fact_2 16 rfl rfl)
theorem dX10_fact_65 : decode cX10_fact 65 = .ok (.iload_n 3, 1) := dk_29 (dk_at dksX10_fact_2 18 rfl rfl)
theorem dX10_fact_66 : decode cX10_fact 66 = .ok (.imul, 1) := dk_104 (dk_at dksX10_fact_2 19 rfl rfl)
theorem dX10_fact_67 : decode cX10_fact 67 = .ok (.iload 5, 2) := dk_21 5 (dk_at dksX10_fact_2 20 rfl rfl)
theorem dX10_fact_69 : decode cX10_fact 69 = .ok (.iadd, 1) := dk_96 (dk_at dksX10_fact_2 22 rfl rfl)
theorem dX10_fact_70 : decode cX10_fact 70 = .ok (.istore_n 3, 1) := dk_62 (dk_at dksX10_fact_2 23 rfl rfl)
theorem dX10_fact_71 : decode cX10_fact 71 = .ok (.iinc 4 1, 3) := dk_132 4 1 (dk_at dksX10_fact_3 0 rfl rfl)
theorem dX10_fact_74 : decode cX10_fact 74 = .ok (.goto (-63), 3) := dk_167 255 193 (dk_at dksX10_fact_3 3 rfl rfl)
theorem dX10_fact_77 : decode cX10_fact 77 = .ok (.iload_n 3, 1) := dk_29 (dk_at dksX10_fact_3 6 rfl rfl)
theorem dX10_fact_78 : decode cX10_fact 78 = .ok (.ireturn, 1) := dk_172 (dk_at dksX10_fact_3 7 rfl rfl)
abbrev cX10_binds : ByteArray := prog_3_method_5_code
def yX10_binds : MethodName := ⟨RX10, "binds", "(I[I)Z"⟩
def dkwX10_binds_3 : List UInt8 := [153, 0, 7, 4, 167, 0, 4, 3, 62, 132, 4, 1, 167, 255, 198, 29, 172]
abbrev dktX10_binds_3 : List UInt8 := dkwX10_binds_3 ++ []
def dkwX10_binds_2 : List UInt8 := [159, 0, 26, 42, 180, 0, 24, 180, 0, 61, 21, 4, 46, 27, 21, 4, 184, 0, 73, 44, 184, 0, 77]
abbrev dktX10_binds_2 : List UInt8 := dkwX10_binds_2 ++ dktX10_binds_3
def dkwX10_binds_1 : List UInt8 := [21, 4, 42, 180, 0, 24, 180, 0, 61, 190, 162, 0, 51, 29, 153, 0, 47, 21, 4, 42, 180, 0, 9]
abbrev dktX10_binds_1 : List UInt8 := dkwX10_binds_1 ++ dktX10_binds_2
def dkwX10_binds_0 : List UInt8 := [27, 184, 0, 69, 42, 180, 0, 24, 180, 0, 58, 160, 0, 7, 4, 167, 0, 4, 3, 62, 3, 54, 4]
abbrev dktX10_binds_0 : List UInt8 := dkwX10_binds_0 ++ dktX10_binds_1
theorem dksX10_binds_0 : cX10_binds.data.toList.drop 0 = dktX10_binds_0 := by decide +kernel
theorem dksX10_binds_1 : cX10_binds.data.toList.drop 23 = dktX10_binds_1 := dk_seg dksX10_binds_0 23 rfl rfl
theorem dksX10_binds_2 : cX10_binds.data.toList.drop 46 = dktX10_binds_2 := dk_seg dksX10_binds_1 23 rfl rfl
theorem dksX10_binds_3 : cX10_binds.data.toList.drop 69 = dktX10_binds_3 := dk_seg dksX10_binds_2 23 rfl rfl
theorem dX10_binds_0 : decode cX10_binds 0 = .ok (.iload_n 1, 1) := dk_27 (dk_at dksX10_binds_0 0 rfl rfl)
theorem dX10_binds_1 : decode cX10_binds 1 = .ok (.invokestatic 69, 3) := dk_184 0 69 (dk_at dksX10_binds_0 1 rfl rfl)
theorem dX10_binds_4 : decode cX10_binds 4 = .ok (.aload_n 0, 1) := dk_42 (dk_at dksX10_binds_0 4 rfl rfl)
theorem dX10_binds_5 : decode cX10_binds 5 = .ok (.getfield 24, 3) := dk_180 0 24 (dk_at dksX10_binds_0 5 rfl rfl)
theorem dX10_binds_8 : decode cX10_binds 8 = .ok (.getfield 58, 3) := dk_180 0 58 (dk_at dksX10_binds_0 8 rfl rfl)
theorem dX10_binds_11 : decode cX10_binds 11 = .ok (.if_icmp .ne 7, 3) := dk_160 0 7 (dk_at dksX10_binds_0 11 rfl rfl)
theorem dX10_binds_14 : decode cX10_binds 14 = .ok (.iconst 1, 1) := dk_4 (dk_at dksX10_binds_0 14 rfl rfl)
theorem dX10_binds_15 : decode cX10_binds 15 = .ok (.goto 4, 3) := dk_167 0 4 (dk_at dksX10_binds_0 15 rfl rfl)
theorem dX10_binds_18 : decode cX10_binds 18 = .ok (.iconst 0, 1) := dk_3 (dk_at dksX10_binds_0 18 rfl rfl)
theorem dX10_binds_19 : decode cX10_binds 19 = .ok (.istore_n 3, 1) := dk_62 (dk_at dksX10_binds_0 19 rfl rfl)
theorem dX10_binds_20 : decode cX10_binds 20 = .ok (.iconst 0, 1) := dk_3 (dk_at dksX10_binds_0 20 rfl rfl)
theorem dX10_binds_21 : decode cX10_binds 21 = .ok (.istore 4, 2) := dk_54 4 (dk_at dksX10_binds_0 21 rfl rfl)
theorem dX10_binds_23 : decode cX10_binds 23 = .ok (.iload 4, 2) := dk_21 4 (dk_at dksX10_binds_1 0 rfl rfl)
theorem dX10_binds_25 : decode cX10_binds 25 = .ok (.aload_n 0, 1) := dk_42 (dk_at dksX10_binds_1 2 rfl rfl)
theorem dX10_binds_26 : decode cX10_binds 26 = .ok (.getfield 24, 3) := dk_180 0 24 (dk_at dksX10_binds_1 3 rfl rfl)
theorem dX10_binds_29 : decode cX10_binds 29 = .ok (.getfield 61, 3) := dk_180 0 61 (dk_at dksX10_binds_1 6 rfl rfl)
theorem dX10_binds_32 : decode cX10_binds 32 = .ok (.arraylength, 1) := dk_190 (dk_at dksX10_binds_1 9 rfl rfl)
theorem dX10_binds_33 : decode cX10_binds 33 = .ok (.if_icmp .ge 51, 3) := dk_162 0 51 (dk_at dksX10_binds_1 10 rfl rfl)
theorem dX10_binds_36 : decode cX10_binds 36 = .ok (.iload_n 3, 1) := dk_29 (dk_at dksX10_binds_1 13 rfl rfl)
theorem dX10_binds_37 : decode cX10_binds 37 = .ok (.ifCond .eq 47, 3) := dk_153 0 47 (dk_at dksX10_binds_1 14 rfl rfl)
theorem dX10_binds_40 : decode cX10_binds 40 = .ok (.iload 4, 2) := dk_21 4 (dk_at dksX10_binds_1 17 rfl rfl)
theorem dX10_binds_42 : decode cX10_binds 42 = .ok (.aload_n 0, 1) := dk_42 (dk_at dksX10_binds_1 19 rfl rfl)
theorem dX10_binds_43 : decode cX10_binds 43 = .ok (.getfield 9, 3) := dk_180 0 9 (dk_at dksX10_binds_1 20 rfl rfl)
theorem dX10_binds_46 : decode cX10_binds 46 = .ok (.if_icmp .eq 26, 3) := dk_159 0 26 (dk_at dksX10_binds_2 0 rfl rfl)
theorem dX10_binds_49 : decode cX10_binds 49 = .ok (.aload_n 0, 1) := dk_42 (dk_at dksX10_binds_2 3 rfl rfl)
theorem dX10_binds_50 : decode cX10_binds 50 = .ok (.getfield 24, 3) := dk_180 0 24 (dk_at dksX10_binds_2 4 rfl rfl)
theorem dX10_binds_53 : decode cX10_binds 53 = .ok (.getfield 61, 3) := dk_180 0 61 (dk_at dksX10_binds_2 7 rfl rfl)
theorem dX10_binds_56 : decode cX10_binds 56 = .ok (.iload 4, 2) := dk_21 4 (dk_at dksX10_binds_2 10 rfl rfl)
theorem dX10_binds_58 : decode cX10_binds 58 = .ok (.iaload, 1) := dk_46 (dk_at dksX10_binds_2 12 rfl rfl)
theorem dX10_binds_59 : decode cX10_binds 59 = .ok (.iload_n 1, 1) := dk_27 (dk_at dksX10_binds_2 13 rfl rfl)
theorem dX10_binds_60 : decode cX10_binds 60 = .ok (.iload 4, 2) := dk_21 4 (dk_at dksX10_binds_2 14 rfl rfl)
theorem dX10_binds_62 : decode cX10_binds 62 = .ok (.invokestatic 73, 3) := dk_184 0 73 (dk_at dksX10_binds_2 16 rfl rfl)
theorem dX10_binds_65 : decode cX10_binds 65 = .ok (.aload_n 2, 1) := dk_44 (dk_at dksX10_binds_2 19 rfl rfl)
theorem dX10_binds_66 : decode cX10_binds 66 = .ok (.invokestatic 77, 3) := dk_184 0 77 (dk_at dksX10_binds_2 20 rfl rfl)
theorem dX10_binds_69 : decode cX10_binds 69 = .ok (.ifCond .eq 7, 3) := dk_153 0 7 (dk_at dksX10_binds_3 0 rfl rfl)
theorem dX10_binds_72 : decode cX10_binds 72 = .ok (.iconst 1, 1) := dk_4 (dk_at dksX10_binds_3 3 rfl rfl)
theorem dX10_binds_73 : decode cX10_binds 73 = .ok (.goto 4, 3) := dk_167 0 4 (dk_at dksX10_binds_3 4 rfl rfl)
theorem dX10_binds_76 : decode cX10_binds 76 = .ok (.iconst 0, 1) := dk_3 (dk_at dksX10_binds_3 7 rfl rfl)
theorem dX10_binds_77 : decode cX10_binds 77 = .ok (.istore_n 3, 1) := dk_62 (dk_at dksX10_binds_3 8 rfl rfl)
theorem dX10_binds_78 : decode cX10_binds 78 = .ok (.iinc 4 1, 3) := dk_132 4 1 (dk_at dksX10_binds_3 9 rfl rfl)
theorem dX10_binds_81 : decode cX10_binds 81 = .ok (.goto (-58), 3) := dk_167 255 198 (dk_at dksX10_binds_3 12 rfl rfl)
theorem dX10_binds_84 : decode cX10_binds 84 = .ok (.iload_n 3, 1) := dk_29 (dk_at dksX10_binds_3 15 rfl rfl)
theorem dX10_binds_85 : decode cX10_binds 85 = .ok (.ireturn, 1) := dk_172 (dk_at dksX10_binds_3 16 rfl rfl)
abbrev cX10_init : ByteArray := prog_3_method_1_code
def yX10_init : MethodName := ⟨RX10, "<init>", "(LRulehearth$Item;ZIIZ)V"⟩
def dkwX10_init_2 : List UInt8 := [181, 0, 38, 177]
abbrev dktX10_init_2 : List UInt8 := dkwX10_init_2 ++ []
def dkwX10_init_1 : List UInt8 := [181, 0, 24, 42, 28, 181, 0, 28, 42, 29, 181, 0, 32, 42, 21, 4, 181, 0, 35, 42, 21, 5]
abbrev dktX10_init_1 : List UInt8 := dkwX10_init_1 ++ dktX10_init_2
def dkwX10_init_0 : List UInt8 := [42, 183, 0, 3, 42, 2, 181, 0, 9, 42, 187, 0, 15, 89, 16, 6, 183, 0, 17, 181, 0, 20, 42, 43]
abbrev dktX10_init_0 : List UInt8 := dkwX10_init_0 ++ dktX10_init_1
theorem dksX10_init_0 : cX10_init.data.toList.drop 0 = dktX10_init_0 := by decide +kernel
theorem dksX10_init_1 : cX10_init.data.toList.drop 24 = dktX10_init_1 := dk_seg dksX10_init_0 24 rfl rfl
theorem dksX10_init_2 : cX10_init.data.toList.drop 46 = dktX10_init_2 := dk_seg dksX10_init_1 22 rfl rfl
theorem dX10_init_0 : decode cX10_init 0 = .ok (.aload_n 0, 1) := dk_42 (dk_at dksX10_init_0 0 rfl rfl)
theorem dX10_init_1 : decode cX10_init 1 = .ok (.invokespecial 3, 3) := dk_183 0 3 (dk_at dksX10_init_0 1 rfl rfl)
theorem dX10_init_4 : decode cX10_init 4 = .ok (.aload_n 0, 1) := dk_42 (dk_at dksX10_init_0 4 rfl rfl)
theorem dX10_init_5 : decode cX10_init 5 = .ok (.iconst (-1), 1) := dk_2 (dk_at dksX10_init_0 5 rfl rfl)
theorem dX10_init_6 : decode cX10_init 6 = .ok (.putfield 9, 3) := dk_181 0 9 (dk_at dksX10_init_0 6 rfl rfl)
theorem dX10_init_9 : decode cX10_init 9 = .ok (.aload_n 0, 1) := dk_42 (dk_at dksX10_init_0 9 rfl rfl)
theorem dX10_init_10 : decode cX10_init 10 = .ok (.new 15, 3) := dk_187 0 15 (dk_at dksX10_init_0 10 rfl rfl)
theorem dX10_init_13 : decode cX10_init 13 = .ok (.dup, 1) := dk_89 (dk_at dksX10_init_0 13 rfl rfl)
theorem dX10_init_14 : decode cX10_init 14 = .ok (.bipush 6, 2) := dk_16 6 (dk_at dksX10_init_0 14 rfl rfl)
theorem dX10_init_16 : decode cX10_init 16 = .ok (.invokespecial 17, 3) := dk_183 0 17 (dk_at dksX10_init_0 16 rfl rfl)
theorem dX10_init_19 : decode cX10_init 19 = .ok (.putfield 20, 3) := dk_181 0 20 (dk_at dksX10_init_0 19 rfl rfl)
theorem dX10_init_22 : decode cX10_init 22 = .ok (.aload_n 0, 1) := dk_42 (dk_at dksX10_init_0 22 rfl rfl)
theorem dX10_init_23 : decode cX10_init 23 = .ok (.aload_n 1, 1) := dk_43 (dk_at dksX10_init_0 23 rfl rfl)
theorem dX10_init_24 : decode cX10_init 24 = .ok (.putfield 24, 3) := dk_181 0 24 (dk_at dksX10_init_1 0 rfl rfl)
theorem dX10_init_27 : decode cX10_init 27 = .ok (.aload_n 0, 1) := dk_42 (dk_at dksX10_init_1 3 rfl rfl)
theorem dX10_init_28 : decode cX10_init 28 = .ok (.iload_n 2, 1) := dk_28 (dk_at dksX10_init_1 4 rfl rfl)
theorem dX10_init_29 : decode cX10_init 29 = .ok (.putfield 28, 3) := dk_181 0 28 (dk_at dksX10_init_1 5 rfl rfl)
theorem dX10_init_32 : decode cX10_init 32 = .ok (.aload_n 0, 1) := dk_42 (dk_at dksX10_init_1 8 rfl rfl)
theorem dX10_init_33 : decode cX10_init 33 = .ok (.iload_n 3, 1) := dk_29 (dk_at dksX10_init_1 9 rfl rfl)
theorem dX10_init_34 : decode cX10_init 34 = .ok (.putfield 32, 3) := dk_181 0 32 (dk_at dksX10_init_1 10 rfl rfl)
theorem dX10_init_37 : decode cX10_init 37 = .ok (.aload_n 0, 1) := dk_42 (dk_at dksX10_init_1 13 rfl rfl)
theorem dX10_init_38 : decode cX10_init 38 = .ok (.iload 4, 2) := dk_21 4 (dk_at dksX10_init_1 14 rfl rfl)
theorem dX10_init_40 : decode cX10_init 40 = .ok (.putfield 35, 3) := dk_181 0 35 (dk_at dksX10_init_1 16 rfl rfl)
theorem dX10_init_43 : decode cX10_init 43 = .ok (.aload_n 0, 1) := dk_42 (dk_at dksX10_init_1 19 rfl rfl)
theorem dX10_init_44 : decode cX10_init 44 = .ok (.iload 5, 2) := dk_21 5 (dk_at dksX10_init_1 20 rfl rfl)
theorem dX10_init_46 : decode cX10_init 46 = .ok (.putfield 38, 3) := dk_181 0 38 (dk_at dksX10_init_2 0 rfl rfl)
theorem dX10_init_49 : decode cX10_init 49 = .ok (.return_, 1) := dk_177 (dk_at dksX10_init_2 3 rfl rfl)
abbrev cX10_latest : ByteArray := prog_3_method_2_code
def yX10_latest : MethodName := ⟨RX10, "latest", "()LRulehearth$Item;"⟩
def dkwX10_latest_1 : List UInt8 := [180, 0, 20, 182, 0, 45, 4, 100, 182, 0, 49, 192, 0, 53, 176]
abbrev dktX10_latest_1 : List UInt8 := dkwX10_latest_1 ++ []
def dkwX10_latest_0 : List UInt8 := [42, 180, 0, 20, 182, 0, 41, 153, 0, 10, 42, 180, 0, 24, 167, 0, 22, 42, 180, 0, 20, 42]
abbrev dktX10_latest_0 : List UInt8 := dkwX10_latest_0 ++ dktX10_latest_1
theorem dksX10_latest_0 : cX10_latest.data.toList.drop 0 = dktX10_latest_0 := by decide +kernel
theorem dksX10_latest_1 : cX10_latest.data.toList.drop 22 = dktX10_latest_1 := dk_seg dksX10_latest_0 22 rfl rfl
theorem dX10_latest_0 : decode cX10_latest 0 = .ok (.aload_n 0, 1) := dk_42 (dk_at dksX10_latest_0 0 rfl rfl)
theorem dX10_latest_1 : decode cX10_latest 1 = .ok (.getfield 20, 3) := dk_180 0 20 (dk_at dksX10_latest_0 1 rfl rfl)
theorem dX10_latest_4 : decode cX10_latest 4 = .ok (.invokevirtual 41, 3) := dk_182 0 41 (dk_at dksX10_latest_0 4 rfl rfl)
theorem dX10_latest_7 : decode cX10_latest 7 = .ok (.ifCond .eq 10, 3) := dk_153 0 10 (dk_at dksX10_latest_0 7 rfl rfl)
theorem dX10_latest_10 : decode cX10_latest 10 = .ok (.aload_n 0, 1) := dk_42 (dk_at dksX10_latest_0 10 rfl rfl)
theorem dX10_latest_11 : decode cX10_latest 11 = .ok (.getfield 24, 3) := dk_180 0 24 (dk_at dksX10_latest_0 11 rfl rfl)
theorem dX10_latest_14 : decode cX10_latest 14 = .ok (.goto 22, 3) := dk_167 0 22 (dk_at dksX10_latest_0 14 rfl rfl)
theorem dX10_latest_17 : decode cX10_latest 17 = .ok (.aload_n 0, 1) := dk_42 (dk_at dksX10_latest_0 17 rfl rfl)
theorem dX10_latest_18 : decode cX10_latest 18 = .ok (.getfield 20, 3) := dk_180 0 20 (dk_at dksX10_latest_0 18 rfl rfl)
theorem dX10_latest_21 : decode cX10_latest 21 = .ok (.aload_n 0, 1) := dk_42 (dk_at dksX10_latest_0 21 rfl rfl)
theorem dX10_latest_22 : decode cX10_latest 22 = .ok (.getfield 20, 3) := dk_180 0 20 (dk_at dksX10_latest_1 0 rfl rfl)
theorem dX10_latest_25 : decode cX10_latest 25 = .ok (.invokevirtual 45, 3) := dk_182 0 45 (dk_at dksX10_latest_1 3 rfl rfl)
theorem dX10_latest_28 : decode cX10_latest 28 = .ok (.iconst 1, 1) := dk_4 (dk_at dksX10_latest_1 6 rfl rfl)
theorem dX10_latest_29 : decode cX10_latest 29 = .ok (.isub, 1) := dk_100 (dk_at dksX10_latest_1 7 rfl rfl)
theorem dX10_latest_30 : decode cX10_latest 30 = .ok (.invokevirtual 49, 3) := dk_182 0 49 (dk_at dksX10_latest_1 8 rfl rfl)
theorem dX10_latest_33 : decode cX10_latest 33 = .ok (.checkcast 53, 3) := dk_192 0 53 (dk_at dksX10_latest_1 11 rfl rfl)
theorem dX10_latest_36 : decode cX10_latest 36 = .ok (.areturn, 1) := dk_176 (dk_at dksX10_latest_1 14 rfl rfl)

abbrev cX11_init : ByteArray := prog_11_method_1_code
def yX11_init : MethodName := ⟨RX11, "<init>", "(III)V"⟩
def dkwX11_init_0 : List UInt8 := [42, 183, 0, 3, 42, 27, 181, 0, 9, 42, 28, 181, 0, 15, 42, 29, 188, 10, 181, 0, 18, 177]
abbrev dktX11_init_0 : List UInt8 := dkwX11_init_0 ++ []
theorem dksX11_init_0 : cX11_init.data.toList.drop 0 = dktX11_init_0 := by decide +kernel
theorem dX11_init_0 : decode cX11_init 0 = .ok (.aload_n 0, 1) := dk_42 (dk_at dksX11_init_0 0 rfl rfl)
theorem dX11_init_1 : decode cX11_init 1 = .ok (.invokespecial 3, 3) := dk_183 0 3 (dk_at dksX11_init_0 1 rfl rfl)
theorem dX11_init_4 : decode cX11_init 4 = .ok (.aload_n 0, 1) := dk_42 (dk_at dksX11_init_0 4 rfl rfl)
theorem dX11_init_5 : decode cX11_init 5 = .ok (.iload_n 1, 1) := dk_27 (dk_at dksX11_init_0 5 rfl rfl)
theorem dX11_init_6 : decode cX11_init 6 = .ok (.putfield 9, 3) := dk_181 0 9 (dk_at dksX11_init_0 6 rfl rfl)
theorem dX11_init_9 : decode cX11_init 9 = .ok (.aload_n 0, 1) := dk_42 (dk_at dksX11_init_0 9 rfl rfl)
theorem dX11_init_10 : decode cX11_init 10 = .ok (.iload_n 2, 1) := dk_28 (dk_at dksX11_init_0 10 rfl rfl)
theorem dX11_init_11 : decode cX11_init 11 = .ok (.putfield 15, 3) := dk_181 0 15 (dk_at dksX11_init_0 11 rfl rfl)
theorem dX11_init_14 : decode cX11_init 14 = .ok (.aload_n 0, 1) := dk_42 (dk_at dksX11_init_0 14 rfl rfl)
theorem dX11_init_15 : decode cX11_init 15 = .ok (.iload_n 3, 1) := dk_29 (dk_at dksX11_init_0 15 rfl rfl)
theorem dX11_init_16 : decode cX11_init 16 = .ok (.newarray .int, 2) := dk_188_10 (dk_at dksX11_init_0 16 rfl rfl)
theorem dX11_init_18 : decode cX11_init 18 = .ok (.putfield 18, 3) := dk_181 0 18 (dk_at dksX11_init_0 18 rfl rfl)
theorem dX11_init_21 : decode cX11_init 21 = .ok (.return_, 1) := dk_177 (dk_at dksX11_init_0 21 rfl rfl)
abbrev cX11_isWhole : ByteArray := prog_11_method_2_code
def yX11_isWhole : MethodName := ⟨RX11, "isWhole", "()Z"⟩
def dkwX11_isWhole_0 : List UInt8 := [42, 180, 0, 22, 42, 180, 0, 18, 190, 160, 0, 7, 4, 167, 0, 4, 3, 172]
abbrev dktX11_isWhole_0 : List UInt8 := dkwX11_isWhole_0 ++ []
theorem dksX11_isWhole_0 : cX11_isWhole.data.toList.drop 0 = dktX11_isWhole_0 := by decide +kernel
theorem dX11_isWhole_0 : decode cX11_isWhole 0 = .ok (.aload_n 0, 1) := dk_42 (dk_at dksX11_isWhole_0 0 rfl rfl)
theorem dX11_isWhole_1 : decode cX11_isWhole 1 = .ok (.getfield 22, 3) := dk_180 0 22 (dk_at dksX11_isWhole_0 1 rfl rfl)
theorem dX11_isWhole_4 : decode cX11_isWhole 4 = .ok (.aload_n 0, 1) := dk_42 (dk_at dksX11_isWhole_0 4 rfl rfl)
theorem dX11_isWhole_5 : decode cX11_isWhole 5 = .ok (.getfield 18, 3) := dk_180 0 18 (dk_at dksX11_isWhole_0 5 rfl rfl)
theorem dX11_isWhole_8 : decode cX11_isWhole 8 = .ok (.arraylength, 1) := dk_190 (dk_at dksX11_isWhole_0 8 rfl rfl)
theorem dX11_isWhole_9 : decode cX11_isWhole 9 = .ok (.if_icmp .ne 7, 3) := dk_160 0 7 (dk_at dksX11_isWhole_0 9 rfl rfl)
theorem dX11_isWhole_12 : decode cX11_isWhole 12 = .ok (.iconst 1, 1) := dk_4 (dk_at dksX11_isWhole_0 12 rfl rfl)
theorem dX11_isWhole_13 : decode cX11_isWhole 13 = .ok (.goto 4, 3) := dk_167 0 4 (dk_at dksX11_isWhole_0 13 rfl rfl)
theorem dX11_isWhole_16 : decode cX11_isWhole 16 = .ok (.iconst 0, 1) := dk_3 (dk_at dksX11_isWhole_0 16 rfl rfl)
theorem dX11_isWhole_17 : decode cX11_isWhole 17 = .ok (.ireturn, 1) := dk_172 (dk_at dksX11_isWhole_0 17 rfl rfl)
abbrev cX11_hasVariable : ByteArray := prog_11_method_3_code
def yX11_hasVariable : MethodName := ⟨RX11, "hasVariable", "(I)Z"⟩
def dkwX11_hasVariable_1 : List UInt8 := [160, 0, 7, 4, 167, 0, 4, 3, 128, 61, 132, 3, 1, 167, 255, 223, 28, 172]
abbrev dktX11_hasVariable_1 : List UInt8 := dkwX11_hasVariable_1 ++ []
def dkwX11_hasVariable_0 : List UInt8 := [3, 61, 3, 62, 29, 42, 180, 0, 18, 190, 162, 0, 30, 28, 42, 180, 0, 18, 29, 46, 16, 100, 27, 96]
abbrev dktX11_hasVariable_0 : List UInt8 := dkwX11_hasVariable_0 ++ dktX11_hasVariable_1
theorem dksX11_hasVariable_0 : cX11_hasVariable.data.toList.drop 0 = dktX11_hasVariable_0 := by decide +kernel
theorem dksX11_hasVariable_1 : cX11_hasVariable.data.toList.drop 24 = dktX11_hasVariable_1 := dk_seg dksX11_hasVariable_0 24 rfl rfl
theorem dX11_hasVariable_0 : decode cX11_hasVariable 0 = .ok (.iconst 0, 1) := dk_3 (dk_at dksX11_hasVariable_0 0 rfl rfl)
theorem dX11_hasVariable_1 : decode cX11_hasVariable 1 = .ok (.istore_n 2, 1) := dk_61 (dk_at dksX11_hasVariable_0 1 rfl rfl)
theorem dX11_hasVariable_2 : decode cX11_hasVariable 2 = .ok (.iconst 0, 1) := dk_3 (dk_at dksX11_hasVariable_0 2 rfl rfl)
theorem dX11_hasVariable_3 : decode cX11_hasVariable 3 = .ok (.istore_n 3, 1) := dk_62 (dk_at dksX11_hasVariable_0 3 rfl rfl)
theorem dX11_hasVariable_4 : decode cX11_hasVariable 4 = .ok (.iload_n 3, 1) := dk_29 (dk_at dksX11_hasVariable_0 4 rfl rfl)
theorem dX11_hasVariable_5 : decode cX11_hasVariable 5 = .ok (.aload_n 0, 1) := dk_42 (dk_at dksX11_hasVariable_0 5 rfl rfl)
theorem dX11_hasVariable_6 : decode cX11_hasVariable 6 = .ok (.getfield 18, 3) := dk_180 0 18 (dk_at dksX11_hasVariable_0 6 rfl rfl)
theorem dX11_hasVariable_9 : decode cX11_hasVariable 9 = .ok (.arraylength, 1) := dk_190 (dk_at dksX11_hasVariable_0 9 rfl rfl)
theorem dX11_hasVariable_10 : decode cX11_hasVariable 10 = .ok (.if_icmp .ge 30, 3) := dk_162 0 30 (dk_at dksX11_hasVariable_0 10 rfl rfl)
theorem dX11_hasVariable_13 : decode cX11_hasVariable 13 = .ok (.iload_n 2, 1) := dk_28 (dk_at dksX11_hasVariable_0 13 rfl rfl)
theorem dX11_hasVariable_14 : decode cX11_hasVariable 14 = .ok (.aload_n 0, 1) := dk_42 (dk_at dksX11_hasVariable_0 14 rfl rfl)
theorem dX11_hasVariable_15 : decode cX11_hasVariable 15 = .ok (.getfield 18, 3) := dk_180 0 18 (dk_at dksX11_hasVariable_0 15 rfl rfl)
theorem dX11_hasVariable_18 : decode cX11_hasVariable 18 = .ok (.iload_n 3, 1) := dk_29 (dk_at dksX11_hasVariable_0 18 rfl rfl)
theorem dX11_hasVariable_19 : decode cX11_hasVariable 19 = .ok (.iaload, 1) := dk_46 (dk_at dksX11_hasVariable_0 19 rfl rfl)
theorem dX11_hasVariable_20 : decode cX11_hasVariable 20 = .ok (.bipush 100, 2) := dk_16 100 (dk_at dksX11_hasVariable_0 20 rfl rfl)
theorem dX11_hasVariable_22 : decode cX11_hasVariable 22 = .ok (.iload_n 1, 1) := dk_27 (dk_at dksX11_hasVariable_0 22 rfl rfl)
theorem dX11_hasVariable_23 : decode cX11_hasVariable 23 = .ok (.iadd, 1) := dk_96 (dk_at dksX11_hasVariable_0 23 rfl rfl)
theorem dX11_hasVariable_24 : decode cX11_hasVariable 24 = .ok (.if_icmp .ne 7, 3) := dk_160 0 7 (dk_at dksX11_hasVariable_1 0 rfl rfl)
theorem dX11_hasVariable_27 : decode cX11_hasVariable 27 = .ok (.iconst 1, 1) := dk_4 (dk_at dksX11_hasVariable_1 3 rfl rfl)
theorem dX11_hasVariable_28 : decode cX11_hasVariable 28 = .ok (.goto 4, 3) := dk_167 0 4 (dk_at dksX11_hasVariable_1 4 rfl rfl)
theorem dX11_hasVariable_31 : decode cX11_hasVariable 31 = .ok (.iconst 0, 1) := dk_3 (dk_at dksX11_hasVariable_1 7 rfl rfl)
theorem dX11_hasVariable_32 : decode cX11_hasVariable 32 = .ok (.ior, 1) := dk_128 (dk_at dksX11_hasVariable_1 8 rfl rfl)
theorem dX11_hasVariable_33 : decode cX11_hasVariable 33 = .ok (.istore_n 2, 1) := dk_61 (dk_at dksX11_hasVariable_1 9 rfl rfl)
theorem dX11_hasVariable_34 : decode cX11_hasVariable 34 = .ok (.iinc 3 1, 3) := dk_132 3 1 (dk_at dksX11_hasVariable_1 10 rfl rfl)
theorem dX11_hasVariable_37 : decode cX11_hasVariable 37 = .ok (.goto (-33), 3) := dk_167 255 223 (dk_at dksX11_hasVariable_1 13 rfl rfl)
theorem dX11_hasVariable_40 : decode cX11_hasVariable 40 = .ok (.iload_n 2, 1) := dk_28 (dk_at dksX11_hasVariable_1 16 rfl rfl)
theorem dX11_hasVariable_41 : decode cX11_hasVariable 41 = .ok (.ireturn, 1) := dk_172 (dk_at dksX11_hasVariable_1 17 rfl rfl)

abbrev cX12_init : ByteArray := prog_13_method_1_code
def yX12_init : MethodName := ⟨RX12, "<init>", "(LRulehearth;)V"⟩
def dkwX12_init_6 : List UInt8 := [132, 2, 1, 167, 255, 171, 177]
abbrev dktX12_init_6 : List UInt8 := dkwX12_init_6 ++ []
def dkwX12_init_5 : List UInt8 := [25, 5, 182, 0, 70, 184, 0, 74, 87, 167, 0, 14, 42, 180, 0, 38, 28, 42, 45, 182, 0, 78, 83]
abbrev dktX12_init_5 : List UInt8 := dkwX12_init_5 ++ dktX12_init_6
def dkwX12_init_4 : List UInt8 := [45, 180, 0, 58, 2, 160, 0, 31, 42, 45, 21, 4, 186, 0, 62, 0, 0, 58, 5, 43, 45, 184, 0, 66]
abbrev dktX12_init_4 : List UInt8 := dkwX12_init_4 ++ dktX12_init_5
def dkwX12_init_3 : List UInt8 := [162, 0, 77, 43, 180, 0, 15, 180, 0, 26, 28, 182, 0, 49, 192, 0, 53, 78, 45, 182, 0, 55, 54, 4]
abbrev dktX12_init_3 : List UInt8 := dkwX12_init_3 ++ dktX12_init_4
def dkwX12_init_2 : List UInt8 := [181, 0, 42, 42, 16, 60, 188, 10, 181, 0, 45, 3, 61, 28, 43, 180, 0, 15, 180, 0, 26, 182, 0, 30]
abbrev dktX12_init_2 : List UInt8 := dkwX12_init_2 ++ dktX12_init_3
def dkwX12_init_1 : List UInt8 := [42, 180, 0, 3, 180, 0, 15, 180, 0, 26, 182, 0, 30, 189, 0, 36, 181, 0, 38, 42, 16, 60, 188, 11]
abbrev dktX12_init_1 : List UInt8 := dkwX12_init_1 ++ dktX12_init_2
def dkwX12_init_0 : List UInt8 := [42, 43, 181, 0, 3, 42, 183, 0, 9, 42, 42, 180, 0, 3, 180, 0, 15, 180, 0, 19, 181, 0, 25, 42]
abbrev dktX12_init_0 : List UInt8 := dkwX12_init_0 ++ dktX12_init_1
theorem dksX12_init_0 : cX12_init.data.toList.drop 0 = dktX12_init_0 := by decide +kernel
theorem dksX12_init_1 : cX12_init.data.toList.drop 24 = dktX12_init_1 := dk_seg dksX12_init_0 24 rfl rfl
theorem dksX12_init_2 : cX12_init.data.toList.drop 48 = dktX12_init_2 := dk_seg dksX12_init_1 24 rfl rfl
theorem dksX12_init_3 : cX12_init.data.toList.drop 72 = dktX12_init_3 := dk_seg dksX12_init_2 24 rfl rfl
theorem dksX12_init_4 : cX12_init.data.toList.drop 96 = dktX12_init_4 := dk_seg dksX12_init_3 24 rfl rfl
theorem dksX12_init_5 : cX12_init.data.toList.drop 120 = dktX12_init_5 := dk_seg dksX12_init_4 24 rfl rfl
theorem dksX12_init_6 : cX12_init.data.toList.drop 143 = dktX12_init_6 := dk_seg dksX12_init_5 23 rfl rfl
theorem dX12_init_0 : decode cX12_init 0 = .ok (.aload_n 0, 1) := dk_42 (dk_at dksX12_init_0 0 rfl rfl)
theorem dX12_init_1 : decode cX12_init 1 = .ok (.aload_n 1, 1) := dk_43 (dk_at dksX12_init_0 1 rfl rfl)
theorem dX12_init_2 : decode cX12_init 2 = .ok (.putfield 3, 3) := dk_181 0 3 (dk_at dksX12_init_0 2 rfl rfl)
theorem dX12_init_5 : decode cX12_init 5 = .ok (.aload_n 0, 1) := dk_42 (dk_at dksX12_init_0 5 rfl rfl)
theorem dX12_init_6 : decode cX12_init 6 = .ok (.invokespecial 9, 3) := dk_183 0 9 (dk_at dksX12_init_0 6 rfl rfl)
theorem dX12_init_9 : decode cX12_init 9 = .ok (.aload_n 0, 1) := dk_42 (dk_at dksX12_init_0 9 rfl rfl)
theorem dX12_init_10 : decode cX12_init 10 = .ok (.aload_n 0, 1) := dk_42 (dk_at dksX12_init_0 10 rfl rfl)
theorem dX12_init_11 : decode cX12_init 11 = .ok (.getfield 3, 3) := dk_180 0 3 (dk_at dksX12_init_0 11 rfl rfl)
theorem dX12_init_14 : decode cX12_init 14 = .ok (.getfield 15, 3) := dk_180 0 15 (dk_at dksX12_init_0 14 rfl rfl)
theorem dX12_init_17 : decode cX12_init 17 = .ok (.getfield 19, 3) := dk_180 0 19 (dk_at dksX12_init_0 17 rfl rfl)
theorem dX12_init_20 : decode cX12_init 20 = .ok (.putfield 25, 3) := dk_181 0 25 (dk_at dksX12_init_0 20 rfl rfl)
theorem dX12_init_23 : decode cX12_init 23 = .ok (.aload_n 0, 1) := dk_42 (dk_at dksX12_init_0 23 rfl rfl)
theorem dX12_init_24 : decode cX12_init 24 = .ok (.aload_n 0, 1) := dk_42 (dk_at dksX12_init_1 0 rfl rfl)
theorem dX12_init_25 : decode cX12_init 25 = .ok (.getfield 3, 3) := dk_180 0 3 (dk_at dksX12_init_1 1 rfl rfl)
theorem dX12_init_28 : decode cX12_init 28 = .ok (.getfield 15, 3) := dk_180 0 15 (dk_at dksX12_init_1 4 rfl rfl)
theorem dX12_init_31 : decode cX12_init 31 = .ok (.getfield 26, 3) := dk_180 0 26 (dk_at dksX12_init_1 7 rfl rfl)
theorem dX12_init_34 : decode cX12_init 34 = .ok (.invokevirtual 30, 3) := dk_182 0 30 (dk_at dksX12_init_1 10 rfl rfl)
theorem dX12_init_37 : decode cX12_init 37 = .ok (.anewarray 36, 3) := dk_189 0 36 (dk_at dksX12_init_1 13 rfl rfl)
theorem dX12_init_40 : decode cX12_init 40 = .ok (.putfield 38, 3) := dk_181 0 38 (dk_at dksX12_init_1 16 rfl rfl)
theorem dX12_init_43 : decode cX12_init 43 = .ok (.aload_n 0, 1) := dk_42 (dk_at dksX12_init_1 19 rfl rfl)
theorem dX12_init_44 : decode cX12_init 44 = .ok (.bipush 60, 2) := dk_16 60 (dk_at dksX12_init_1 20 rfl rfl)
theorem dX12_init_46 : decode cX12_init 46 = .ok (.newarray .long, 2) := dk_188_11 (dk_at dksX12_init_1 22 rfl rfl)
theorem dX12_init_48 : decode cX12_init 48 = .ok (.putfield 42, 3) := dk_181 0 42 (dk_at dksX12_init_2 0 rfl rfl)
theorem dX12_init_51 : decode cX12_init 51 = .ok (.aload_n 0, 1) := dk_42 (dk_at dksX12_init_2 3 rfl rfl)
theorem dX12_init_52 : decode cX12_init 52 = .ok (.bipush 60, 2) := dk_16 60 (dk_at dksX12_init_2 4 rfl rfl)
theorem dX12_init_54 : decode cX12_init 54 = .ok (.newarray .int, 2) := dk_188_10 (dk_at dksX12_init_2 6 rfl rfl)
theorem dX12_init_56 : decode cX12_init 56 = .ok (.putfield 45, 3) := dk_181 0 45 (dk_at dksX12_init_2 8 rfl rfl)
theorem dX12_init_59 : decode cX12_init 59 = .ok (.iconst 0, 1) := dk_3 (dk_at dksX12_init_2 11 rfl rfl)
theorem dX12_init_60 : decode cX12_init 60 = .ok (.istore_n 2, 1) := dk_61 (dk_at dksX12_init_2 12 rfl rfl)
theorem dX12_init_61 : decode cX12_init 61 = .ok (.iload_n 2, 1) := dk_28 (dk_at dksX12_init_2 13 rfl rfl)
theorem dX12_init_62 : decode cX12_init 62 = .ok (.aload_n 1, 1) := dk_43 (dk_at dksX12_init_2 14 rfl rfl)
theorem dX12_init_63 : decode cX12_init 63 = .ok (.getfield 15, 3) := dk_180 0 15 (dk_at dksX12_init_2 15 rfl rfl)
theorem dX12_init_66 : decode cX12_init 66 = .ok (.getfield 26, 3) := dk_180 0 26 (dk_at dksX12_init_2 18 rfl rfl)
theorem dX12_init_69 : decode cX12_init 69 = .ok (.invokevirtual 30, 3) := dk_182 0 30 (dk_at dksX12_init_2 21 rfl rfl)
theorem dX12_init_72 : decode cX12_init 72 = .ok (.if_icmp .ge 77, 3) := dk_162 0 77 (dk_at dksX12_init_3 0 rfl rfl)
theorem dX12_init_75 : decode cX12_init 75 = .ok (.aload_n 1, 1) := dk_43 (dk_at dksX12_init_3 3 rfl rfl)
theorem dX12_init_76 : decode cX12_init 76 = .ok (.getfield 15, 3) := dk_180 0 15 (dk_at dksX12_init_3 4 rfl rfl)
theorem dX12_init_79 : decode cX12_init 79 = .ok (.getfield 26, 3) := dk_180 0 26 (dk_at dksX12_init_3 7 rfl rfl)
theorem dX12_init_82 : decode cX12_init 82 = .ok (.iload_n 2, 1) := dk_28 (dk_at dksX12_init_3 10 rfl rfl)
theorem dX12_init_83 : decode cX12_init 83 = .ok (.invokevirtual 49, 3) := dk_182 0 49 (dk_at dksX12_init_3 11 rfl rfl)
theorem dX12_init_86 : decode cX12_init 86 = .ok (.checkcast 53, 3) := dk_192 0 53 (dk_at dksX12_init_3 14 rfl rfl)
theorem dX12_init_89 : decode cX12_init 89 = .ok (.astore_n 3, 1) := dk_78 (dk_at dksX12_init_3 17 rfl rfl)
theorem dX12_init_90 : decode cX12_init 90 = .ok (.aload_n 3, 1) := dk_45 (dk_at dksX12_init_3 18 rfl rfl)
theorem dX12_init_91 : decode cX12_init 91 = .ok (.invokevirtual 55, 3) := dk_182 0 55 (dk_at dksX12_init_3 19 rfl rfl)
theorem dX12_init_94 : decode cX12_init 94 = .ok (.istore 4, 2) := dk_54 4 (dk_at dksX12_init_3 22 rfl rfl)
theorem dX12_init_96 : decode cX12_init 96 = .ok (.aload_n 3, 1) := dk_45 (dk_at dksX12_init_4 0 rfl rfl)
theorem dX12_init_97 : decode cX12_init 97 = .ok (.getfield 58, 3) := dk_180 0 58 (dk_at dksX12_init_4 1 rfl rfl)
theorem dX12_init_100 : decode cX12_init 100 = .ok (.iconst (-1), 1) := dk_2 (dk_at dksX12_init_4 4 rfl rfl)
theorem dX12_init_101 : decode cX12_init 101 = .ok (.if_icmp .ne 31, 3) := dk_160 0 31 (dk_at dksX12_init_4 5 rfl rfl)
theorem dX12_init_104 : decode cX12_init 104 = .ok (.aload_n 0, 1) := dk_42 (dk_at dksX12_init_4 8 rfl rfl)
theorem dX12_init_105 : decode cX12_init 105 = .ok (.aload_n 3, 1) := dk_45 (dk_at dksX12_init_4 9 rfl rfl)
theorem dX12_init_106 : decode cX12_init 106 = .ok (.iload 4, 2) := dk_21 4 (dk_at dksX12_init_4 10 rfl rfl)
theorem dX12_init_108 : decode cX12_init 108 = .ok (.invokedynamic 62, 5) := by decide +kernel
theorem dX12_init_113 : decode cX12_init 113 = .ok (.astore 5, 2) := dk_58 5 (dk_at dksX12_init_4 17 rfl rfl)
theorem dX12_init_115 : decode cX12_init 115 = .ok (.aload_n 1, 1) := dk_43 (dk_at dksX12_init_4 19 rfl rfl)
theorem dX12_init_116 : decode cX12_init 116 = .ok (.aload_n 3, 1) := dk_45 (dk_at dksX12_init_4 20 rfl rfl)
theorem dX12_init_117 : decode cX12_init 117 = .ok (.invokestatic 66, 3) := dk_184 0 66 (dk_at dksX12_init_4 21 rfl rfl)
theorem dX12_init_120 : decode cX12_init 120 = .ok (.aload 5, 2) := dk_25 5 (dk_at dksX12_init_5 0 rfl rfl)
theorem dX12_init_122 : decode cX12_init 122 = .ok (.invokevirtual 70, 3) := dk_182 0 70 (dk_at dksX12_init_5 2 rfl rfl)
theorem dX12_init_125 : decode cX12_init 125 = .ok (.invokestatic 74, 3) := dk_184 0 74 (dk_at dksX12_init_5 5 rfl rfl)
theorem dX12_init_128 : decode cX12_init 128 = .ok (.pop, 1) := dk_87 (dk_at dksX12_init_5 8 rfl rfl)
theorem dX12_init_129 : decode cX12_init 129 = .ok (.goto 14, 3) := dk_167 0 14 (dk_at dksX12_init_5 9 rfl rfl)
theorem dX12_init_132 : decode cX12_init 132 = .ok (.aload_n 0, 1) := dk_42 (dk_at dksX12_init_5 12 rfl rfl)
theorem dX12_init_133 : decode cX12_init 133 = .ok (.getfield 38, 3) := dk_180 0 38 (dk_at dksX12_init_5 13 rfl rfl)
theorem dX12_init_136 : decode cX12_init 136 = .ok (.iload_n 2, 1) := dk_28 (dk_at dksX12_init_5 16 rfl rfl)
theorem dX12_init_137 : decode cX12_init 137 = .ok (.aload_n 0, 1) := dk_42 (dk_at dksX12_init_5 17 rfl rfl)
theorem dX12_init_138 : decode cX12_init 138 = .ok (.aload_n 3, 1) := dk_45 (dk_at dksX12_init_5 18 rfl rfl)
theorem dX12_init_139 : decode cX12_init 139 = .ok (.invokevirtual 78, 3) := dk_182 0 78 (dk_at dksX12_init_5 19 rfl rfl)
theorem dX12_init_142 : decode cX12_init 142 = .ok (.aastore, 1) := dk_83 (dk_at dksX12_init_5 22 rfl rfl)
theorem dX12_init_143 : decode cX12_init 143 = .ok (.iinc 2 1, 3) := dk_132 2 1 (dk_at dksX12_init_6 0 rfl rfl)
theorem dX12_init_146 : decode cX12_init 146 = .ok (.goto (-85), 3) := dk_167 255 171 (dk_at dksX12_init_6 3 rfl rfl)
theorem dX12_init_149 : decode cX12_init 149 = .ok (.return_, 1) := dk_177 (dk_at dksX12_init_6 6 rfl rfl)
abbrev cX12_lambda_new_0 : ByteArray := prog_13_method_8_code
def yX12_lambda_new_0 : MethodName := ⟨RX12, "lambda$new$0", "(LRulehearth$Clause;I[I[I)Z"⟩
def dkwX12_lambda_new_0_1 : List UInt8 := [25, 4, 28, 182, 0, 142, 129, 80, 4, 172]
abbrev dktX12_lambda_new_0_1 : List UInt8 := dkwX12_lambda_new_0_1 ++ []
def dkwX12_lambda_new_0_0 : List UInt8 := [42, 180, 0, 42, 42, 180, 0, 25, 43, 45, 3, 182, 0, 136, 182, 0, 107, 92, 47, 42, 180, 0, 3]
abbrev dktX12_lambda_new_0_0 : List UInt8 := dkwX12_lambda_new_0_0 ++ dktX12_lambda_new_0_1
theorem dksX12_lambda_new_0_0 : cX12_lambda_new_0.data.toList.drop 0 = dktX12_lambda_new_0_0 := by decide +kernel
theorem dksX12_lambda_new_0_1 : cX12_lambda_new_0.data.toList.drop 23 = dktX12_lambda_new_0_1 := dk_seg dksX12_lambda_new_0_0 23 rfl rfl
theorem dX12_lambda_new_0_0 : decode cX12_lambda_new_0 0 = .ok (.aload_n 0, 1) := dk_42 (dk_at dksX12_lambda_new_0_0 0 rfl rfl)
theorem dX12_lambda_new_0_1 : decode cX12_lambda_new_0 1 = .ok (.getfield 42, 3) := dk_180 0 42 (dk_at dksX12_lambda_new_0_0 1 rfl rfl)
theorem dX12_lambda_new_0_4 : decode cX12_lambda_new_0 4 = .ok (.aload_n 0, 1) := dk_42 (dk_at dksX12_lambda_new_0_0 4 rfl rfl)
theorem dX12_lambda_new_0_5 : decode cX12_lambda_new_0 5 = .ok (.getfield 25, 3) := dk_180 0 25 (dk_at dksX12_lambda_new_0_0 5 rfl rfl)
theorem dX12_lambda_new_0_8 : decode cX12_lambda_new_0 8 = .ok (.aload_n 1, 1) := dk_43 (dk_at dksX12_lambda_new_0_0 8 rfl rfl)
theorem dX12_lambda_new_0_9 : decode cX12_lambda_new_0 9 = .ok (.aload_n 3, 1) := dk_45 (dk_at dksX12_lambda_new_0_0 9 rfl rfl)
theorem dX12_lambda_new_0_10 : decode cX12_lambda_new_0 10 = .ok (.iconst 0, 1) := dk_3 (dk_at dksX12_lambda_new_0_0 10 rfl rfl)
theorem dX12_lambda_new_0_11 : decode cX12_lambda_new_0 11 = .ok (.invokevirtual 136, 3) := dk_182 0 136 (dk_at dksX12_lambda_new_0_0 11 rfl rfl)
theorem dX12_lambda_new_0_14 : decode cX12_lambda_new_0 14 = .ok (.invokevirtual 107, 3) := dk_182 0 107 (dk_at dksX12_lambda_new_0_0 14 rfl rfl)
theorem dX12_lambda_new_0_17 : decode cX12_lambda_new_0 17 = .ok (.dup2, 1) := dk_92 (dk_at dksX12_lambda_new_0_0 17 rfl rfl)
theorem dX12_lambda_new_0_18 : decode cX12_lambda_new_0 18 = .ok (.laload, 1) := dk_47 (dk_at dksX12_lambda_new_0_0 18 rfl rfl)
theorem dX12_lambda_new_0_19 : decode cX12_lambda_new_0 19 = .ok (.aload_n 0, 1) := dk_42 (dk_at dksX12_lambda_new_0_0 19 rfl rfl)
theorem dX12_lambda_new_0_20 : decode cX12_lambda_new_0 20 = .ok (.getfield 3, 3) := dk_180 0 3 (dk_at dksX12_lambda_new_0_0 20 rfl rfl)
theorem dX12_lambda_new_0_23 : decode cX12_lambda_new_0 23 = .ok (.aload 4, 2) := dk_25 4 (dk_at dksX12_lambda_new_0_1 0 rfl rfl)
theorem dX12_lambda_new_0_25 : decode cX12_lambda_new_0 25 = .ok (.iload_n 2, 1) := dk_28 (dk_at dksX12_lambda_new_0_1 2 rfl rfl)
theorem dX12_lambda_new_0_26 : decode cX12_lambda_new_0 26 = .ok (.invokevirtual 142, 3) := dk_182 0 142 (dk_at dksX12_lambda_new_0_1 3 rfl rfl)
theorem dX12_lambda_new_0_29 : decode cX12_lambda_new_0 29 = .ok (.lor, 1) := dk_129 (dk_at dksX12_lambda_new_0_1 6 rfl rfl)
theorem dX12_lambda_new_0_30 : decode cX12_lambda_new_0 30 = .ok (.lastore, 1) := dk_80 (dk_at dksX12_lambda_new_0_1 7 rfl rfl)
theorem dX12_lambda_new_0_31 : decode cX12_lambda_new_0 31 = .ok (.iconst 1, 1) := dk_4 (dk_at dksX12_lambda_new_0_1 8 rfl rfl)
theorem dX12_lambda_new_0_32 : decode cX12_lambda_new_0 32 = .ok (.ireturn, 1) := dk_172 (dk_at dksX12_lambda_new_0_1 9 rfl rfl)
abbrev cX12_gatherBy : ByteArray := prog_13_method_2_code
def yX12_gatherBy : MethodName := ⟨RX12, "gatherBy", "(LRulehearth$Clause;)[J"⟩
def dkwX12_gatherBy_4 : List UInt8 := [132, 6, 1, 167, 255, 200, 44, 176]
abbrev dktX12_gatherBy_4 : List UInt8 := dkwX12_gatherBy_4 ++ []
def dkwX12_gatherBy_3 : List UInt8 := [182, 0, 95, 80, 42, 180, 0, 42, 21, 6, 92, 47, 44, 21, 6, 47, 20, 0, 99, 127, 129, 80]
abbrev dktX12_gatherBy_3 : List UInt8 := dkwX12_gatherBy_3 ++ dktX12_gatherBy_4
def dkwX12_gatherBy_2 : List UInt8 := [162, 0, 50, 44, 21, 6, 25, 4, 42, 180, 0, 25, 180, 0, 92, 21, 6, 46, 25, 5, 43, 45]
abbrev dktX12_gatherBy_2 : List UInt8 := dkwX12_gatherBy_2 ++ dktX12_gatherBy_3
def dkwX12_gatherBy_1 : List UInt8 := [180, 0, 3, 43, 45, 25, 4, 182, 0, 70, 58, 5, 3, 54, 6, 21, 6, 42, 180, 0, 25, 180, 0, 87]
abbrev dktX12_gatherBy_1 : List UInt8 := dkwX12_gatherBy_1 ++ dktX12_gatherBy_2
def dkwX12_gatherBy_0 : List UInt8 := [16, 60, 188, 11, 77, 184, 0, 66, 78, 187, 0, 82, 89, 42, 180, 0, 3, 43, 183, 0, 84, 58, 4, 42]
abbrev dktX12_gatherBy_0 : List UInt8 := dkwX12_gatherBy_0 ++ dktX12_gatherBy_1
theorem dksX12_gatherBy_0 : cX12_gatherBy.data.toList.drop 0 = dktX12_gatherBy_0 := by decide +kernel
theorem dksX12_gatherBy_1 : cX12_gatherBy.data.toList.drop 24 = dktX12_gatherBy_1 := dk_seg dksX12_gatherBy_0 24 rfl rfl
theorem dksX12_gatherBy_2 : cX12_gatherBy.data.toList.drop 48 = dktX12_gatherBy_2 := dk_seg dksX12_gatherBy_1 24 rfl rfl
theorem dksX12_gatherBy_3 : cX12_gatherBy.data.toList.drop 70 = dktX12_gatherBy_3 := dk_seg dksX12_gatherBy_2 22 rfl rfl
theorem dksX12_gatherBy_4 : cX12_gatherBy.data.toList.drop 92 = dktX12_gatherBy_4 := dk_seg dksX12_gatherBy_3 22 rfl rfl
theorem dX12_gatherBy_0 : decode cX12_gatherBy 0 = .ok (.bipush 60, 2) := dk_16 60 (dk_at dksX12_gatherBy_0 0 rfl rfl)
theorem dX12_gatherBy_2 : decode cX12_gatherBy 2 = .ok (.newarray .long, 2) := dk_188_11 (dk_at dksX12_gatherBy_0 2 rfl rfl)
theorem dX12_gatherBy_4 : decode cX12_gatherBy 4 = .ok (.astore_n 2, 1) := dk_77 (dk_at dksX12_gatherBy_0 4 rfl rfl)
theorem dX12_gatherBy_5 : decode cX12_gatherBy 5 = .ok (.invokestatic 66, 3) := dk_184 0 66 (dk_at dksX12_gatherBy_0 5 rfl rfl)
theorem dX12_gatherBy_8 : decode cX12_gatherBy 8 = .ok (.astore_n 3, 1) := dk_78 (dk_at dksX12_gatherBy_0 8 rfl rfl)
theorem dX12_gatherBy_9 : decode cX12_gatherBy 9 = .ok (.new 82, 3) := dk_187 0 82 (dk_at dksX12_gatherBy_0 9 rfl rfl)
theorem dX12_gatherBy_12 : decode cX12_gatherBy 12 = .ok (.dup, 1) := dk_89 (dk_at dksX12_gatherBy_0 12 rfl rfl)
theorem dX12_gatherBy_13 : decode cX12_gatherBy 13 = .ok (.aload_n 0, 1) := dk_42 (dk_at dksX12_gatherBy_0 13 rfl rfl)
theorem dX12_gatherBy_14 : decode cX12_gatherBy 14 = .ok (.getfield 3, 3) := dk_180 0 3 (dk_at dksX12_gatherBy_0 14 rfl rfl)
theorem dX12_gatherBy_17 : decode cX12_gatherBy 17 = .ok (.aload_n 1, 1) := dk_43 (dk_at dksX12_gatherBy_0 17 rfl rfl)
theorem dX12_gatherBy_18 : decode cX12_gatherBy 18 = .ok (.invokespecial 84, 3) := dk_183 0 84 (dk_at dksX12_gatherBy_0 18 rfl rfl)
theorem dX12_gatherBy_21 : decode cX12_gatherBy 21 = .ok (.astore 4, 2) := dk_58 4 (dk_at dksX12_gatherBy_0 21 rfl rfl)
theorem dX12_gatherBy_23 : decode cX12_gatherBy 23 = .ok (.aload_n 0, 1) := dk_42 (dk_at dksX12_gatherBy_0 23 rfl rfl)
theorem dX12_gatherBy_24 : decode cX12_gatherBy 24 = .ok (.getfield 3, 3) := dk_180 0 3 (dk_at dksX12_gatherBy_1 0 rfl rfl)
theorem dX12_gatherBy_27 : decode cX12_gatherBy 27 = .ok (.aload_n 1, 1) := dk_43 (dk_at dksX12_gatherBy_1 3 rfl rfl)
theorem dX12_gatherBy_28 : decode cX12_gatherBy 28 = .ok (.aload_n 3, 1) := dk_45 (dk_at dksX12_gatherBy_1 4 rfl rfl)
theorem dX12_gatherBy_29 : decode cX12_gatherBy 29 = .ok (.aload 4, 2) := dk_25 4 (dk_at dksX12_gatherBy_1 5 rfl rfl)
theorem dX12_gatherBy_31 : decode cX12_gatherBy 31 = .ok (.invokevirtual 70, 3) := dk_182 0 70 (dk_at dksX12_gatherBy_1 7 rfl rfl)
theorem dX12_gatherBy_34 : decode cX12_gatherBy 34 = .ok (.astore 5, 2) := dk_58 5 (dk_at dksX12_gatherBy_1 10 rfl rfl)
theorem dX12_gatherBy_36 : decode cX12_gatherBy 36 = .ok (.iconst 0, 1) := dk_3 (dk_at dksX12_gatherBy_1 12 rfl rfl)
theorem dX12_gatherBy_37 : decode cX12_gatherBy 37 = .ok (.istore 6, 2) := dk_54 6 (dk_at dksX12_gatherBy_1 13 rfl rfl)
theorem dX12_gatherBy_39 : decode cX12_gatherBy 39 = .ok (.iload 6, 2) := dk_21 6 (dk_at dksX12_gatherBy_1 15 rfl rfl)
theorem dX12_gatherBy_41 : decode cX12_gatherBy 41 = .ok (.aload_n 0, 1) := dk_42 (dk_at dksX12_gatherBy_1 17 rfl rfl)
theorem dX12_gatherBy_42 : decode cX12_gatherBy 42 = .ok (.getfield 25, 3) := dk_180 0 25 (dk_at dksX12_gatherBy_1 18 rfl rfl)
theorem dX12_gatherBy_45 : decode cX12_gatherBy 45 = .ok (.getfield 87, 3) := dk_180 0 87 (dk_at dksX12_gatherBy_1 21 rfl rfl)
theorem dX12_gatherBy_48 : decode cX12_gatherBy 48 = .ok (.if_icmp .ge 50, 3) := dk_162 0 50 (dk_at dksX12_gatherBy_2 0 rfl rfl)
theorem dX12_gatherBy_51 : decode cX12_gatherBy 51 = .ok (.aload_n 2, 1) := dk_44 (dk_at dksX12_gatherBy_2 3 rfl rfl)
theorem dX12_gatherBy_52 : decode cX12_gatherBy 52 = .ok (.iload 6, 2) := dk_21 6 (dk_at dksX12_gatherBy_2 4 rfl rfl)
theorem dX12_gatherBy_54 : decode cX12_gatherBy 54 = .ok (.aload 4, 2) := dk_25 4 (dk_at dksX12_gatherBy_2 6 rfl rfl)
theorem dX12_gatherBy_56 : decode cX12_gatherBy 56 = .ok (.aload_n 0, 1) := dk_42 (dk_at dksX12_gatherBy_2 8 rfl rfl)
theorem dX12_gatherBy_57 : decode cX12_gatherBy 57 = .ok (.getfield 25, 3) := dk_180 0 25 (dk_at dksX12_gatherBy_2 9 rfl rfl)
theorem dX12_gatherBy_60 : decode cX12_gatherBy 60 = .ok (.getfield 92, 3) := dk_180 0 92 (dk_at dksX12_gatherBy_2 12 rfl rfl)
theorem dX12_gatherBy_63 : decode cX12_gatherBy 63 = .ok (.iload 6, 2) := dk_21 6 (dk_at dksX12_gatherBy_2 15 rfl rfl)
theorem dX12_gatherBy_65 : decode cX12_gatherBy 65 = .ok (.iaload, 1) := dk_46 (dk_at dksX12_gatherBy_2 17 rfl rfl)
theorem dX12_gatherBy_66 : decode cX12_gatherBy 66 = .ok (.aload 5, 2) := dk_25 5 (dk_at dksX12_gatherBy_2 18 rfl rfl)
theorem dX12_gatherBy_68 : decode cX12_gatherBy 68 = .ok (.aload_n 1, 1) := dk_43 (dk_at dksX12_gatherBy_2 20 rfl rfl)
theorem dX12_gatherBy_69 : decode cX12_gatherBy 69 = .ok (.aload_n 3, 1) := dk_45 (dk_at dksX12_gatherBy_2 21 rfl rfl)
theorem dX12_gatherBy_70 : decode cX12_gatherBy 70 = .ok (.invokevirtual 95, 3) := dk_182 0 95 (dk_at dksX12_gatherBy_3 0 rfl rfl)
theorem dX12_gatherBy_73 : decode cX12_gatherBy 73 = .ok (.lastore, 1) := dk_80 (dk_at dksX12_gatherBy_3 3 rfl rfl)
theorem dX12_gatherBy_74 : decode cX12_gatherBy 74 = .ok (.aload_n 0, 1) := dk_42 (dk_at dksX12_gatherBy_3 4 rfl rfl)
theorem dX12_gatherBy_75 : decode cX12_gatherBy 75 = .ok (.getfield 42, 3) := dk_180 0 42 (dk_at dksX12_gatherBy_3 5 rfl rfl)
theorem dX12_gatherBy_78 : decode cX12_gatherBy 78 = .ok (.iload 6, 2) := dk_21 6 (dk_at dksX12_gatherBy_3 8 rfl rfl)
theorem dX12_gatherBy_80 : decode cX12_gatherBy 80 = .ok (.dup2, 1) := dk_92 (dk_at dksX12_gatherBy_3 10 rfl rfl)
theorem dX12_gatherBy_81 : decode cX12_gatherBy 81 = .ok (.laload, 1) := dk_47 (dk_at dksX12_gatherBy_3 11 rfl rfl)
theorem dX12_gatherBy_82 : decode cX12_gatherBy 82 = .ok (.aload_n 2, 1) := dk_44 (dk_at dksX12_gatherBy_3 12 rfl rfl)
theorem dX12_gatherBy_83 : decode cX12_gatherBy 83 = .ok (.iload 6, 2) := dk_21 6 (dk_at dksX12_gatherBy_3 13 rfl rfl)
theorem dX12_gatherBy_85 : decode cX12_gatherBy 85 = .ok (.laload, 1) := dk_47 (dk_at dksX12_gatherBy_3 15 rfl rfl)
theorem dX12_gatherBy_86 : decode cX12_gatherBy 86 = .ok (.ldc2_w 99, 3) := dk_20 0 99 (dk_at dksX12_gatherBy_3 16 rfl rfl)
theorem dX12_gatherBy_89 : decode cX12_gatherBy 89 = .ok (.land, 1) := dk_127 (dk_at dksX12_gatherBy_3 19 rfl rfl)
theorem dX12_gatherBy_90 : decode cX12_gatherBy 90 = .ok (.lor, 1) := dk_129 (dk_at dksX12_gatherBy_3 20 rfl rfl)
theorem dX12_gatherBy_91 : decode cX12_gatherBy 91 = .ok (.lastore, 1) := dk_80 (dk_at dksX12_gatherBy_3 21 rfl rfl)
theorem dX12_gatherBy_92 : decode cX12_gatherBy 92 = .ok (.iinc 6 1, 3) := dk_132 6 1 (dk_at dksX12_gatherBy_4 0 rfl rfl)
theorem dX12_gatherBy_95 : decode cX12_gatherBy 95 = .ok (.goto (-56), 3) := dk_167 255 200 (dk_at dksX12_gatherBy_4 3 rfl rfl)
theorem dX12_gatherBy_98 : decode cX12_gatherBy 98 = .ok (.aload_n 2, 1) := dk_44 (dk_at dksX12_gatherBy_4 6 rfl rfl)
theorem dX12_gatherBy_99 : decode cX12_gatherBy 99 = .ok (.areturn, 1) := dk_176 (dk_at dksX12_gatherBy_4 7 rfl rfl)
abbrev cX12_measure : ByteArray := prog_13_method_6_code
def yX12_measure : MethodName := ⟨RX12, "measure", "()LRulehearth$Reasons;"⟩
def dkwX12_measure_11 : List UInt8 := [154, 255, 144, 42, 176]
abbrev dktX12_measure_11 : List UInt8 := dkwX12_measure_11 ++ []
def dkwX12_measure_10 : List UInt8 := [182, 0, 128, 182, 0, 132, 132, 3, 1, 167, 255, 195, 132, 2, 1, 167, 255, 158, 42, 180, 0, 111]
abbrev dktX12_measure_10 : List UInt8 := dkwX12_measure_10 ++ dktX12_measure_11
def dkwX12_measure_9 : List UInt8 := [47, 9, 148, 154, 0, 7, 2, 167, 0, 19, 42, 42, 180, 0, 38, 28, 50, 29, 47, 20, 0, 99, 127]
abbrev dktX12_measure_9 : List UInt8 := dkwX12_measure_9 ++ dktX12_measure_10
def dkwX12_measure_8 : List UInt8 := [180, 0, 87, 162, 0, 56, 42, 180, 0, 38, 28, 50, 198, 0, 47, 42, 29, 42, 180, 0, 38, 28, 50, 29]
abbrev dktX12_measure_8 : List UInt8 := dkwX12_measure_8 ++ dktX12_measure_9
def dkwX12_measure_7 : List UInt8 := [199, 0, 15, 43, 28, 182, 0, 49, 192, 0, 126, 184, 0, 74, 87, 3, 62, 29, 42, 180, 0, 25]
abbrev dktX12_measure_7 : List UInt8 := dkwX12_measure_7 ++ dktX12_measure_8
def dkwX12_measure_6 : List UInt8 := [167, 255, 208, 42, 3, 181, 0, 111, 3, 61, 28, 43, 182, 0, 30, 162, 0, 96, 42, 180, 0, 38, 28, 50]
abbrev dktX12_measure_6 : List UInt8 := dkwX12_measure_6 ++ dktX12_measure_7
def dkwX12_measure_5 : List UInt8 := [180, 0, 25, 180, 0, 92, 28, 46, 182, 0, 123, 2, 160, 0, 7, 2, 167, 0, 4, 3, 79, 132, 2, 1]
abbrev dktX12_measure_5 : List UInt8 := dkwX12_measure_5 ++ dktX12_measure_6
def dkwX12_measure_4 : List UInt8 := [180, 0, 25, 180, 0, 87, 162, 0, 43, 42, 180, 0, 45, 28, 42, 180, 0, 3, 180, 0, 15, 42]
abbrev dktX12_measure_4 : List UInt8 := dkwX12_measure_4 ++ dktX12_measure_5
def dkwX12_measure_3 : List UInt8 := [184, 0, 66, 25, 5, 182, 0, 70, 182, 0, 119, 87, 132, 2, 1, 167, 255, 183, 3, 61, 28, 42]
abbrev dktX12_measure_3 : List UInt8 := dkwX12_measure_3 ++ dktX12_measure_4
def dkwX12_measure_2 : List UInt8 := [45, 182, 0, 55, 54, 4, 42, 45, 21, 4, 186, 0, 118, 0, 0, 58, 5, 43, 42, 180, 0, 3, 45]
abbrev dktX12_measure_2 : List UInt8 := dkwX12_measure_2 ++ dktX12_measure_3
def dkwX12_measure_1 : List UInt8 := [182, 0, 30, 162, 0, 62, 42, 180, 0, 3, 180, 0, 15, 180, 0, 26, 28, 182, 0, 49, 192, 0, 53, 78]
abbrev dktX12_measure_1 : List UInt8 := dkwX12_measure_1 ++ dktX12_measure_2
def dkwX12_measure_0 : List UInt8 := [187, 0, 31, 89, 16, 10, 183, 0, 115, 76, 3, 61, 28, 42, 180, 0, 3, 180, 0, 15, 180, 0, 26]
abbrev dktX12_measure_0 : List UInt8 := dkwX12_measure_0 ++ dktX12_measure_1
theorem dksX12_measure_0 : cX12_measure.data.toList.drop 0 = dktX12_measure_0 := by decide +kernel
theorem dksX12_measure_1 : cX12_measure.data.toList.drop 23 = dktX12_measure_1 := dk_seg dksX12_measure_0 23 rfl rfl
theorem dksX12_measure_2 : cX12_measure.data.toList.drop 47 = dktX12_measure_2 := dk_seg dksX12_measure_1 24 rfl rfl
theorem dksX12_measure_3 : cX12_measure.data.toList.drop 70 = dktX12_measure_3 := dk_seg dksX12_measure_2 23 rfl rfl
theorem dksX12_measure_4 : cX12_measure.data.toList.drop 92 = dktX12_measure_4 := dk_seg dksX12_measure_3 22 rfl rfl
theorem dksX12_measure_5 : cX12_measure.data.toList.drop 114 = dktX12_measure_5 := dk_seg dksX12_measure_4 22 rfl rfl
theorem dksX12_measure_6 : cX12_measure.data.toList.drop 138 = dktX12_measure_6 := dk_seg dksX12_measure_5 24 rfl rfl
theorem dksX12_measure_7 : cX12_measure.data.toList.drop 162 = dktX12_measure_7 := dk_seg dksX12_measure_6 24 rfl rfl
theorem dksX12_measure_8 : cX12_measure.data.toList.drop 184 = dktX12_measure_8 := dk_seg dksX12_measure_7 22 rfl rfl
theorem dksX12_measure_9 : cX12_measure.data.toList.drop 208 = dktX12_measure_9 := dk_seg dksX12_measure_8 24 rfl rfl
theorem dksX12_measure_10 : cX12_measure.data.toList.drop 231 = dktX12_measure_10 := dk_seg dksX12_measure_9 23 rfl rfl
theorem dksX12_measure_11 : cX12_measure.data.toList.drop 253 = dktX12_measure_11 := dk_seg dksX12_measure_10 22 rfl rfl
theorem dX12_measure_0 : decode cX12_measure 0 = .ok (.new 31, 3) := dk_187 0 31 (dk_at dksX12_measure_0 0 rfl rfl)
theorem dX12_measure_3 : decode cX12_measure 3 = .ok (.dup, 1) := dk_89 (dk_at dksX12_measure_0 3 rfl rfl)
theorem dX12_measure_4 : decode cX12_measure 4 = .ok (.bipush 10, 2) := dk_16 10 (dk_at dksX12_measure_0 4 rfl rfl)
theorem dX12_measure_6 : decode cX12_measure 6 = .ok (.invokespecial 115, 3) := dk_183 0 115 (dk_at dksX12_measure_0 6 rfl rfl)
theorem dX12_measure_9 : decode cX12_measure 9 = .ok (.astore_n 1, 1) := dk_76 (dk_at dksX12_measure_0 9 rfl rfl)
theorem dX12_measure_10 : decode cX12_measure 10 = .ok (.iconst 0, 1) := dk_3 (dk_at dksX12_measure_0 10 rfl rfl)
theorem dX12_measure_11 : decode cX12_measure 11 = .ok (.istore_n 2, 1) := dk_61 (dk_at dksX12_measure_0 11 rfl rfl)
theorem dX12_measure_12 : decode cX12_measure 12 = .ok (.iload_n 2, 1) := dk_28 (dk_at dksX12_measure_0 12 rfl rfl)
theorem dX12_measure_13 : decode cX12_measure 13 = .ok (.aload_n 0, 1) := dk_42 (dk_at dksX12_measure_0 13 rfl rfl)
theorem dX12_measure_14 : decode cX12_measure 14 = .ok (.getfield 3, 3) := dk_180 0 3 (dk_at dksX12_measure_0 14 rfl rfl)
theorem dX12_measure_17 : decode cX12_measure 17 = .ok (.getfield 15, 3) := dk_180 0 15 (dk_at dksX12_measure_0 17 rfl rfl)
theorem dX12_measure_20 : decode cX12_measure 20 = .ok (.getfield 26, 3) := dk_180 0 26 (dk_at dksX12_measure_0 20 rfl rfl)
theorem dX12_measure_23 : decode cX12_measure 23 = .ok (.invokevirtual 30, 3) := dk_182 0 30 (dk_at dksX12_measure_1 0 rfl rfl)
theorem dX12_measure_26 : decode cX12_measure 26 = .ok (.if_icmp .ge 62, 3) := dk_162 0 62 (dk_at dksX12_measure_1 3 rfl rfl)
theorem dX12_measure_29 : decode cX12_measure 29 = .ok (.aload_n 0, 1) := dk_42 (dk_at dksX12_measure_1 6 rfl rfl)
theorem dX12_measure_30 : decode cX12_measure 30 = .ok (.getfield 3, 3) := dk_180 0 3 (dk_at dksX12_measure_1 7 rfl rfl)
theorem dX12_measure_33 : decode cX12_measure 33 = .ok (.getfield 15, 3) := dk_180 0 15 (dk_at dksX12_measure_1 10 rfl rfl)
theorem dX12_measure_36 : decode cX12_measure 36 = .ok (.getfield 26, 3) := dk_180 0 26 (dk_at dksX12_measure_1 13 rfl rfl)
theorem dX12_measure_39 : decode cX12_measure 39 = .ok (.iload_n 2, 1) := dk_28 (dk_at dksX12_measure_1 16 rfl rfl)
theorem dX12_measure_40 : decode cX12_measure 40 = .ok (.invokevirtual 49, 3) := dk_182 0 49 (dk_at dksX12_measure_1 17 rfl rfl)
theorem dX12_measure_43 : decode cX12_measure 43 = .ok (.checkcast 53, 3) := dk_192 0 53 (dk_at dksX12_measure_1 20 rfl rfl)
theorem dX12_measure_46 : decode cX12_measure 46 = .ok (.astore_n 3, 1) := dk_78 (dk_at dksX12_measure_1 23 rfl rfl)
theorem dX12_measure_47 : decode cX12_measure 47 = .ok (.aload_n 3, 1) := dk_45 (dk_at dksX12_measure_2 0 rfl rfl)
theorem dX12_measure_48 : decode cX12_measure 48 = .ok (.invokevirtual 55, 3) := dk_182 0 55 (dk_at dksX12_measure_2 1 rfl rfl)
theorem dX12_measure_51 : decode cX12_measure 51 = .ok (.istore 4, 2) := dk_54 4 (dk_at dksX12_measure_2 4 rfl rfl)
theorem dX12_measure_53 : decode cX12_measure 53 = .ok (.aload_n 0, 1) := dk_42 (dk_at dksX12_measure_2 6 rfl rfl)
theorem dX12_measure_54 : decode cX12_measure 54 = .ok (.aload_n 3, 1) := dk_45 (dk_at dksX12_measure_2 7 rfl rfl)
theorem dX12_measure_55 : decode cX12_measure 55 = .ok (.iload 4, 2) := dk_21 4 (dk_at dksX12_measure_2 8 rfl rfl)
theorem dX12_measure_57 : decode cX12_measure 57 = .ok (.invokedynamic 118, 5) := by decide +kernel
theorem dX12_measure_62 : decode cX12_measure 62 = .ok (.astore 5, 2) := dk_58 5 (dk_at dksX12_measure_2 15 rfl rfl)
theorem dX12_measure_64 : decode cX12_measure 64 = .ok (.aload_n 1, 1) := dk_43 (dk_at dksX12_measure_2 17 rfl rfl)
theorem dX12_measure_65 : decode cX12_measure 65 = .ok (.aload_n 0, 1) := dk_42 (dk_at dksX12_measure_2 18 rfl rfl)
theorem dX12_measure_66 : decode cX12_measure 66 = .ok (.getfield 3, 3) := dk_180 0 3 (dk_at dksX12_measure_2 19 rfl rfl)
theorem dX12_measure_69 : decode cX12_measure 69 = .ok (.aload_n 3, 1) := dk_45 (dk_at dksX12_measure_2 22 rfl rfl)
theorem dX12_measure_70 : decode cX12_measure 70 = .ok (.invokestatic 66, 3) := dk_184 0 66 (dk_at dksX12_measure_3 0 rfl rfl)
theorem dX12_measure_73 : decode cX12_measure 73 = .ok (.aload 5, 2) := dk_25 5 (dk_at dksX12_measure_3 3 rfl rfl)
theorem dX12_measure_75 : decode cX12_measure 75 = .ok (.invokevirtual 70, 3) := dk_182 0 70 (dk_at dksX12_measure_3 5 rfl rfl)
theorem dX12_measure_78 : decode cX12_measure 78 = .ok (.invokevirtual 119, 3) := dk_182 0 119 (dk_at dksX12_measure_3 8 rfl rfl)
theorem dX12_measure_81 : decode cX12_measure 81 = .ok (.pop, 1) := dk_87 (dk_at dksX12_measure_3 11 rfl rfl)
theorem dX12_measure_82 : decode cX12_measure 82 = .ok (.iinc 2 1, 3) := dk_132 2 1 (dk_at dksX12_measure_3 12 rfl rfl)
theorem dX12_measure_85 : decode cX12_measure 85 = .ok (.goto (-73), 3) := dk_167 255 183 (dk_at dksX12_measure_3 15 rfl rfl)
theorem dX12_measure_88 : decode cX12_measure 88 = .ok (.iconst 0, 1) := dk_3 (dk_at dksX12_measure_3 18 rfl rfl)
theorem dX12_measure_89 : decode cX12_measure 89 = .ok (.istore_n 2, 1) := dk_61 (dk_at dksX12_measure_3 19 rfl rfl)
theorem dX12_measure_90 : decode cX12_measure 90 = .ok (.iload_n 2, 1) := dk_28 (dk_at dksX12_measure_3 20 rfl rfl)
theorem dX12_measure_91 : decode cX12_measure 91 = .ok (.aload_n 0, 1) := dk_42 (dk_at dksX12_measure_3 21 rfl rfl)
theorem dX12_measure_92 : decode cX12_measure 92 = .ok (.getfield 25, 3) := dk_180 0 25 (dk_at dksX12_measure_4 0 rfl rfl)
theorem dX12_measure_95 : decode cX12_measure 95 = .ok (.getfield 87, 3) := dk_180 0 87 (dk_at dksX12_measure_4 3 rfl rfl)
theorem dX12_measure_98 : decode cX12_measure 98 = .ok (.if_icmp .ge 43, 3) := dk_162 0 43 (dk_at dksX12_measure_4 6 rfl rfl)
theorem dX12_measure_101 : decode cX12_measure 101 = .ok (.aload_n 0, 1) := dk_42 (dk_at dksX12_measure_4 9 rfl rfl)
theorem dX12_measure_102 : decode cX12_measure 102 = .ok (.getfield 45, 3) := dk_180 0 45 (dk_at dksX12_measure_4 10 rfl rfl)
theorem dX12_measure_105 : decode cX12_measure 105 = .ok (.iload_n 2, 1) := dk_28 (dk_at dksX12_measure_4 13 rfl rfl)
theorem dX12_measure_106 : decode cX12_measure 106 = .ok (.aload_n 0, 1) := dk_42 (dk_at dksX12_measure_4 14 rfl rfl)
theorem dX12_measure_107 : decode cX12_measure 107 = .ok (.getfield 3, 3) := dk_180 0 3 (dk_at dksX12_measure_4 15 rfl rfl)
theorem dX12_measure_110 : decode cX12_measure 110 = .ok (.getfield 15, 3) := dk_180 0 15 (dk_at dksX12_measure_4 18 rfl rfl)
theorem dX12_measure_113 : decode cX12_measure 113 = .ok (.aload_n 0, 1) := dk_42 (dk_at dksX12_measure_4 21 rfl rfl)
theorem dX12_measure_114 : decode cX12_measure 114 = .ok (.getfield 25, 3) := dk_180 0 25 (dk_at dksX12_measure_5 0 rfl rfl)
theorem dX12_measure_117 : decode cX12_measure 117 = .ok (.getfield 92, 3) := dk_180 0 92 (dk_at dksX12_measure_5 3 rfl rfl)
theorem dX12_measure_120 : decode cX12_measure 120 = .ok (.iload_n 2, 1) := dk_28 (dk_at dksX12_measure_5 6 rfl rfl)
theorem dX12_measure_121 : decode cX12_measure 121 = .ok (.iaload, 1) := dk_46 (dk_at dksX12_measure_5 7 rfl rfl)
theorem dX12_measure_122 : decode cX12_measure 122 = .ok (.invokevirtual 123, 3) := dk_182 0 123 (dk_at dksX12_measure_5 8 rfl rfl)
theorem dX12_measure_125 : decode cX12_measure 125 = .ok (.iconst (-1), 1) := dk_2 (dk_at dksX12_measure_5 11 rfl rfl)
theorem dX12_measure_126 : decode cX12_measure 126 = .ok (.if_icmp .ne 7, 3) := dk_160 0 7 (dk_at dksX12_measure_5 12 rfl rfl)
theorem dX12_measure_129 : decode cX12_measure 129 = .ok (.iconst (-1), 1) := dk_2 (dk_at dksX12_measure_5 15 rfl rfl)
theorem dX12_measure_130 : decode cX12_measure 130 = .ok (.goto 4, 3) := dk_167 0 4 (dk_at dksX12_measure_5 16 rfl rfl)
theorem dX12_measure_133 : decode cX12_measure 133 = .ok (.iconst 0, 1) := dk_3 (dk_at dksX12_measure_5 19 rfl rfl)
theorem dX12_measure_134 : decode cX12_measure 134 = .ok (.iastore, 1) := dk_79 (dk_at dksX12_measure_5 20 rfl rfl)
theorem dX12_measure_135 : decode cX12_measure 135 = .ok (.iinc 2 1, 3) := dk_132 2 1 (dk_at dksX12_measure_5 21 rfl rfl)
theorem dX12_measure_138 : decode cX12_measure 138 = .ok (.goto (-48), 3) := dk_167 255 208 (dk_at dksX12_measure_6 0 rfl rfl)
theorem dX12_measure_141 : decode cX12_measure 141 = .ok (.aload_n 0, 1) := dk_42 (dk_at dksX12_measure_6 3 rfl rfl)
theorem dX12_measure_142 : decode cX12_measure 142 = .ok (.iconst 0, 1) := dk_3 (dk_at dksX12_measure_6 4 rfl rfl)
theorem dX12_measure_143 : decode cX12_measure 143 = .ok (.putfield 111, 3) := dk_181 0 111 (dk_at dksX12_measure_6 5 rfl rfl)
theorem dX12_measure_146 : decode cX12_measure 146 = .ok (.iconst 0, 1) := dk_3 (dk_at dksX12_measure_6 8 rfl rfl)
theorem dX12_measure_147 : decode cX12_measure 147 = .ok (.istore_n 2, 1) := dk_61 (dk_at dksX12_measure_6 9 rfl rfl)
theorem dX12_measure_148 : decode cX12_measure 148 = .ok (.iload_n 2, 1) := dk_28 (dk_at dksX12_measure_6 10 rfl rfl)
theorem dX12_measure_149 : decode cX12_measure 149 = .ok (.aload_n 1, 1) := dk_43 (dk_at dksX12_measure_6 11 rfl rfl)
theorem dX12_measure_150 : decode cX12_measure 150 = .ok (.invokevirtual 30, 3) := dk_182 0 30 (dk_at dksX12_measure_6 12 rfl rfl)
theorem dX12_measure_153 : decode cX12_measure 153 = .ok (.if_icmp .ge 96, 3) := dk_162 0 96 (dk_at dksX12_measure_6 15 rfl rfl)
theorem dX12_measure_156 : decode cX12_measure 156 = .ok (.aload_n 0, 1) := dk_42 (dk_at dksX12_measure_6 18 rfl rfl)
theorem dX12_measure_157 : decode cX12_measure 157 = .ok (.getfield 38, 3) := dk_180 0 38 (dk_at dksX12_measure_6 19 rfl rfl)
theorem dX12_measure_160 : decode cX12_measure 160 = .ok (.iload_n 2, 1) := dk_28 (dk_at dksX12_measure_6 22 rfl rfl)
theorem dX12_measure_161 : decode cX12_measure 161 = .ok (.aaload, 1) := dk_50 (dk_at dksX12_measure_6 23 rfl rfl)
theorem dX12_measure_162 : decode cX12_measure 162 = .ok (.ifnonnull 15, 3) := dk_199 0 15 (dk_at dksX12_measure_7 0 rfl rfl)
theorem dX12_measure_165 : decode cX12_measure 165 = .ok (.aload_n 1, 1) := dk_43 (dk_at dksX12_measure_7 3 rfl rfl)
theorem dX12_measure_166 : decode cX12_measure 166 = .ok (.iload_n 2, 1) := dk_28 (dk_at dksX12_measure_7 4 rfl rfl)
theorem dX12_measure_167 : decode cX12_measure 167 = .ok (.invokevirtual 49, 3) := dk_182 0 49 (dk_at dksX12_measure_7 5 rfl rfl)
theorem dX12_measure_170 : decode cX12_measure 170 = .ok (.checkcast 126, 3) := dk_192 0 126 (dk_at dksX12_measure_7 8 rfl rfl)
theorem dX12_measure_173 : decode cX12_measure 173 = .ok (.invokestatic 74, 3) := dk_184 0 74 (dk_at dksX12_measure_7 11 rfl rfl)
theorem dX12_measure_176 : decode cX12_measure 176 = .ok (.pop, 1) := dk_87 (dk_at dksX12_measure_7 14 rfl rfl)
theorem dX12_measure_177 : decode cX12_measure 177 = .ok (.iconst 0, 1) := dk_3 (dk_at dksX12_measure_7 15 rfl rfl)
theorem dX12_measure_178 : decode cX12_measure 178 = .ok (.istore_n 3, 1) := dk_62 (dk_at dksX12_measure_7 16 rfl rfl)
theorem dX12_measure_179 : decode cX12_measure 179 = .ok (.iload_n 3, 1) := dk_29 (dk_at dksX12_measure_7 17 rfl rfl)
theorem dX12_measure_180 : decode cX12_measure 180 = .ok (.aload_n 0, 1) := dk_42 (dk_at dksX12_measure_7 18 rfl rfl)
theorem dX12_measure_181 : decode cX12_measure 181 = .ok (.getfield 25, 3) := dk_180 0 25 (dk_at dksX12_measure_7 19 rfl rfl)
theorem dX12_measure_184 : decode cX12_measure 184 = .ok (.getfield 87, 3) := dk_180 0 87 (dk_at dksX12_measure_8 0 rfl rfl)
theorem dX12_measure_187 : decode cX12_measure 187 = .ok (.if_icmp .ge 56, 3) := dk_162 0 56 (dk_at dksX12_measure_8 3 rfl rfl)
theorem dX12_measure_190 : decode cX12_measure 190 = .ok (.aload_n 0, 1) := dk_42 (dk_at dksX12_measure_8 6 rfl rfl)
theorem dX12_measure_191 : decode cX12_measure 191 = .ok (.getfield 38, 3) := dk_180 0 38 (dk_at dksX12_measure_8 7 rfl rfl)
theorem dX12_measure_194 : decode cX12_measure 194 = .ok (.iload_n 2, 1) := dk_28 (dk_at dksX12_measure_8 10 rfl rfl)
theorem dX12_measure_195 : decode cX12_measure 195 = .ok (.aaload, 1) := dk_50 (dk_at dksX12_measure_8 11 rfl rfl)
theorem dX12_measure_196 : decode cX12_measure 196 = .ok (.ifnull 47, 3) := dk_198 0 47 (dk_at dksX12_measure_8 12 rfl rfl)
theorem dX12_measure_199 : decode cX12_measure 199 = .ok (.aload_n 0, 1) := dk_42 (dk_at dksX12_measure_8 15 rfl rfl)
theorem dX12_measure_200 : decode cX12_measure 200 = .ok (.iload_n 3, 1) := dk_29 (dk_at dksX12_measure_8 16 rfl rfl)
theorem dX12_measure_201 : decode cX12_measure 201 = .ok (.aload_n 0, 1) := dk_42 (dk_at dksX12_measure_8 17 rfl rfl)
theorem dX12_measure_202 : decode cX12_measure 202 = .ok (.getfield 38, 3) := dk_180 0 38 (dk_at dksX12_measure_8 18 rfl rfl)
theorem dX12_measure_205 : decode cX12_measure 205 = .ok (.iload_n 2, 1) := dk_28 (dk_at dksX12_measure_8 21 rfl rfl)
theorem dX12_measure_206 : decode cX12_measure 206 = .ok (.aaload, 1) := dk_50 (dk_at dksX12_measure_8 22 rfl rfl)
theorem dX12_measure_207 : decode cX12_measure 207 = .ok (.iload_n 3, 1) := dk_29 (dk_at dksX12_measure_8 23 rfl rfl)
theorem dX12_measure_208 : decode cX12_measure 208 = .ok (.laload, 1) := dk_47 (dk_at dksX12_measure_9 0 rfl rfl)
theorem dX12_measure_209 : decode cX12_measure 209 = .ok (.lconst 0, 1) := dk_9 (dk_at dksX12_measure_9 1 rfl rfl)
theorem dX12_measure_210 : decode cX12_measure 210 = .ok (.lcmp, 1) := dk_148 (dk_at dksX12_measure_9 2 rfl rfl)
theorem dX12_measure_211 : decode cX12_measure 211 = .ok (.ifCond .ne 7, 3) := dk_154 0 7 (dk_at dksX12_measure_9 3 rfl rfl)
theorem dX12_measure_214 : decode cX12_measure 214 = .ok (.iconst (-1), 1) := dk_2 (dk_at dksX12_measure_9 6 rfl rfl)
theorem dX12_measure_215 : decode cX12_measure 215 = .ok (.goto 19, 3) := dk_167 0 19 (dk_at dksX12_measure_9 7 rfl rfl)
theorem dX12_measure_218 : decode cX12_measure 218 = .ok (.aload_n 0, 1) := dk_42 (dk_at dksX12_measure_9 10 rfl rfl)
theorem dX12_measure_219 : decode cX12_measure 219 = .ok (.aload_n 0, 1) := dk_42 (dk_at dksX12_measure_9 11 rfl rfl)
theorem dX12_measure_220 : decode cX12_measure 220 = .ok (.getfield 38, 3) := dk_180 0 38 (dk_at dksX12_measure_9 12 rfl rfl)
theorem dX12_measure_223 : decode cX12_measure 223 = .ok (.iload_n 2, 1) := dk_28 (dk_at dksX12_measure_9 15 rfl rfl)
theorem dX12_measure_224 : decode cX12_measure 224 = .ok (.aaload, 1) := dk_50 (dk_at dksX12_measure_9 16 rfl rfl)
theorem dX12_measure_225 : decode cX12_measure 225 = .ok (.iload_n 3, 1) := dk_29 (dk_at dksX12_measure_9 17 rfl rfl)
theorem dX12_measure_226 : decode cX12_measure 226 = .ok (.laload, 1) := dk_47 (dk_at dksX12_measure_9 18 rfl rfl)
theorem dX12_measure_227 : decode cX12_measure 227 = .ok (.ldc2_w 99, 3) := dk_20 0 99 (dk_at dksX12_measure_9 19 rfl rfl)
theorem dX12_measure_230 : decode cX12_measure 230 = .ok (.land, 1) := dk_127 (dk_at dksX12_measure_9 22 rfl rfl)
theorem dX12_measure_231 : decode cX12_measure 231 = .ok (.invokevirtual 128, 3) := dk_182 0 128 (dk_at dksX12_measure_10 0 rfl rfl)
theorem dX12_measure_234 : decode cX12_measure 234 = .ok (.invokevirtual 132, 3) := dk_182 0 132 (dk_at dksX12_measure_10 3 rfl rfl)
theorem dX12_measure_237 : decode cX12_measure 237 = .ok (.iinc 3 1, 3) := dk_132 3 1 (dk_at dksX12_measure_10 6 rfl rfl)
theorem dX12_measure_240 : decode cX12_measure 240 = .ok (.goto (-61), 3) := dk_167 255 195 (dk_at dksX12_measure_10 9 rfl rfl)
theorem dX12_measure_243 : decode cX12_measure 243 = .ok (.iinc 2 1, 3) := dk_132 2 1 (dk_at dksX12_measure_10 12 rfl rfl)
theorem dX12_measure_246 : decode cX12_measure 246 = .ok (.goto (-98), 3) := dk_167 255 158 (dk_at dksX12_measure_10 15 rfl rfl)
theorem dX12_measure_249 : decode cX12_measure 249 = .ok (.aload_n 0, 1) := dk_42 (dk_at dksX12_measure_10 18 rfl rfl)
theorem dX12_measure_250 : decode cX12_measure 250 = .ok (.getfield 111, 3) := dk_180 0 111 (dk_at dksX12_measure_10 19 rfl rfl)
theorem dX12_measure_253 : decode cX12_measure 253 = .ok (.ifCond .ne (-112), 3) := dk_154 255 144 (dk_at dksX12_measure_11 0 rfl rfl)
theorem dX12_measure_256 : decode cX12_measure 256 = .ok (.aload_n 0, 1) := dk_42 (dk_at dksX12_measure_11 3 rfl rfl)
theorem dX12_measure_257 : decode cX12_measure 257 = .ok (.areturn, 1) := dk_176 (dk_at dksX12_measure_11 4 rfl rfl)
abbrev cX12_lambda_measure_1 : ByteArray := prog_13_method_7_code
def yX12_lambda_measure_1 : MethodName := ⟨RX12, "lambda$measure$1", "(LRulehearth$Clause;I[I[I)Z"⟩
def dkwX12_lambda_measure_1_1 : List UInt8 := [4, 172]
abbrev dktX12_lambda_measure_1_1 : List UInt8 := dkwX12_lambda_measure_1_1 ++ []
def dkwX12_lambda_measure_1_0 : List UInt8 := [42, 42, 180, 0, 25, 43, 45, 3, 182, 0, 136, 182, 0, 107, 42, 25, 4, 28, 182, 0, 140, 182, 0, 132]
abbrev dktX12_lambda_measure_1_0 : List UInt8 := dkwX12_lambda_measure_1_0 ++ dktX12_lambda_measure_1_1
theorem dksX12_lambda_measure_1_0 : cX12_lambda_measure_1.data.toList.drop 0 = dktX12_lambda_measure_1_0 := by decide +kernel
theorem dksX12_lambda_measure_1_1 : cX12_lambda_measure_1.data.toList.drop 24 = dktX12_lambda_measure_1_1 := dk_seg dksX12_lambda_measure_1_0 24 rfl rfl
theorem dX12_lambda_measure_1_0 : decode cX12_lambda_measure_1 0 = .ok (.aload_n 0, 1) := dk_42 (dk_at dksX12_lambda_measure_1_0 0 rfl rfl)
theorem dX12_lambda_measure_1_1 : decode cX12_lambda_measure_1 1 = .ok (.aload_n 0, 1) := dk_42 (dk_at dksX12_lambda_measure_1_0 1 rfl rfl)
theorem dX12_lambda_measure_1_2 : decode cX12_lambda_measure_1 2 = .ok (.getfield 25, 3) := dk_180 0 25 (dk_at dksX12_lambda_measure_1_0 2 rfl rfl)
theorem dX12_lambda_measure_1_5 : decode cX12_lambda_measure_1 5 = .ok (.aload_n 1, 1) := dk_43 (dk_at dksX12_lambda_measure_1_0 5 rfl rfl)
theorem dX12_lambda_measure_1_6 : decode cX12_lambda_measure_1 6 = .ok (.aload_n 3, 1) := dk_45 (dk_at dksX12_lambda_measure_1_0 6 rfl rfl)
theorem dX12_lambda_measure_1_7 : decode cX12_lambda_measure_1 7 = .ok (.iconst 0, 1) := dk_3 (dk_at dksX12_lambda_measure_1_0 7 rfl rfl)
theorem dX12_lambda_measure_1_8 : decode cX12_lambda_measure_1 8 = .ok (.invokevirtual 136, 3) := dk_182 0 136 (dk_at dksX12_lambda_measure_1_0 8 rfl rfl)
theorem dX12_lambda_measure_1_11 : decode cX12_lambda_measure_1 11 = .ok (.invokevirtual 107, 3) := dk_182 0 107 (dk_at dksX12_lambda_measure_1_0 11 rfl rfl)
theorem dX12_lambda_measure_1_14 : decode cX12_lambda_measure_1 14 = .ok (.aload_n 0, 1) := dk_42 (dk_at dksX12_lambda_measure_1_0 14 rfl rfl)
theorem dX12_lambda_measure_1_15 : decode cX12_lambda_measure_1 15 = .ok (.aload 4, 2) := dk_25 4 (dk_at dksX12_lambda_measure_1_0 15 rfl rfl)
theorem dX12_lambda_measure_1_17 : decode cX12_lambda_measure_1 17 = .ok (.iload_n 2, 1) := dk_28 (dk_at dksX12_lambda_measure_1_0 17 rfl rfl)
theorem dX12_lambda_measure_1_18 : decode cX12_lambda_measure_1 18 = .ok (.invokevirtual 140, 3) := dk_182 0 140 (dk_at dksX12_lambda_measure_1_0 18 rfl rfl)
theorem dX12_lambda_measure_1_21 : decode cX12_lambda_measure_1 21 = .ok (.invokevirtual 132, 3) := dk_182 0 132 (dk_at dksX12_lambda_measure_1_0 21 rfl rfl)
theorem dX12_lambda_measure_1_24 : decode cX12_lambda_measure_1 24 = .ok (.iconst 1, 1) := dk_4 (dk_at dksX12_lambda_measure_1_1 0 rfl rfl)
theorem dX12_lambda_measure_1_25 : decode cX12_lambda_measure_1 25 = .ok (.ireturn, 1) := dk_172 (dk_at dksX12_lambda_measure_1_1 1 rfl rfl)
abbrev cX12_above : ByteArray := prog_13_method_4_code
def yX12_above : MethodName := ⟨RX12, "above", "([II)I"⟩
def dkwX12_above_3 : List UInt8 := [167, 0, 4, 2, 172]
abbrev dktX12_above_3 : List UInt8 := dkwX12_above_3 ++ []
def dkwX12_above_2 : List UInt8 := [54, 4, 29, 21, 6, 184, 0, 101, 62, 132, 5, 1, 167, 255, 206, 21, 4, 153, 0, 9, 4, 29, 96]
abbrev dktX12_above_2 : List UInt8 := dkwX12_above_2 ++ dktX12_above_3
def dkwX12_above_1 : List UInt8 := [21, 5, 46, 182, 0, 107, 46, 54, 6, 21, 4, 21, 6, 2, 159, 0, 7, 4, 167, 0, 4, 3, 126]
abbrev dktX12_above_1 : List UInt8 := dkwX12_above_1 ++ dktX12_above_2
def dkwX12_above_0 : List UInt8 := [3, 62, 4, 54, 4, 3, 54, 5, 21, 5, 28, 162, 0, 50, 42, 180, 0, 45, 42, 180, 0, 25, 43]
abbrev dktX12_above_0 : List UInt8 := dkwX12_above_0 ++ dktX12_above_1
theorem dksX12_above_0 : cX12_above.data.toList.drop 0 = dktX12_above_0 := by decide +kernel
theorem dksX12_above_1 : cX12_above.data.toList.drop 23 = dktX12_above_1 := dk_seg dksX12_above_0 23 rfl rfl
theorem dksX12_above_2 : cX12_above.data.toList.drop 46 = dktX12_above_2 := dk_seg dksX12_above_1 23 rfl rfl
theorem dksX12_above_3 : cX12_above.data.toList.drop 69 = dktX12_above_3 := dk_seg dksX12_above_2 23 rfl rfl
theorem dX12_above_0 : decode cX12_above 0 = .ok (.iconst 0, 1) := dk_3 (dk_at dksX12_above_0 0 rfl rfl)
theorem dX12_above_1 : decode cX12_above 1 = .ok (.istore_n 3, 1) := dk_62 (dk_at dksX12_above_0 1 rfl rfl)
theorem dX12_above_2 : decode cX12_above 2 = .ok (.iconst 1, 1) := dk_4 (dk_at dksX12_above_0 2 rfl rfl)
theorem dX12_above_3 : decode cX12_above 3 = .ok (.istore 4, 2) := dk_54 4 (dk_at dksX12_above_0 3 rfl rfl)
theorem dX12_above_5 : decode cX12_above 5 = .ok (.iconst 0, 1) := dk_3 (dk_at dksX12_above_0 5 rfl rfl)
theorem dX12_above_6 : decode cX12_above 6 = .ok (.istore 5, 2) := dk_54 5 (dk_at dksX12_above_0 6 rfl rfl)
theorem dX12_above_8 : decode cX12_above 8 = .ok (.iload 5, 2) := dk_21 5 (dk_at dksX12_above_0 8 rfl rfl)
theorem dX12_above_10 : decode cX12_above 10 = .ok (.iload_n 2, 1) := dk_28 (dk_at dksX12_above_0 10 rfl rfl)
theorem dX12_above_11 : decode cX12_above 11 = .ok (.if_icmp .ge 50, 3) := dk_162 0 50 (dk_at dksX12_above_0 11 rfl rfl)
theorem dX12_above_14 : decode cX12_above 14 = .ok (.aload_n 0, 1) := dk_42 (dk_at dksX12_above_0 14 rfl rfl)
theorem dX12_above_15 : decode cX12_above 15 = .ok (.getfield 45, 3) := dk_180 0 45 (dk_at dksX12_above_0 15 rfl rfl)
theorem dX12_above_18 : decode cX12_above 18 = .ok (.aload_n 0, 1) := dk_42 (dk_at dksX12_above_0 18 rfl rfl)
theorem dX12_above_19 : decode cX12_above 19 = .ok (.getfield 25, 3) := dk_180 0 25 (dk_at dksX12_above_0 19 rfl rfl)
theorem dX12_above_22 : decode cX12_above 22 = .ok (.aload_n 1, 1) := dk_43 (dk_at dksX12_above_0 22 rfl rfl)
theorem dX12_above_23 : decode cX12_above 23 = .ok (.iload 5, 2) := dk_21 5 (dk_at dksX12_above_1 0 rfl rfl)
theorem dX12_above_25 : decode cX12_above 25 = .ok (.iaload, 1) := dk_46 (dk_at dksX12_above_1 2 rfl rfl)
theorem dX12_above_26 : decode cX12_above 26 = .ok (.invokevirtual 107, 3) := dk_182 0 107 (dk_at dksX12_above_1 3 rfl rfl)
theorem dX12_above_29 : decode cX12_above 29 = .ok (.iaload, 1) := dk_46 (dk_at dksX12_above_1 6 rfl rfl)
theorem dX12_above_30 : decode cX12_above 30 = .ok (.istore 6, 2) := dk_54 6 (dk_at dksX12_above_1 7 rfl rfl)
theorem dX12_above_32 : decode cX12_above 32 = .ok (.iload 4, 2) := dk_21 4 (dk_at dksX12_above_1 9 rfl rfl)
theorem dX12_above_34 : decode cX12_above 34 = .ok (.iload 6, 2) := dk_21 6 (dk_at dksX12_above_1 11 rfl rfl)
theorem dX12_above_36 : decode cX12_above 36 = .ok (.iconst (-1), 1) := dk_2 (dk_at dksX12_above_1 13 rfl rfl)
theorem dX12_above_37 : decode cX12_above 37 = .ok (.if_icmp .eq 7, 3) := dk_159 0 7 (dk_at dksX12_above_1 14 rfl rfl)
theorem dX12_above_40 : decode cX12_above 40 = .ok (.iconst 1, 1) := dk_4 (dk_at dksX12_above_1 17 rfl rfl)
theorem dX12_above_41 : decode cX12_above 41 = .ok (.goto 4, 3) := dk_167 0 4 (dk_at dksX12_above_1 18 rfl rfl)
theorem dX12_above_44 : decode cX12_above 44 = .ok (.iconst 0, 1) := dk_3 (dk_at dksX12_above_1 21 rfl rfl)
theorem dX12_above_45 : decode cX12_above 45 = .ok (.iand, 1) := dk_126 (dk_at dksX12_above_1 22 rfl rfl)
theorem dX12_above_46 : decode cX12_above 46 = .ok (.istore 4, 2) := dk_54 4 (dk_at dksX12_above_2 0 rfl rfl)
theorem dX12_above_48 : decode cX12_above 48 = .ok (.iload_n 3, 1) := dk_29 (dk_at dksX12_above_2 2 rfl rfl)
theorem dX12_above_49 : decode cX12_above 49 = .ok (.iload 6, 2) := dk_21 6 (dk_at dksX12_above_2 3 rfl rfl)
theorem dX12_above_51 : decode cX12_above 51 = .ok (.invokestatic 101, 3) := dk_184 0 101 (dk_at dksX12_above_2 5 rfl rfl)
theorem dX12_above_54 : decode cX12_above 54 = .ok (.istore_n 3, 1) := dk_62 (dk_at dksX12_above_2 8 rfl rfl)
theorem dX12_above_55 : decode cX12_above 55 = .ok (.iinc 5 1, 3) := dk_132 5 1 (dk_at dksX12_above_2 9 rfl rfl)
theorem dX12_above_58 : decode cX12_above 58 = .ok (.goto (-50), 3) := dk_167 255 206 (dk_at dksX12_above_2 12 rfl rfl)
theorem dX12_above_61 : decode cX12_above 61 = .ok (.iload 4, 2) := dk_21 4 (dk_at dksX12_above_2 15 rfl rfl)
theorem dX12_above_63 : decode cX12_above 63 = .ok (.ifCond .eq 9, 3) := dk_153 0 9 (dk_at dksX12_above_2 17 rfl rfl)
theorem dX12_above_66 : decode cX12_above 66 = .ok (.iconst 1, 1) := dk_4 (dk_at dksX12_above_2 20 rfl rfl)
theorem dX12_above_67 : decode cX12_above 67 = .ok (.iload_n 3, 1) := dk_29 (dk_at dksX12_above_2 21 rfl rfl)
theorem dX12_above_68 : decode cX12_above 68 = .ok (.iadd, 1) := dk_96 (dk_at dksX12_above_2 22 rfl rfl)
theorem dX12_above_69 : decode cX12_above 69 = .ok (.goto 4, 3) := dk_167 0 4 (dk_at dksX12_above_3 0 rfl rfl)
theorem dX12_above_72 : decode cX12_above 72 = .ok (.iconst (-1), 1) := dk_2 (dk_at dksX12_above_3 3 rfl rfl)
theorem dX12_above_73 : decode cX12_above 73 = .ok (.ireturn, 1) := dk_172 (dk_at dksX12_above_3 4 rfl rfl)
abbrev cX12_relax : ByteArray := prog_13_method_5_code
def yX12_relax : MethodName := ⟨RX12, "relax", "(II)V"⟩
def dkwX12_relax_1 : List UInt8 := [162, 0, 15, 42, 180, 0, 45, 27, 28, 79, 42, 4, 181, 0, 111, 177]
abbrev dktX12_relax_1 : List UInt8 := dkwX12_relax_1 ++ []
def dkwX12_relax_0 : List UInt8 := [28, 2, 159, 0, 35, 42, 180, 0, 45, 27, 46, 2, 159, 0, 13, 28, 42, 180, 0, 45, 27, 46]
abbrev dktX12_relax_0 : List UInt8 := dkwX12_relax_0 ++ dktX12_relax_1
theorem dksX12_relax_0 : cX12_relax.data.toList.drop 0 = dktX12_relax_0 := by decide +kernel
theorem dksX12_relax_1 : cX12_relax.data.toList.drop 22 = dktX12_relax_1 := dk_seg dksX12_relax_0 22 rfl rfl
theorem dX12_relax_0 : decode cX12_relax 0 = .ok (.iload_n 2, 1) := dk_28 (dk_at dksX12_relax_0 0 rfl rfl)
theorem dX12_relax_1 : decode cX12_relax 1 = .ok (.iconst (-1), 1) := dk_2 (dk_at dksX12_relax_0 1 rfl rfl)
theorem dX12_relax_2 : decode cX12_relax 2 = .ok (.if_icmp .eq 35, 3) := dk_159 0 35 (dk_at dksX12_relax_0 2 rfl rfl)
theorem dX12_relax_5 : decode cX12_relax 5 = .ok (.aload_n 0, 1) := dk_42 (dk_at dksX12_relax_0 5 rfl rfl)
theorem dX12_relax_6 : decode cX12_relax 6 = .ok (.getfield 45, 3) := dk_180 0 45 (dk_at dksX12_relax_0 6 rfl rfl)
theorem dX12_relax_9 : decode cX12_relax 9 = .ok (.iload_n 1, 1) := dk_27 (dk_at dksX12_relax_0 9 rfl rfl)
theorem dX12_relax_10 : decode cX12_relax 10 = .ok (.iaload, 1) := dk_46 (dk_at dksX12_relax_0 10 rfl rfl)
theorem dX12_relax_11 : decode cX12_relax 11 = .ok (.iconst (-1), 1) := dk_2 (dk_at dksX12_relax_0 11 rfl rfl)
theorem dX12_relax_12 : decode cX12_relax 12 = .ok (.if_icmp .eq 13, 3) := dk_159 0 13 (dk_at dksX12_relax_0 12 rfl rfl)
theorem dX12_relax_15 : decode cX12_relax 15 = .ok (.iload_n 2, 1) := dk_28 (dk_at dksX12_relax_0 15 rfl rfl)
theorem dX12_relax_16 : decode cX12_relax 16 = .ok (.aload_n 0, 1) := dk_42 (dk_at dksX12_relax_0 16 rfl rfl)
theorem dX12_relax_17 : decode cX12_relax 17 = .ok (.getfield 45, 3) := dk_180 0 45 (dk_at dksX12_relax_0 17 rfl rfl)
theorem dX12_relax_20 : decode cX12_relax 20 = .ok (.iload_n 1, 1) := dk_27 (dk_at dksX12_relax_0 20 rfl rfl)
theorem dX12_relax_21 : decode cX12_relax 21 = .ok (.iaload, 1) := dk_46 (dk_at dksX12_relax_0 21 rfl rfl)
theorem dX12_relax_22 : decode cX12_relax 22 = .ok (.if_icmp .ge 15, 3) := dk_162 0 15 (dk_at dksX12_relax_1 0 rfl rfl)
theorem dX12_relax_25 : decode cX12_relax 25 = .ok (.aload_n 0, 1) := dk_42 (dk_at dksX12_relax_1 3 rfl rfl)
theorem dX12_relax_26 : decode cX12_relax 26 = .ok (.getfield 45, 3) := dk_180 0 45 (dk_at dksX12_relax_1 4 rfl rfl)
theorem dX12_relax_29 : decode cX12_relax 29 = .ok (.iload_n 1, 1) := dk_27 (dk_at dksX12_relax_1 7 rfl rfl)
theorem dX12_relax_30 : decode cX12_relax 30 = .ok (.iload_n 2, 1) := dk_28 (dk_at dksX12_relax_1 8 rfl rfl)
theorem dX12_relax_31 : decode cX12_relax 31 = .ok (.iastore, 1) := dk_79 (dk_at dksX12_relax_1 9 rfl rfl)
theorem dX12_relax_32 : decode cX12_relax 32 = .ok (.aload_n 0, 1) := dk_42 (dk_at dksX12_relax_1 10 rfl rfl)
theorem dX12_relax_33 : decode cX12_relax 33 = .ok (.iconst 1, 1) := dk_4 (dk_at dksX12_relax_1 11 rfl rfl)
theorem dX12_relax_34 : decode cX12_relax 34 = .ok (.putfield 111, 3) := dk_181 0 111 (dk_at dksX12_relax_1 12 rfl rfl)
theorem dX12_relax_37 : decode cX12_relax 37 = .ok (.return_, 1) := dk_177 (dk_at dksX12_relax_1 15 rfl rfl)
abbrev cX12_above_2 : ByteArray := prog_13_method_3_code
def yX12_above_2 : MethodName := ⟨RX12, "above", "(J)I"⟩
def dkwX12_above_2_3 : List UInt8 := [153, 0, 9, 4, 29, 96, 167, 0, 4, 2, 172]
abbrev dktX12_above_2_3 : List UInt8 := dkwX12_above_2_3 ++ []
def dkwX12_above_2_2 : List UInt8 := [3, 126, 54, 4, 29, 42, 180, 0, 45, 21, 5, 46, 184, 0, 101, 62, 132, 5, 1, 167, 255, 197, 21, 4]
abbrev dktX12_above_2_2 : List UInt8 := dkwX12_above_2_2 ++ dktX12_above_2_3
def dkwX12_above_2_1 : List UInt8 := [10, 127, 10, 148, 154, 0, 36, 21, 4, 42, 180, 0, 45, 21, 5, 46, 2, 159, 0, 7, 4, 167, 0, 4]
abbrev dktX12_above_2_1 : List UInt8 := dkwX12_above_2_1 ++ dktX12_above_2_2
def dkwX12_above_2_0 : List UInt8 := [3, 62, 4, 54, 4, 3, 54, 5, 21, 5, 42, 180, 0, 25, 180, 0, 87, 162, 0, 53, 31, 21, 5, 123]
abbrev dktX12_above_2_0 : List UInt8 := dkwX12_above_2_0 ++ dktX12_above_2_1
theorem dksX12_above_2_0 : cX12_above_2.data.toList.drop 0 = dktX12_above_2_0 := by decide +kernel
theorem dksX12_above_2_1 : cX12_above_2.data.toList.drop 24 = dktX12_above_2_1 := dk_seg dksX12_above_2_0 24 rfl rfl
theorem dksX12_above_2_2 : cX12_above_2.data.toList.drop 48 = dktX12_above_2_2 := dk_seg dksX12_above_2_1 24 rfl rfl
theorem dksX12_above_2_3 : cX12_above_2.data.toList.drop 72 = dktX12_above_2_3 := dk_seg dksX12_above_2_2 24 rfl rfl
theorem dX12_above_2_0 : decode cX12_above_2 0 = .ok (.iconst 0, 1) := dk_3 (dk_at dksX12_above_2_0 0 rfl rfl)
theorem dX12_above_2_1 : decode cX12_above_2 1 = .ok (.istore_n 3, 1) := dk_62 (dk_at dksX12_above_2_0 1 rfl rfl)
theorem dX12_above_2_2 : decode cX12_above_2 2 = .ok (.iconst 1, 1) := dk_4 (dk_at dksX12_above_2_0 2 rfl rfl)
theorem dX12_above_2_3 : decode cX12_above_2 3 = .ok (.istore 4, 2) := dk_54 4 (dk_at dksX12_above_2_0 3 rfl rfl)
theorem dX12_above_2_5 : decode cX12_above_2 5 = .ok (.iconst 0, 1) := dk_3 (dk_at dksX12_above_2_0 5 rfl rfl)
theorem dX12_above_2_6 : decode cX12_above_2 6 = .ok (.istore 5, 2) := dk_54 5 (dk_at dksX12_above_2_0 6 rfl rfl)
theorem dX12_above_2_8 : decode cX12_above_2 8 = .ok (.iload 5, 2) := dk_21 5 (dk_at dksX12_above_2_0 8 rfl rfl)
theorem dX12_above_2_10 : decode cX12_above_2 10 = .ok (.aload_n 0, 1) := dk_42 (dk_at dksX12_above_2_0 10 rfl rfl)
theorem dX12_above_2_11 : decode cX12_above_2 11 = .ok (.getfield 25, 3) := dk_180 0 25 (dk_at dksX12_above_2_0 11 rfl rfl)
theorem dX12_above_2_14 : decode cX12_above_2 14 = .ok (.getfield 87, 3) := dk_180 0 87 (dk_at dksX12_above_2_0 14 rfl rfl)
theorem dX12_above_2_17 : decode cX12_above_2 17 = .ok (.if_icmp .ge 53, 3) := dk_162 0 53 (dk_at dksX12_above_2_0 17 rfl rfl)
theorem dX12_above_2_20 : decode cX12_above_2 20 = .ok (.lload_n 1, 1) := dk_31 (dk_at dksX12_above_2_0 20 rfl rfl)
theorem dX12_above_2_21 : decode cX12_above_2 21 = .ok (.iload 5, 2) := dk_21 5 (dk_at dksX12_above_2_0 21 rfl rfl)
theorem dX12_above_2_23 : decode cX12_above_2 23 = .ok (.lshr, 1) := dk_123 (dk_at dksX12_above_2_0 23 rfl rfl)
theorem dX12_above_2_24 : decode cX12_above_2 24 = .ok (.lconst 1, 1) := dk_10 (dk_at dksX12_above_2_1 0 rfl rfl)
theorem dX12_above_2_25 : decode cX12_above_2 25 = .ok (.land, 1) := dk_127 (dk_at dksX12_above_2_1 1 rfl rfl)
theorem dX12_above_2_26 : decode cX12_above_2 26 = .ok (.lconst 1, 1) := dk_10 (dk_at dksX12_above_2_1 2 rfl rfl)
theorem dX12_above_2_27 : decode cX12_above_2 27 = .ok (.lcmp, 1) := dk_148 (dk_at dksX12_above_2_1 3 rfl rfl)
theorem dX12_above_2_28 : decode cX12_above_2 28 = .ok (.ifCond .ne 36, 3) := dk_154 0 36 (dk_at dksX12_above_2_1 4 rfl rfl)
theorem dX12_above_2_31 : decode cX12_above_2 31 = .ok (.iload 4, 2) := dk_21 4 (dk_at dksX12_above_2_1 7 rfl rfl)
theorem dX12_above_2_33 : decode cX12_above_2 33 = .ok (.aload_n 0, 1) := dk_42 (dk_at dksX12_above_2_1 9 rfl rfl)
theorem dX12_above_2_34 : decode cX12_above_2 34 = .ok (.getfield 45, 3) := dk_180 0 45 (dk_at dksX12_above_2_1 10 rfl rfl)
theorem dX12_above_2_37 : decode cX12_above_2 37 = .ok (.iload 5, 2) := dk_21 5 (dk_at dksX12_above_2_1 13 rfl rfl)
theorem dX12_above_2_39 : decode cX12_above_2 39 = .ok (.iaload, 1) := dk_46 (dk_at dksX12_above_2_1 15 rfl rfl)
theorem dX12_above_2_40 : decode cX12_above_2 40 = .ok (.iconst (-1), 1) := dk_2 (dk_at dksX12_above_2_1 16 rfl rfl)
theorem dX12_above_2_41 : decode cX12_above_2 41 = .ok (.if_icmp .eq 7, 3) := dk_159 0 7 (dk_at dksX12_above_2_1 17 rfl rfl)
theorem dX12_above_2_44 : decode cX12_above_2 44 = .ok (.iconst 1, 1) := dk_4 (dk_at dksX12_above_2_1 20 rfl rfl)
theorem dX12_above_2_45 : decode cX12_above_2 45 = .ok (.goto 4, 3) := dk_167 0 4 (dk_at dksX12_above_2_1 21 rfl rfl)
theorem dX12_above_2_48 : decode cX12_above_2 48 = .ok (.iconst 0, 1) := dk_3 (dk_at dksX12_above_2_2 0 rfl rfl)
theorem dX12_above_2_49 : decode cX12_above_2 49 = .ok (.iand, 1) := dk_126 (dk_at dksX12_above_2_2 1 rfl rfl)
theorem dX12_above_2_50 : decode cX12_above_2 50 = .ok (.istore 4, 2) := dk_54 4 (dk_at dksX12_above_2_2 2 rfl rfl)
theorem dX12_above_2_52 : decode cX12_above_2 52 = .ok (.iload_n 3, 1) := dk_29 (dk_at dksX12_above_2_2 4 rfl rfl)
theorem dX12_above_2_53 : decode cX12_above_2 53 = .ok (.aload_n 0, 1) := dk_42 (dk_at dksX12_above_2_2 5 rfl rfl)
theorem dX12_above_2_54 : decode cX12_above_2 54 = .ok (.getfield 45, 3) := dk_180 0 45 (dk_at dksX12_above_2_2 6 rfl rfl)
theorem dX12_above_2_57 : decode cX12_above_2 57 = .ok (.iload 5, 2) := dk_21 5 (dk_at dksX12_above_2_2 9 rfl rfl)
theorem dX12_above_2_59 : decode cX12_above_2 59 = .ok (.iaload, 1) := dk_46 (dk_at dksX12_above_2_2 11 rfl rfl)
theorem dX12_above_2_60 : decode cX12_above_2 60 = .ok (.invokestatic 101, 3) := dk_184 0 101 (dk_at dksX12_above_2_2 12 rfl rfl)
theorem dX12_above_2_63 : decode cX12_above_2 63 = .ok (.istore_n 3, 1) := dk_62 (dk_at dksX12_above_2_2 15 rfl rfl)
theorem dX12_above_2_64 : decode cX12_above_2 64 = .ok (.iinc 5 1, 3) := dk_132 5 1 (dk_at dksX12_above_2_2 16 rfl rfl)
theorem dX12_above_2_67 : decode cX12_above_2 67 = .ok (.goto (-59), 3) := dk_167 255 197 (dk_at dksX12_above_2_2 19 rfl rfl)
theorem dX12_above_2_70 : decode cX12_above_2 70 = .ok (.iload 4, 2) := dk_21 4 (dk_at dksX12_above_2_2 22 rfl rfl)
theorem dX12_above_2_72 : decode cX12_above_2 72 = .ok (.ifCond .eq 9, 3) := dk_153 0 9 (dk_at dksX12_above_2_3 0 rfl rfl)
theorem dX12_above_2_75 : decode cX12_above_2 75 = .ok (.iconst 1, 1) := dk_4 (dk_at dksX12_above_2_3 3 rfl rfl)
theorem dX12_above_2_76 : decode cX12_above_2 76 = .ok (.iload_n 3, 1) := dk_29 (dk_at dksX12_above_2_3 4 rfl rfl)
theorem dX12_above_2_77 : decode cX12_above_2 77 = .ok (.iadd, 1) := dk_96 (dk_at dksX12_above_2_3 5 rfl rfl)
theorem dX12_above_2_78 : decode cX12_above_2 78 = .ok (.goto 4, 3) := dk_167 0 4 (dk_at dksX12_above_2_3 6 rfl rfl)
theorem dX12_above_2_81 : decode cX12_above_2 81 = .ok (.iconst (-1), 1) := dk_2 (dk_at dksX12_above_2_3 9 rfl rfl)
theorem dX12_above_2_82 : decode cX12_above_2 82 = .ok (.ireturn, 1) := dk_172 (dk_at dksX12_above_2_3 10 rfl rfl)

abbrev cX13_take : ByteArray := prog_15_method_2_code
def yX13_take : MethodName := ⟨RX13, "take", "([I[I)Z"⟩
def dkwX13_take_1 : List UInt8 := [183, 0, 32, 172]
abbrev dktX13_take_1 : List UInt8 := dkwX13_take_1 ++ []
def dkwX13_take_0 : List UInt8 := [42, 89, 180, 0, 24, 42, 180, 0, 3, 44, 42, 180, 0, 21, 182, 0, 28, 129, 181, 0, 24, 42, 43, 44]
abbrev dktX13_take_0 : List UInt8 := dkwX13_take_0 ++ dktX13_take_1
theorem dksX13_take_0 : cX13_take.data.toList.drop 0 = dktX13_take_0 := by decide +kernel
theorem dksX13_take_1 : cX13_take.data.toList.drop 24 = dktX13_take_1 := dk_seg dksX13_take_0 24 rfl rfl
theorem dX13_take_0 : decode cX13_take 0 = .ok (.aload_n 0, 1) := dk_42 (dk_at dksX13_take_0 0 rfl rfl)
theorem dX13_take_1 : decode cX13_take 1 = .ok (.dup, 1) := dk_89 (dk_at dksX13_take_0 1 rfl rfl)
theorem dX13_take_2 : decode cX13_take 2 = .ok (.getfield 24, 3) := dk_180 0 24 (dk_at dksX13_take_0 2 rfl rfl)
theorem dX13_take_5 : decode cX13_take 5 = .ok (.aload_n 0, 1) := dk_42 (dk_at dksX13_take_0 5 rfl rfl)
theorem dX13_take_6 : decode cX13_take 6 = .ok (.getfield 3, 3) := dk_180 0 3 (dk_at dksX13_take_0 6 rfl rfl)
theorem dX13_take_9 : decode cX13_take 9 = .ok (.aload_n 2, 1) := dk_44 (dk_at dksX13_take_0 9 rfl rfl)
theorem dX13_take_10 : decode cX13_take 10 = .ok (.aload_n 0, 1) := dk_42 (dk_at dksX13_take_0 10 rfl rfl)
theorem dX13_take_11 : decode cX13_take 11 = .ok (.getfield 21, 3) := dk_180 0 21 (dk_at dksX13_take_0 11 rfl rfl)
theorem dX13_take_14 : decode cX13_take 14 = .ok (.invokevirtual 28, 3) := dk_182 0 28 (dk_at dksX13_take_0 14 rfl rfl)
theorem dX13_take_17 : decode cX13_take 17 = .ok (.lor, 1) := dk_129 (dk_at dksX13_take_0 17 rfl rfl)
theorem dX13_take_18 : decode cX13_take 18 = .ok (.putfield 24, 3) := dk_181 0 24 (dk_at dksX13_take_0 18 rfl rfl)
theorem dX13_take_21 : decode cX13_take 21 = .ok (.aload_n 0, 1) := dk_42 (dk_at dksX13_take_0 21 rfl rfl)
theorem dX13_take_22 : decode cX13_take 22 = .ok (.aload_n 1, 1) := dk_43 (dk_at dksX13_take_0 22 rfl rfl)
theorem dX13_take_23 : decode cX13_take 23 = .ok (.aload_n 2, 1) := dk_44 (dk_at dksX13_take_0 23 rfl rfl)
theorem dX13_take_24 : decode cX13_take 24 = .ok (.invokespecial 32, 3) := dk_183 0 32 (dk_at dksX13_take_1 0 rfl rfl)
theorem dX13_take_27 : decode cX13_take 27 = .ok (.ireturn, 1) := dk_172 (dk_at dksX13_take_1 3 rfl rfl)
abbrev cX13_init : ByteArray := prog_15_method_1_code
def yX13_init : MethodName := ⟨RX13, "<init>", "(LRulehearth;LRulehearth$Clause;)V"⟩
def dkwX13_init_0 : List UInt8 := [42, 43, 181, 0, 3, 42, 44, 183, 0, 9, 42, 44, 182, 0, 15, 181, 0, 21, 177]
abbrev dktX13_init_0 : List UInt8 := dkwX13_init_0 ++ []
theorem dksX13_init_0 : cX13_init.data.toList.drop 0 = dktX13_init_0 := by decide +kernel
theorem dX13_init_0 : decode cX13_init 0 = .ok (.aload_n 0, 1) := dk_42 (dk_at dksX13_init_0 0 rfl rfl)
theorem dX13_init_1 : decode cX13_init 1 = .ok (.aload_n 1, 1) := dk_43 (dk_at dksX13_init_0 1 rfl rfl)
theorem dX13_init_2 : decode cX13_init 2 = .ok (.putfield 3, 3) := dk_181 0 3 (dk_at dksX13_init_0 2 rfl rfl)
theorem dX13_init_5 : decode cX13_init 5 = .ok (.aload_n 0, 1) := dk_42 (dk_at dksX13_init_0 5 rfl rfl)
theorem dX13_init_6 : decode cX13_init 6 = .ok (.aload_n 2, 1) := dk_44 (dk_at dksX13_init_0 6 rfl rfl)
theorem dX13_init_7 : decode cX13_init 7 = .ok (.invokespecial 9, 3) := dk_183 0 9 (dk_at dksX13_init_0 7 rfl rfl)
theorem dX13_init_10 : decode cX13_init 10 = .ok (.aload_n 0, 1) := dk_42 (dk_at dksX13_init_0 10 rfl rfl)
theorem dX13_init_11 : decode cX13_init 11 = .ok (.aload_n 2, 1) := dk_44 (dk_at dksX13_init_0 11 rfl rfl)
theorem dX13_init_12 : decode cX13_init 12 = .ok (.invokevirtual 15, 3) := dk_182 0 15 (dk_at dksX13_init_0 12 rfl rfl)
theorem dX13_init_15 : decode cX13_init 15 = .ok (.putfield 21, 3) := dk_181 0 21 (dk_at dksX13_init_0 15 rfl rfl)
theorem dX13_init_18 : decode cX13_init 18 = .ok (.return_, 1) := dk_177 (dk_at dksX13_init_0 18 rfl rfl)
abbrev cX13_of : ByteArray := prog_15_method_3_code
def yX13_of : MethodName := ⟨RX13, "of", "(ILRulehearth$Matcher;LRulehearth$Clause;[I)J"⟩
def dkwX13_of_2 : List UInt8 := [180, 0, 24, 20, 0, 56, 129, 167, 0, 4, 9, 173]
abbrev dktX13_of_2 : List UInt8 := dkwX13_of_2 ++ []
def dkwX13_of_1 : List UInt8 := [184, 0, 44, 87, 42, 27, 182, 0, 48, 54, 5, 25, 4, 184, 0, 52, 21, 5, 153, 0, 14, 42]
abbrev dktX13_of_1 : List UInt8 := dkwX13_of_1 ++ dktX13_of_2
def dkwX13_of_0 : List UInt8 := [42, 182, 0, 36, 42, 9, 181, 0, 24, 45, 27, 25, 4, 182, 0, 40, 54, 5, 21, 5, 153, 0, 15, 44]
abbrev dktX13_of_0 : List UInt8 := dkwX13_of_0 ++ dktX13_of_1
theorem dksX13_of_0 : cX13_of.data.toList.drop 0 = dktX13_of_0 := by decide +kernel
theorem dksX13_of_1 : cX13_of.data.toList.drop 24 = dktX13_of_1 := dk_seg dksX13_of_0 24 rfl rfl
theorem dksX13_of_2 : cX13_of.data.toList.drop 46 = dktX13_of_2 := dk_seg dksX13_of_1 22 rfl rfl
theorem dX13_of_0 : decode cX13_of 0 = .ok (.aload_n 0, 1) := dk_42 (dk_at dksX13_of_0 0 rfl rfl)
theorem dX13_of_1 : decode cX13_of 1 = .ok (.invokevirtual 36, 3) := dk_182 0 36 (dk_at dksX13_of_0 1 rfl rfl)
theorem dX13_of_4 : decode cX13_of 4 = .ok (.aload_n 0, 1) := dk_42 (dk_at dksX13_of_0 4 rfl rfl)
theorem dX13_of_5 : decode cX13_of 5 = .ok (.lconst 0, 1) := dk_9 (dk_at dksX13_of_0 5 rfl rfl)
theorem dX13_of_6 : decode cX13_of 6 = .ok (.putfield 24, 3) := dk_181 0 24 (dk_at dksX13_of_0 6 rfl rfl)
theorem dX13_of_9 : decode cX13_of 9 = .ok (.aload_n 3, 1) := dk_45 (dk_at dksX13_of_0 9 rfl rfl)
theorem dX13_of_10 : decode cX13_of 10 = .ok (.iload_n 1, 1) := dk_27 (dk_at dksX13_of_0 10 rfl rfl)
theorem dX13_of_11 : decode cX13_of 11 = .ok (.aload 4, 2) := dk_25 4 (dk_at dksX13_of_0 11 rfl rfl)
theorem dX13_of_13 : decode cX13_of 13 = .ok (.invokevirtual 40, 3) := dk_182 0 40 (dk_at dksX13_of_0 13 rfl rfl)
theorem dX13_of_16 : decode cX13_of 16 = .ok (.istore 5, 2) := dk_54 5 (dk_at dksX13_of_0 16 rfl rfl)
theorem dX13_of_18 : decode cX13_of 18 = .ok (.iload 5, 2) := dk_21 5 (dk_at dksX13_of_0 18 rfl rfl)
theorem dX13_of_20 : decode cX13_of 20 = .ok (.ifCond .eq 15, 3) := dk_153 0 15 (dk_at dksX13_of_0 20 rfl rfl)
theorem dX13_of_23 : decode cX13_of 23 = .ok (.aload_n 2, 1) := dk_44 (dk_at dksX13_of_0 23 rfl rfl)
theorem dX13_of_24 : decode cX13_of 24 = .ok (.invokestatic 44, 3) := dk_184 0 44 (dk_at dksX13_of_1 0 rfl rfl)
theorem dX13_of_27 : decode cX13_of 27 = .ok (.pop, 1) := dk_87 (dk_at dksX13_of_1 3 rfl rfl)
theorem dX13_of_28 : decode cX13_of 28 = .ok (.aload_n 0, 1) := dk_42 (dk_at dksX13_of_1 4 rfl rfl)
theorem dX13_of_29 : decode cX13_of 29 = .ok (.iload_n 1, 1) := dk_27 (dk_at dksX13_of_1 5 rfl rfl)
theorem dX13_of_30 : decode cX13_of 30 = .ok (.invokevirtual 48, 3) := dk_182 0 48 (dk_at dksX13_of_1 6 rfl rfl)
theorem dX13_of_33 : decode cX13_of 33 = .ok (.istore 5, 2) := dk_54 5 (dk_at dksX13_of_1 9 rfl rfl)
theorem dX13_of_35 : decode cX13_of 35 = .ok (.aload 4, 2) := dk_25 4 (dk_at dksX13_of_1 11 rfl rfl)
theorem dX13_of_37 : decode cX13_of 37 = .ok (.invokestatic 52, 3) := dk_184 0 52 (dk_at dksX13_of_1 13 rfl rfl)
theorem dX13_of_40 : decode cX13_of 40 = .ok (.iload 5, 2) := dk_21 5 (dk_at dksX13_of_1 16 rfl rfl)
theorem dX13_of_42 : decode cX13_of 42 = .ok (.ifCond .eq 14, 3) := dk_153 0 14 (dk_at dksX13_of_1 18 rfl rfl)
theorem dX13_of_45 : decode cX13_of 45 = .ok (.aload_n 0, 1) := dk_42 (dk_at dksX13_of_1 21 rfl rfl)
theorem dX13_of_46 : decode cX13_of 46 = .ok (.getfield 24, 3) := dk_180 0 24 (dk_at dksX13_of_2 0 rfl rfl)
theorem dX13_of_49 : decode cX13_of 49 = .ok (.ldc2_w 56, 3) := dk_20 0 56 (dk_at dksX13_of_2 3 rfl rfl)
theorem dX13_of_52 : decode cX13_of 52 = .ok (.lor, 1) := dk_129 (dk_at dksX13_of_2 6 rfl rfl)
theorem dX13_of_53 : decode cX13_of 53 = .ok (.goto 4, 3) := dk_167 0 4 (dk_at dksX13_of_2 7 rfl rfl)
theorem dX13_of_56 : decode cX13_of 56 = .ok (.lconst 0, 1) := dk_9 (dk_at dksX13_of_2 10 rfl rfl)
theorem dX13_of_57 : decode cX13_of 57 = .ok (.lreturn, 1) := dk_173 (dk_at dksX13_of_2 11 rfl rfl)

abbrev cX14_init : ByteArray := prog_16_method_1_code
def yX14_init : MethodName := ⟨RX14, "<init>", "()V"⟩
def dkwX14_init_0 : List UInt8 := [42, 183, 0, 3, 42, 17, 3, 232, 181, 0, 9, 42, 16, 60, 188, 10, 181, 0, 15, 177]
abbrev dktX14_init_0 : List UInt8 := dkwX14_init_0 ++ []
theorem dksX14_init_0 : cX14_init.data.toList.drop 0 = dktX14_init_0 := by decide +kernel
theorem dX14_init_0 : decode cX14_init 0 = .ok (.aload_n 0, 1) := dk_42 (dk_at dksX14_init_0 0 rfl rfl)
theorem dX14_init_1 : decode cX14_init 1 = .ok (.invokespecial 3, 3) := dk_183 0 3 (dk_at dksX14_init_0 1 rfl rfl)
theorem dX14_init_4 : decode cX14_init 4 = .ok (.aload_n 0, 1) := dk_42 (dk_at dksX14_init_0 4 rfl rfl)
theorem dX14_init_5 : decode cX14_init 5 = .ok (.sipush 1000, 3) := dk_17 3 232 (dk_at dksX14_init_0 5 rfl rfl)
theorem dX14_init_8 : decode cX14_init 8 = .ok (.putfield 9, 3) := dk_181 0 9 (dk_at dksX14_init_0 8 rfl rfl)
theorem dX14_init_11 : decode cX14_init 11 = .ok (.aload_n 0, 1) := dk_42 (dk_at dksX14_init_0 11 rfl rfl)
theorem dX14_init_12 : decode cX14_init 12 = .ok (.bipush 60, 2) := dk_16 60 (dk_at dksX14_init_0 12 rfl rfl)
theorem dX14_init_14 : decode cX14_init 14 = .ok (.newarray .int, 2) := dk_188_10 (dk_at dksX14_init_0 14 rfl rfl)
theorem dX14_init_16 : decode cX14_init 16 = .ok (.putfield 15, 3) := dk_181 0 15 (dk_at dksX14_init_0 16 rfl rfl)
theorem dX14_init_19 : decode cX14_init 19 = .ok (.return_, 1) := dk_177 (dk_at dksX14_init_0 19 rfl rfl)

abbrev cX15_take : ByteArray := prog_8_method_2_code
def yX15_take : MethodName := ⟨RX15, "take", "([I[I)Z"⟩
def dkwX15_take_3 : List UInt8 := [182, 0, 49, 192, 0, 50, 181, 0, 42, 4, 172]
abbrev dktX15_take_3 : List UInt8 := dkwX15_take_3 ++ []
def dkwX15_take_2 : List UInt8 := [42, 180, 0, 21, 160, 0, 29, 42, 180, 0, 42, 198, 0, 11, 42, 44, 182, 0, 45, 153, 0, 14, 42, 44]
abbrev dktX15_take_2 : List UInt8 := dkwX15_take_2 ++ dktX15_take_3
def dkwX15_take_1 : List UInt8 := [180, 0, 13, 44, 21, 4, 46, 182, 0, 30, 46, 184, 0, 36, 62, 132, 4, 1, 167, 255, 220, 4, 29, 96]
abbrev dktX15_take_1 : List UInt8 := dkwX15_take_1 ++ dktX15_take_2
def dkwX15_take_0 : List UInt8 := [3, 62, 3, 54, 4, 21, 4, 42, 180, 0, 17, 162, 0, 33, 29, 42, 180, 0, 7, 180, 0, 24, 42]
abbrev dktX15_take_0 : List UInt8 := dkwX15_take_0 ++ dktX15_take_1
theorem dksX15_take_0 : cX15_take.data.toList.drop 0 = dktX15_take_0 := by decide +kernel
theorem dksX15_take_1 : cX15_take.data.toList.drop 23 = dktX15_take_1 := dk_seg dksX15_take_0 23 rfl rfl
theorem dksX15_take_2 : cX15_take.data.toList.drop 47 = dktX15_take_2 := dk_seg dksX15_take_1 24 rfl rfl
theorem dksX15_take_3 : cX15_take.data.toList.drop 71 = dktX15_take_3 := dk_seg dksX15_take_2 24 rfl rfl
theorem dX15_take_0 : decode cX15_take 0 = .ok (.iconst 0, 1) := dk_3 (dk_at dksX15_take_0 0 rfl rfl)
theorem dX15_take_1 : decode cX15_take 1 = .ok (.istore_n 3, 1) := dk_62 (dk_at dksX15_take_0 1 rfl rfl)
theorem dX15_take_2 : decode cX15_take 2 = .ok (.iconst 0, 1) := dk_3 (dk_at dksX15_take_0 2 rfl rfl)
theorem dX15_take_3 : decode cX15_take 3 = .ok (.istore 4, 2) := dk_54 4 (dk_at dksX15_take_0 3 rfl rfl)
theorem dX15_take_5 : decode cX15_take 5 = .ok (.iload 4, 2) := dk_21 4 (dk_at dksX15_take_0 5 rfl rfl)
theorem dX15_take_7 : decode cX15_take 7 = .ok (.aload_n 0, 1) := dk_42 (dk_at dksX15_take_0 7 rfl rfl)
theorem dX15_take_8 : decode cX15_take 8 = .ok (.getfield 17, 3) := dk_180 0 17 (dk_at dksX15_take_0 8 rfl rfl)
theorem dX15_take_11 : decode cX15_take 11 = .ok (.if_icmp .ge 33, 3) := dk_162 0 33 (dk_at dksX15_take_0 11 rfl rfl)
theorem dX15_take_14 : decode cX15_take 14 = .ok (.iload_n 3, 1) := dk_29 (dk_at dksX15_take_0 14 rfl rfl)
theorem dX15_take_15 : decode cX15_take 15 = .ok (.aload_n 0, 1) := dk_42 (dk_at dksX15_take_0 15 rfl rfl)
theorem dX15_take_16 : decode cX15_take 16 = .ok (.getfield 7, 3) := dk_180 0 7 (dk_at dksX15_take_0 16 rfl rfl)
theorem dX15_take_19 : decode cX15_take 19 = .ok (.getfield 24, 3) := dk_180 0 24 (dk_at dksX15_take_0 19 rfl rfl)
theorem dX15_take_22 : decode cX15_take 22 = .ok (.aload_n 0, 1) := dk_42 (dk_at dksX15_take_0 22 rfl rfl)
theorem dX15_take_23 : decode cX15_take 23 = .ok (.getfield 13, 3) := dk_180 0 13 (dk_at dksX15_take_1 0 rfl rfl)
theorem dX15_take_26 : decode cX15_take 26 = .ok (.aload_n 2, 1) := dk_44 (dk_at dksX15_take_1 3 rfl rfl)
theorem dX15_take_27 : decode cX15_take 27 = .ok (.iload 4, 2) := dk_21 4 (dk_at dksX15_take_1 4 rfl rfl)
theorem dX15_take_29 : decode cX15_take 29 = .ok (.iaload, 1) := dk_46 (dk_at dksX15_take_1 6 rfl rfl)
theorem dX15_take_30 : decode cX15_take 30 = .ok (.invokevirtual 30, 3) := dk_182 0 30 (dk_at dksX15_take_1 7 rfl rfl)
theorem dX15_take_33 : decode cX15_take 33 = .ok (.iaload, 1) := dk_46 (dk_at dksX15_take_1 10 rfl rfl)
theorem dX15_take_34 : decode cX15_take 34 = .ok (.invokestatic 36, 3) := dk_184 0 36 (dk_at dksX15_take_1 11 rfl rfl)
theorem dX15_take_37 : decode cX15_take 37 = .ok (.istore_n 3, 1) := dk_62 (dk_at dksX15_take_1 14 rfl rfl)
theorem dX15_take_38 : decode cX15_take 38 = .ok (.iinc 4 1, 3) := dk_132 4 1 (dk_at dksX15_take_1 15 rfl rfl)
theorem dX15_take_41 : decode cX15_take 41 = .ok (.goto (-36), 3) := dk_167 255 220 (dk_at dksX15_take_1 18 rfl rfl)
theorem dX15_take_44 : decode cX15_take 44 = .ok (.iconst 1, 1) := dk_4 (dk_at dksX15_take_1 21 rfl rfl)
theorem dX15_take_45 : decode cX15_take 45 = .ok (.iload_n 3, 1) := dk_29 (dk_at dksX15_take_1 22 rfl rfl)
theorem dX15_take_46 : decode cX15_take 46 = .ok (.iadd, 1) := dk_96 (dk_at dksX15_take_1 23 rfl rfl)
theorem dX15_take_47 : decode cX15_take 47 = .ok (.aload_n 0, 1) := dk_42 (dk_at dksX15_take_2 0 rfl rfl)
theorem dX15_take_48 : decode cX15_take 48 = .ok (.getfield 21, 3) := dk_180 0 21 (dk_at dksX15_take_2 1 rfl rfl)
theorem dX15_take_51 : decode cX15_take 51 = .ok (.if_icmp .ne 29, 3) := dk_160 0 29 (dk_at dksX15_take_2 4 rfl rfl)
theorem dX15_take_54 : decode cX15_take 54 = .ok (.aload_n 0, 1) := dk_42 (dk_at dksX15_take_2 7 rfl rfl)
theorem dX15_take_55 : decode cX15_take 55 = .ok (.getfield 42, 3) := dk_180 0 42 (dk_at dksX15_take_2 8 rfl rfl)
theorem dX15_take_58 : decode cX15_take 58 = .ok (.ifnull 11, 3) := dk_198 0 11 (dk_at dksX15_take_2 11 rfl rfl)
theorem dX15_take_61 : decode cX15_take 61 = .ok (.aload_n 0, 1) := dk_42 (dk_at dksX15_take_2 14 rfl rfl)
theorem dX15_take_62 : decode cX15_take 62 = .ok (.aload_n 2, 1) := dk_44 (dk_at dksX15_take_2 15 rfl rfl)
theorem dX15_take_63 : decode cX15_take 63 = .ok (.invokevirtual 45, 3) := dk_182 0 45 (dk_at dksX15_take_2 16 rfl rfl)
theorem dX15_take_66 : decode cX15_take 66 = .ok (.ifCond .eq 14, 3) := dk_153 0 14 (dk_at dksX15_take_2 19 rfl rfl)
theorem dX15_take_69 : decode cX15_take 69 = .ok (.aload_n 0, 1) := dk_42 (dk_at dksX15_take_2 22 rfl rfl)
theorem dX15_take_70 : decode cX15_take 70 = .ok (.aload_n 2, 1) := dk_44 (dk_at dksX15_take_2 23 rfl rfl)
theorem dX15_take_71 : decode cX15_take 71 = .ok (.invokevirtual 49, 3) := dk_182 0 49 (dk_at dksX15_take_3 0 rfl rfl)
theorem dX15_take_74 : decode cX15_take 74 = .ok (.checkcast 50, 3) := dk_192 0 50 (dk_at dksX15_take_3 3 rfl rfl)
theorem dX15_take_77 : decode cX15_take 77 = .ok (.putfield 42, 3) := dk_181 0 42 (dk_at dksX15_take_3 6 rfl rfl)
theorem dX15_take_80 : decode cX15_take 80 = .ok (.iconst 1, 1) := dk_4 (dk_at dksX15_take_3 9 rfl rfl)
theorem dX15_take_81 : decode cX15_take 81 = .ok (.ireturn, 1) := dk_172 (dk_at dksX15_take_3 10 rfl rfl)
abbrev cX15_isLower : ByteArray := prog_8_method_3_code
def yX15_isLower : MethodName := ⟨RX15, "isLower", "([I)Z"⟩
def dkwX15_isLower_1 : List UInt8 := [46, 42, 180, 0, 42, 28, 46, 162, 0, 7, 4, 167, 0, 4, 3, 172, 132, 2, 1, 167, 255, 215, 3, 172]
abbrev dktX15_isLower_1 : List UInt8 := dkwX15_isLower_1 ++ []
def dkwX15_isLower_0 : List UInt8 := [3, 61, 28, 42, 180, 0, 17, 162, 0, 39, 43, 28, 46, 42, 180, 0, 42, 28, 46, 159, 0, 21, 43, 28]
abbrev dktX15_isLower_0 : List UInt8 := dkwX15_isLower_0 ++ dktX15_isLower_1
theorem dksX15_isLower_0 : cX15_isLower.data.toList.drop 0 = dktX15_isLower_0 := by decide +kernel
theorem dksX15_isLower_1 : cX15_isLower.data.toList.drop 24 = dktX15_isLower_1 := dk_seg dksX15_isLower_0 24 rfl rfl
theorem dX15_isLower_0 : decode cX15_isLower 0 = .ok (.iconst 0, 1) := dk_3 (dk_at dksX15_isLower_0 0 rfl rfl)
theorem dX15_isLower_1 : decode cX15_isLower 1 = .ok (.istore_n 2, 1) := dk_61 (dk_at dksX15_isLower_0 1 rfl rfl)
theorem dX15_isLower_2 : decode cX15_isLower 2 = .ok (.iload_n 2, 1) := dk_28 (dk_at dksX15_isLower_0 2 rfl rfl)
theorem dX15_isLower_3 : decode cX15_isLower 3 = .ok (.aload_n 0, 1) := dk_42 (dk_at dksX15_isLower_0 3 rfl rfl)
theorem dX15_isLower_4 : decode cX15_isLower 4 = .ok (.getfield 17, 3) := dk_180 0 17 (dk_at dksX15_isLower_0 4 rfl rfl)
theorem dX15_isLower_7 : decode cX15_isLower 7 = .ok (.if_icmp .ge 39, 3) := dk_162 0 39 (dk_at dksX15_isLower_0 7 rfl rfl)
theorem dX15_isLower_10 : decode cX15_isLower 10 = .ok (.aload_n 1, 1) := dk_43 (dk_at dksX15_isLower_0 10 rfl rfl)
theorem dX15_isLower_11 : decode cX15_isLower 11 = .ok (.iload_n 2, 1) := dk_28 (dk_at dksX15_isLower_0 11 rfl rfl)
theorem dX15_isLower_12 : decode cX15_isLower 12 = .ok (.iaload, 1) := dk_46 (dk_at dksX15_isLower_0 12 rfl rfl)
theorem dX15_isLower_13 : decode cX15_isLower 13 = .ok (.aload_n 0, 1) := dk_42 (dk_at dksX15_isLower_0 13 rfl rfl)
theorem dX15_isLower_14 : decode cX15_isLower 14 = .ok (.getfield 42, 3) := dk_180 0 42 (dk_at dksX15_isLower_0 14 rfl rfl)
theorem dX15_isLower_17 : decode cX15_isLower 17 = .ok (.iload_n 2, 1) := dk_28 (dk_at dksX15_isLower_0 17 rfl rfl)
theorem dX15_isLower_18 : decode cX15_isLower 18 = .ok (.iaload, 1) := dk_46 (dk_at dksX15_isLower_0 18 rfl rfl)
theorem dX15_isLower_19 : decode cX15_isLower 19 = .ok (.if_icmp .eq 21, 3) := dk_159 0 21 (dk_at dksX15_isLower_0 19 rfl rfl)
theorem dX15_isLower_22 : decode cX15_isLower 22 = .ok (.aload_n 1, 1) := dk_43 (dk_at dksX15_isLower_0 22 rfl rfl)
theorem dX15_isLower_23 : decode cX15_isLower 23 = .ok (.iload_n 2, 1) := dk_28 (dk_at dksX15_isLower_0 23 rfl rfl)
theorem dX15_isLower_24 : decode cX15_isLower 24 = .ok (.iaload, 1) := dk_46 (dk_at dksX15_isLower_1 0 rfl rfl)
theorem dX15_isLower_25 : decode cX15_isLower 25 = .ok (.aload_n 0, 1) := dk_42 (dk_at dksX15_isLower_1 1 rfl rfl)
theorem dX15_isLower_26 : decode cX15_isLower 26 = .ok (.getfield 42, 3) := dk_180 0 42 (dk_at dksX15_isLower_1 2 rfl rfl)
theorem dX15_isLower_29 : decode cX15_isLower 29 = .ok (.iload_n 2, 1) := dk_28 (dk_at dksX15_isLower_1 5 rfl rfl)
theorem dX15_isLower_30 : decode cX15_isLower 30 = .ok (.iaload, 1) := dk_46 (dk_at dksX15_isLower_1 6 rfl rfl)
theorem dX15_isLower_31 : decode cX15_isLower 31 = .ok (.if_icmp .ge 7, 3) := dk_162 0 7 (dk_at dksX15_isLower_1 7 rfl rfl)
theorem dX15_isLower_34 : decode cX15_isLower 34 = .ok (.iconst 1, 1) := dk_4 (dk_at dksX15_isLower_1 10 rfl rfl)
theorem dX15_isLower_35 : decode cX15_isLower 35 = .ok (.goto 4, 3) := dk_167 0 4 (dk_at dksX15_isLower_1 11 rfl rfl)
theorem dX15_isLower_38 : decode cX15_isLower 38 = .ok (.iconst 0, 1) := dk_3 (dk_at dksX15_isLower_1 14 rfl rfl)
theorem dX15_isLower_39 : decode cX15_isLower 39 = .ok (.ireturn, 1) := dk_172 (dk_at dksX15_isLower_1 15 rfl rfl)
theorem dX15_isLower_40 : decode cX15_isLower 40 = .ok (.iinc 2 1, 3) := dk_132 2 1 (dk_at dksX15_isLower_1 16 rfl rfl)
theorem dX15_isLower_43 : decode cX15_isLower 43 = .ok (.goto (-41), 3) := dk_167 255 215 (dk_at dksX15_isLower_1 19 rfl rfl)
theorem dX15_isLower_46 : decode cX15_isLower 46 = .ok (.iconst 0, 1) := dk_3 (dk_at dksX15_isLower_1 22 rfl rfl)
theorem dX15_isLower_47 : decode cX15_isLower 47 = .ok (.ireturn, 1) := dk_172 (dk_at dksX15_isLower_1 23 rfl rfl)
abbrev cX15_init : ByteArray := prog_8_method_1_code
def yX15_init : MethodName := ⟨RX15, "<init>", "(LRulehearth$Reasons;LRulehearth$Facts;II)V"⟩
def dkwX15_init_1 : List UInt8 := [181, 0, 21, 177]
abbrev dktX15_init_1 : List UInt8 := dkwX15_init_1 ++ []
def dkwX15_init_0 : List UInt8 := [42, 183, 0, 1, 42, 43, 181, 0, 7, 42, 44, 181, 0, 13, 42, 29, 181, 0, 17, 42, 21, 4]
abbrev dktX15_init_0 : List UInt8 := dkwX15_init_0 ++ dktX15_init_1
theorem dksX15_init_0 : cX15_init.data.toList.drop 0 = dktX15_init_0 := by decide +kernel
theorem dksX15_init_1 : cX15_init.data.toList.drop 22 = dktX15_init_1 := dk_seg dksX15_init_0 22 rfl rfl
theorem dX15_init_0 : decode cX15_init 0 = .ok (.aload_n 0, 1) := dk_42 (dk_at dksX15_init_0 0 rfl rfl)
theorem dX15_init_1 : decode cX15_init 1 = .ok (.invokespecial 1, 3) := dk_183 0 1 (dk_at dksX15_init_0 1 rfl rfl)
theorem dX15_init_4 : decode cX15_init 4 = .ok (.aload_n 0, 1) := dk_42 (dk_at dksX15_init_0 4 rfl rfl)
theorem dX15_init_5 : decode cX15_init 5 = .ok (.aload_n 1, 1) := dk_43 (dk_at dksX15_init_0 5 rfl rfl)
theorem dX15_init_6 : decode cX15_init 6 = .ok (.putfield 7, 3) := dk_181 0 7 (dk_at dksX15_init_0 6 rfl rfl)
theorem dX15_init_9 : decode cX15_init 9 = .ok (.aload_n 0, 1) := dk_42 (dk_at dksX15_init_0 9 rfl rfl)
theorem dX15_init_10 : decode cX15_init 10 = .ok (.aload_n 2, 1) := dk_44 (dk_at dksX15_init_0 10 rfl rfl)
theorem dX15_init_11 : decode cX15_init 11 = .ok (.putfield 13, 3) := dk_181 0 13 (dk_at dksX15_init_0 11 rfl rfl)
theorem dX15_init_14 : decode cX15_init 14 = .ok (.aload_n 0, 1) := dk_42 (dk_at dksX15_init_0 14 rfl rfl)
theorem dX15_init_15 : decode cX15_init 15 = .ok (.iload_n 3, 1) := dk_29 (dk_at dksX15_init_0 15 rfl rfl)
theorem dX15_init_16 : decode cX15_init 16 = .ok (.putfield 17, 3) := dk_181 0 17 (dk_at dksX15_init_0 16 rfl rfl)
theorem dX15_init_19 : decode cX15_init 19 = .ok (.aload_n 0, 1) := dk_42 (dk_at dksX15_init_0 19 rfl rfl)
theorem dX15_init_20 : decode cX15_init 20 = .ok (.iload 4, 2) := dk_21 4 (dk_at dksX15_init_0 20 rfl rfl)
theorem dX15_init_22 : decode cX15_init 22 = .ok (.putfield 21, 3) := dk_181 0 21 (dk_at dksX15_init_1 0 rfl rfl)
theorem dX15_init_25 : decode cX15_init 25 = .ok (.return_, 1) := dk_177 (dk_at dksX15_init_1 3 rfl rfl)

abbrev cX16_init : ByteArray := prog_9_method_4_code
def yX16_init : MethodName := ⟨RX16, "<init>", "(LRulehearth;)V"⟩
def dkwX16_init_7 : List UInt8 := [87, 132, 5, 1, 167, 255, 176, 42, 180, 0, 60, 25, 4, 182, 0, 100, 87, 132, 2, 1, 167, 255, 117, 177]
abbrev dktX16_init_7 : List UInt8 := dkwX16_init_7 ++ []
def dkwX16_init_6 : List UInt8 := [180, 0, 81, 21, 5, 43, 180, 0, 64, 180, 0, 93, 42, 180, 0, 52, 25, 7, 183, 0, 97, 182, 0, 100]
abbrev dktX16_init_6 : List UInt8 := dkwX16_init_6 ++ dktX16_init_7
def dkwX16_init_5 : List UInt8 := [186, 0, 84, 0, 0, 58, 7, 25, 6, 180, 0, 88, 4, 163, 0, 35, 25, 4, 187, 0, 91, 89, 45]
abbrev dktX16_init_5 : List UInt8 := dkwX16_init_5 ++ dktX16_init_6
def dkwX16_init_4 : List UInt8 := [162, 0, 74, 45, 180, 0, 81, 21, 5, 182, 0, 77, 192, 0, 4, 58, 6, 42, 25, 6]
abbrev dktX16_init_4 : List UInt8 := dkwX16_init_4 ++ dktX16_init_5
def dkwX16_init_3 : List UInt8 := [187, 0, 55, 89, 16, 6, 183, 0, 57, 58, 4, 3, 54, 5, 21, 5, 45, 180, 0, 81, 182, 0, 73]
abbrev dktX16_init_3 : List UInt8 := dkwX16_init_3 ++ dktX16_init_4
def dkwX16_init_2 : List UInt8 := [180, 0, 68, 182, 0, 73, 162, 0, 131, 43, 180, 0, 64, 180, 0, 68, 28, 182, 0, 77, 192, 0, 26, 78]
abbrev dktX16_init_2 : List UInt8 := dkwX16_init_2 ++ dktX16_init_3
def dkwX16_init_1 : List UInt8 := [181, 0, 52, 42, 187, 0, 55, 89, 16, 10, 183, 0, 57, 181, 0, 60, 3, 61, 28, 43, 180, 0, 64]
abbrev dktX16_init_1 : List UInt8 := dkwX16_init_1 ++ dktX16_init_2
def dkwX16_init_0 : List UInt8 := [42, 43, 181, 0, 38, 42, 183, 0, 42, 42, 17, 0, 200, 188, 10, 181, 0, 22, 42, 184, 0, 48]
abbrev dktX16_init_0 : List UInt8 := dkwX16_init_0 ++ dktX16_init_1
theorem dksX16_init_0 : cX16_init.data.toList.drop 0 = dktX16_init_0 := by decide +kernel
theorem dksX16_init_1 : cX16_init.data.toList.drop 22 = dktX16_init_1 := dk_seg dksX16_init_0 22 rfl rfl
theorem dksX16_init_2 : cX16_init.data.toList.drop 45 = dktX16_init_2 := dk_seg dksX16_init_1 23 rfl rfl
theorem dksX16_init_3 : cX16_init.data.toList.drop 69 = dktX16_init_3 := dk_seg dksX16_init_2 24 rfl rfl
theorem dksX16_init_4 : cX16_init.data.toList.drop 92 = dktX16_init_4 := dk_seg dksX16_init_3 23 rfl rfl
theorem dksX16_init_5 : cX16_init.data.toList.drop 112 = dktX16_init_5 := dk_seg dksX16_init_4 20 rfl rfl
theorem dksX16_init_6 : cX16_init.data.toList.drop 135 = dktX16_init_6 := dk_seg dksX16_init_5 23 rfl rfl
theorem dksX16_init_7 : cX16_init.data.toList.drop 159 = dktX16_init_7 := dk_seg dksX16_init_6 24 rfl rfl
theorem dX16_init_0 : decode cX16_init 0 = .ok (.aload_n 0, 1) := dk_42 (dk_at dksX16_init_0 0 rfl rfl)
theorem dX16_init_1 : decode cX16_init 1 = .ok (.aload_n 1, 1) := dk_43 (dk_at dksX16_init_0 1 rfl rfl)
theorem dX16_init_2 : decode cX16_init 2 = .ok (.putfield 38, 3) := dk_181 0 38 (dk_at dksX16_init_0 2 rfl rfl)
theorem dX16_init_5 : decode cX16_init 5 = .ok (.aload_n 0, 1) := dk_42 (dk_at dksX16_init_0 5 rfl rfl)
theorem dX16_init_6 : decode cX16_init 6 = .ok (.invokespecial 42, 3) := dk_183 0 42 (dk_at dksX16_init_0 6 rfl rfl)
theorem dX16_init_9 : decode cX16_init 9 = .ok (.aload_n 0, 1) := dk_42 (dk_at dksX16_init_0 9 rfl rfl)
theorem dX16_init_10 : decode cX16_init 10 = .ok (.sipush 200, 3) := dk_17 0 200 (dk_at dksX16_init_0 10 rfl rfl)
theorem dX16_init_13 : decode cX16_init 13 = .ok (.newarray .int, 2) := dk_188_10 (dk_at dksX16_init_0 13 rfl rfl)
theorem dX16_init_15 : decode cX16_init 15 = .ok (.putfield 22, 3) := dk_181 0 22 (dk_at dksX16_init_0 15 rfl rfl)
theorem dX16_init_18 : decode cX16_init 18 = .ok (.aload_n 0, 1) := dk_42 (dk_at dksX16_init_0 18 rfl rfl)
theorem dX16_init_19 : decode cX16_init 19 = .ok (.invokestatic 48, 3) := dk_184 0 48 (dk_at dksX16_init_0 19 rfl rfl)
theorem dX16_init_22 : decode cX16_init 22 = .ok (.putfield 52, 3) := dk_181 0 52 (dk_at dksX16_init_1 0 rfl rfl)
theorem dX16_init_25 : decode cX16_init 25 = .ok (.aload_n 0, 1) := dk_42 (dk_at dksX16_init_1 3 rfl rfl)
theorem dX16_init_26 : decode cX16_init 26 = .ok (.new 55, 3) := dk_187 0 55 (dk_at dksX16_init_1 4 rfl rfl)
theorem dX16_init_29 : decode cX16_init 29 = .ok (.dup, 1) := dk_89 (dk_at dksX16_init_1 7 rfl rfl)
theorem dX16_init_30 : decode cX16_init 30 = .ok (.bipush 10, 2) := dk_16 10 (dk_at dksX16_init_1 8 rfl rfl)
theorem dX16_init_32 : decode cX16_init 32 = .ok (.invokespecial 57, 3) := dk_183 0 57 (dk_at dksX16_init_1 10 rfl rfl)
theorem dX16_init_35 : decode cX16_init 35 = .ok (.putfield 60, 3) := dk_181 0 60 (dk_at dksX16_init_1 13 rfl rfl)
theorem dX16_init_38 : decode cX16_init 38 = .ok (.iconst 0, 1) := dk_3 (dk_at dksX16_init_1 16 rfl rfl)
theorem dX16_init_39 : decode cX16_init 39 = .ok (.istore_n 2, 1) := dk_61 (dk_at dksX16_init_1 17 rfl rfl)
theorem dX16_init_40 : decode cX16_init 40 = .ok (.iload_n 2, 1) := dk_28 (dk_at dksX16_init_1 18 rfl rfl)
theorem dX16_init_41 : decode cX16_init 41 = .ok (.aload_n 1, 1) := dk_43 (dk_at dksX16_init_1 19 rfl rfl)
theorem dX16_init_42 : decode cX16_init 42 = .ok (.getfield 64, 3) := dk_180 0 64 (dk_at dksX16_init_1 20 rfl rfl)
theorem dX16_init_45 : decode cX16_init 45 = .ok (.getfield 68, 3) := dk_180 0 68 (dk_at dksX16_init_2 0 rfl rfl)
theorem dX16_init_48 : decode cX16_init 48 = .ok (.invokevirtual 73, 3) := dk_182 0 73 (dk_at dksX16_init_2 3 rfl rfl)
theorem dX16_init_51 : decode cX16_init 51 = .ok (.if_icmp .ge 131, 3) := dk_162 0 131 (dk_at dksX16_init_2 6 rfl rfl)
theorem dX16_init_54 : decode cX16_init 54 = .ok (.aload_n 1, 1) := dk_43 (dk_at dksX16_init_2 9 rfl rfl)
theorem dX16_init_55 : decode cX16_init 55 = .ok (.getfield 64, 3) := dk_180 0 64 (dk_at dksX16_init_2 10 rfl rfl)
theorem dX16_init_58 : decode cX16_init 58 = .ok (.getfield 68, 3) := dk_180 0 68 (dk_at dksX16_init_2 13 rfl rfl)
theorem dX16_init_61 : decode cX16_init 61 = .ok (.iload_n 2, 1) := dk_28 (dk_at dksX16_init_2 16 rfl rfl)
theorem dX16_init_62 : decode cX16_init 62 = .ok (.invokevirtual 77, 3) := dk_182 0 77 (dk_at dksX16_init_2 17 rfl rfl)
theorem dX16_init_65 : decode cX16_init 65 = .ok (.checkcast 26, 3) := dk_192 0 26 (dk_at dksX16_init_2 20 rfl rfl)
theorem dX16_init_68 : decode cX16_init 68 = .ok (.astore_n 3, 1) := dk_78 (dk_at dksX16_init_2 23 rfl rfl)
theorem dX16_init_69 : decode cX16_init 69 = .ok (.new 55, 3) := dk_187 0 55 (dk_at dksX16_init_3 0 rfl rfl)
theorem dX16_init_72 : decode cX16_init 72 = .ok (.dup, 1) := dk_89 (dk_at dksX16_init_3 3 rfl rfl)
theorem dX16_init_73 : decode cX16_init 73 = .ok (.bipush 6, 2) := dk_16 6 (dk_at dksX16_init_3 4 rfl rfl)
theorem dX16_init_75 : decode cX16_init 75 = .ok (.invokespecial 57, 3) := dk_183 0 57 (dk_at dksX16_init_3 6 rfl rfl)
theorem dX16_init_78 : decode cX16_init 78 = .ok (.astore 4, 2) := dk_58 4 (dk_at dksX16_init_3 9 rfl rfl)
theorem dX16_init_80 : decode cX16_init 80 = .ok (.iconst 0, 1) := dk_3 (dk_at dksX16_init_3 11 rfl rfl)
theorem dX16_init_81 : decode cX16_init 81 = .ok (.istore 5, 2) := dk_54 5 (dk_at dksX16_init_3 12 rfl rfl)
theorem dX16_init_83 : decode cX16_init 83 = .ok (.iload 5, 2) := dk_21 5 (dk_at dksX16_init_3 14 rfl rfl)
theorem dX16_init_85 : decode cX16_init 85 = .ok (.aload_n 3, 1) := dk_45 (dk_at dksX16_init_3 16 rfl rfl)
theorem dX16_init_86 : decode cX16_init 86 = .ok (.getfield 81, 3) := dk_180 0 81 (dk_at dksX16_init_3 17 rfl rfl)
theorem dX16_init_89 : decode cX16_init 89 = .ok (.invokevirtual 73, 3) := dk_182 0 73 (dk_at dksX16_init_3 20 rfl rfl)
theorem dX16_init_92 : decode cX16_init 92 = .ok (.if_icmp .ge 74, 3) := dk_162 0 74 (dk_at dksX16_init_4 0 rfl rfl)
theorem dX16_init_95 : decode cX16_init 95 = .ok (.aload_n 3, 1) := dk_45 (dk_at dksX16_init_4 3 rfl rfl)
theorem dX16_init_96 : decode cX16_init 96 = .ok (.getfield 81, 3) := dk_180 0 81 (dk_at dksX16_init_4 4 rfl rfl)
theorem dX16_init_99 : decode cX16_init 99 = .ok (.iload 5, 2) := dk_21 5 (dk_at dksX16_init_4 7 rfl rfl)
theorem dX16_init_101 : decode cX16_init 101 = .ok (.invokevirtual 77, 3) := dk_182 0 77 (dk_at dksX16_init_4 9 rfl rfl)
theorem dX16_init_104 : decode cX16_init 104 = .ok (.checkcast 4, 3) := dk_192 0 4 (dk_at dksX16_init_4 12 rfl rfl)
theorem dX16_init_107 : decode cX16_init 107 = .ok (.astore 6, 2) := dk_58 6 (dk_at dksX16_init_4 15 rfl rfl)
theorem dX16_init_109 : decode cX16_init 109 = .ok (.aload_n 0, 1) := dk_42 (dk_at dksX16_init_4 17 rfl rfl)
theorem dX16_init_110 : decode cX16_init 110 = .ok (.aload 6, 2) := dk_25 6 (dk_at dksX16_init_4 18 rfl rfl)
theorem dX16_init_112 : decode cX16_init 112 = .ok (.invokedynamic 84, 5) := by decide +kernel
theorem dX16_init_117 : decode cX16_init 117 = .ok (.astore 7, 2) := dk_58 7 (dk_at dksX16_init_5 5 rfl rfl)
theorem dX16_init_119 : decode cX16_init 119 = .ok (.aload 6, 2) := dk_25 6 (dk_at dksX16_init_5 7 rfl rfl)
theorem dX16_init_121 : decode cX16_init 121 = .ok (.getfield 88, 3) := dk_180 0 88 (dk_at dksX16_init_5 9 rfl rfl)
theorem dX16_init_124 : decode cX16_init 124 = .ok (.iconst 1, 1) := dk_4 (dk_at dksX16_init_5 12 rfl rfl)
theorem dX16_init_125 : decode cX16_init 125 = .ok (.if_icmp .gt 35, 3) := dk_163 0 35 (dk_at dksX16_init_5 13 rfl rfl)
theorem dX16_init_128 : decode cX16_init 128 = .ok (.aload 4, 2) := dk_25 4 (dk_at dksX16_init_5 16 rfl rfl)
theorem dX16_init_130 : decode cX16_init 130 = .ok (.new 91, 3) := dk_187 0 91 (dk_at dksX16_init_5 18 rfl rfl)
theorem dX16_init_133 : decode cX16_init 133 = .ok (.dup, 1) := dk_89 (dk_at dksX16_init_5 21 rfl rfl)
theorem dX16_init_134 : decode cX16_init 134 = .ok (.aload_n 3, 1) := dk_45 (dk_at dksX16_init_5 22 rfl rfl)
theorem dX16_init_135 : decode cX16_init 135 = .ok (.getfield 81, 3) := dk_180 0 81 (dk_at dksX16_init_6 0 rfl rfl)
theorem dX16_init_138 : decode cX16_init 138 = .ok (.iload 5, 2) := dk_21 5 (dk_at dksX16_init_6 3 rfl rfl)
theorem dX16_init_140 : decode cX16_init 140 = .ok (.aload_n 1, 1) := dk_43 (dk_at dksX16_init_6 5 rfl rfl)
theorem dX16_init_141 : decode cX16_init 141 = .ok (.getfield 64, 3) := dk_180 0 64 (dk_at dksX16_init_6 6 rfl rfl)
theorem dX16_init_144 : decode cX16_init 144 = .ok (.getfield 93, 3) := dk_180 0 93 (dk_at dksX16_init_6 9 rfl rfl)
theorem dX16_init_147 : decode cX16_init 147 = .ok (.aload_n 0, 1) := dk_42 (dk_at dksX16_init_6 12 rfl rfl)
theorem dX16_init_148 : decode cX16_init 148 = .ok (.getfield 52, 3) := dk_180 0 52 (dk_at dksX16_init_6 13 rfl rfl)
theorem dX16_init_151 : decode cX16_init 151 = .ok (.aload 7, 2) := dk_25 7 (dk_at dksX16_init_6 16 rfl rfl)
theorem dX16_init_153 : decode cX16_init 153 = .ok (.invokespecial 97, 3) := dk_183 0 97 (dk_at dksX16_init_6 18 rfl rfl)
theorem dX16_init_156 : decode cX16_init 156 = .ok (.invokevirtual 100, 3) := dk_182 0 100 (dk_at dksX16_init_6 21 rfl rfl)
theorem dX16_init_159 : decode cX16_init 159 = .ok (.pop, 1) := dk_87 (dk_at dksX16_init_7 0 rfl rfl)
theorem dX16_init_160 : decode cX16_init 160 = .ok (.iinc 5 1, 3) := dk_132 5 1 (dk_at dksX16_init_7 1 rfl rfl)
theorem dX16_init_163 : decode cX16_init 163 = .ok (.goto (-80), 3) := dk_167 255 176 (dk_at dksX16_init_7 4 rfl rfl)
theorem dX16_init_166 : decode cX16_init 166 = .ok (.aload_n 0, 1) := dk_42 (dk_at dksX16_init_7 7 rfl rfl)
theorem dX16_init_167 : decode cX16_init 167 = .ok (.getfield 60, 3) := dk_180 0 60 (dk_at dksX16_init_7 8 rfl rfl)
theorem dX16_init_170 : decode cX16_init 170 = .ok (.aload 4, 2) := dk_25 4 (dk_at dksX16_init_7 11 rfl rfl)
theorem dX16_init_172 : decode cX16_init 172 = .ok (.invokevirtual 100, 3) := dk_182 0 100 (dk_at dksX16_init_7 13 rfl rfl)
theorem dX16_init_175 : decode cX16_init 175 = .ok (.pop, 1) := dk_87 (dk_at dksX16_init_7 16 rfl rfl)
theorem dX16_init_176 : decode cX16_init 176 = .ok (.iinc 2 1, 3) := dk_132 2 1 (dk_at dksX16_init_7 17 rfl rfl)
theorem dX16_init_179 : decode cX16_init 179 = .ok (.goto (-139), 3) := dk_167 255 117 (dk_at dksX16_init_7 20 rfl rfl)
theorem dX16_init_182 : decode cX16_init 182 = .ok (.return_, 1) := dk_177 (dk_at dksX16_init_7 23 rfl rfl)
abbrev cX16_lambda_new_0 : ByteArray := prog_9_method_7_code
def yX16_lambda_new_0 : MethodName := ⟨RX16, "lambda$new$0", "(LRulehearth$Item;[I[I)Z"⟩
def dkwX16_lambda_new_0_1 : List UInt8 := [3, 172]
abbrev dktX16_lambda_new_0_1 : List UInt8 := dkwX16_lambda_new_0_1 ++ []
def dkwX16_lambda_new_0_0 : List UInt8 := [42, 42, 43, 44, 182, 0, 123, 182, 0, 116, 42, 180, 0, 17, 17, 0, 200, 162, 0, 7, 4, 167, 0, 4]
abbrev dktX16_lambda_new_0_0 : List UInt8 := dkwX16_lambda_new_0_0 ++ dktX16_lambda_new_0_1
theorem dksX16_lambda_new_0_0 : cX16_lambda_new_0.data.toList.drop 0 = dktX16_lambda_new_0_0 := by decide +kernel
theorem dksX16_lambda_new_0_1 : cX16_lambda_new_0.data.toList.drop 24 = dktX16_lambda_new_0_1 := dk_seg dksX16_lambda_new_0_0 24 rfl rfl
theorem dX16_lambda_new_0_0 : decode cX16_lambda_new_0 0 = .ok (.aload_n 0, 1) := dk_42 (dk_at dksX16_lambda_new_0_0 0 rfl rfl)
theorem dX16_lambda_new_0_1 : decode cX16_lambda_new_0 1 = .ok (.aload_n 0, 1) := dk_42 (dk_at dksX16_lambda_new_0_0 1 rfl rfl)
theorem dX16_lambda_new_0_2 : decode cX16_lambda_new_0 2 = .ok (.aload_n 1, 1) := dk_43 (dk_at dksX16_lambda_new_0_0 2 rfl rfl)
theorem dX16_lambda_new_0_3 : decode cX16_lambda_new_0 3 = .ok (.aload_n 2, 1) := dk_44 (dk_at dksX16_lambda_new_0_0 3 rfl rfl)
theorem dX16_lambda_new_0_4 : decode cX16_lambda_new_0 4 = .ok (.invokevirtual 123, 3) := dk_182 0 123 (dk_at dksX16_lambda_new_0_0 4 rfl rfl)
theorem dX16_lambda_new_0_7 : decode cX16_lambda_new_0 7 = .ok (.invokevirtual 116, 3) := dk_182 0 116 (dk_at dksX16_lambda_new_0_0 7 rfl rfl)
theorem dX16_lambda_new_0_10 : decode cX16_lambda_new_0 10 = .ok (.aload_n 0, 1) := dk_42 (dk_at dksX16_lambda_new_0_0 10 rfl rfl)
theorem dX16_lambda_new_0_11 : decode cX16_lambda_new_0 11 = .ok (.getfield 17, 3) := dk_180 0 17 (dk_at dksX16_lambda_new_0_0 11 rfl rfl)
theorem dX16_lambda_new_0_14 : decode cX16_lambda_new_0 14 = .ok (.sipush 200, 3) := dk_17 0 200 (dk_at dksX16_lambda_new_0_0 14 rfl rfl)
theorem dX16_lambda_new_0_17 : decode cX16_lambda_new_0 17 = .ok (.if_icmp .ge 7, 3) := dk_162 0 7 (dk_at dksX16_lambda_new_0_0 17 rfl rfl)
theorem dX16_lambda_new_0_20 : decode cX16_lambda_new_0 20 = .ok (.iconst 1, 1) := dk_4 (dk_at dksX16_lambda_new_0_0 20 rfl rfl)
theorem dX16_lambda_new_0_21 : decode cX16_lambda_new_0 21 = .ok (.goto 4, 3) := dk_167 0 4 (dk_at dksX16_lambda_new_0_0 21 rfl rfl)
theorem dX16_lambda_new_0_24 : decode cX16_lambda_new_0 24 = .ok (.iconst 0, 1) := dk_3 (dk_at dksX16_lambda_new_0_1 0 rfl rfl)
theorem dX16_lambda_new_0_25 : decode cX16_lambda_new_0 25 = .ok (.ireturn, 1) := dk_172 (dk_at dksX16_lambda_new_0_1 1 rfl rfl)
abbrev cX16_goalOf : ByteArray := prog_9_method_1_code
def yX16_goalOf : MethodName := ⟨RX16, "goalOf", "(LRulehearth$Item;[I)I"⟩
def dkwX16_goalOf_2 : List UInt8 := [132, 4, 1, 167, 255, 214, 29, 172]
abbrev dktX16_goalOf_2 : List UInt8 := dkwX16_goalOf_2 ++ []
def dkwX16_goalOf_1 : List UInt8 := [190, 162, 0, 19, 4, 43, 180, 0, 9, 21, 4, 46, 44, 184, 0, 13, 96, 167, 0, 4, 3, 96, 62]
abbrev dktX16_goalOf_1 : List UInt8 := dkwX16_goalOf_1 ++ dktX16_goalOf_2
def dkwX16_goalOf_0 : List UInt8 := [43, 180, 0, 3, 62, 3, 54, 4, 21, 4, 6, 162, 0, 42, 16, 101, 29, 104, 21, 4, 43, 180, 0, 9]
abbrev dktX16_goalOf_0 : List UInt8 := dkwX16_goalOf_0 ++ dktX16_goalOf_1
theorem dksX16_goalOf_0 : cX16_goalOf.data.toList.drop 0 = dktX16_goalOf_0 := by decide +kernel
theorem dksX16_goalOf_1 : cX16_goalOf.data.toList.drop 24 = dktX16_goalOf_1 := dk_seg dksX16_goalOf_0 24 rfl rfl
theorem dksX16_goalOf_2 : cX16_goalOf.data.toList.drop 47 = dktX16_goalOf_2 := dk_seg dksX16_goalOf_1 23 rfl rfl
theorem dX16_goalOf_0 : decode cX16_goalOf 0 = .ok (.aload_n 1, 1) := dk_43 (dk_at dksX16_goalOf_0 0 rfl rfl)
theorem dX16_goalOf_1 : decode cX16_goalOf 1 = .ok (.getfield 3, 3) := dk_180 0 3 (dk_at dksX16_goalOf_0 1 rfl rfl)
theorem dX16_goalOf_4 : decode cX16_goalOf 4 = .ok (.istore_n 3, 1) := dk_62 (dk_at dksX16_goalOf_0 4 rfl rfl)
theorem dX16_goalOf_5 : decode cX16_goalOf 5 = .ok (.iconst 0, 1) := dk_3 (dk_at dksX16_goalOf_0 5 rfl rfl)
theorem dX16_goalOf_6 : decode cX16_goalOf 6 = .ok (.istore 4, 2) := dk_54 4 (dk_at dksX16_goalOf_0 6 rfl rfl)
theorem dX16_goalOf_8 : decode cX16_goalOf 8 = .ok (.iload 4, 2) := dk_21 4 (dk_at dksX16_goalOf_0 8 rfl rfl)
theorem dX16_goalOf_10 : decode cX16_goalOf 10 = .ok (.iconst 3, 1) := dk_6 (dk_at dksX16_goalOf_0 10 rfl rfl)
theorem dX16_goalOf_11 : decode cX16_goalOf 11 = .ok (.if_icmp .ge 42, 3) := dk_162 0 42 (dk_at dksX16_goalOf_0 11 rfl rfl)
theorem dX16_goalOf_14 : decode cX16_goalOf 14 = .ok (.bipush 101, 2) := dk_16 101 (dk_at dksX16_goalOf_0 14 rfl rfl)
theorem dX16_goalOf_16 : decode cX16_goalOf 16 = .ok (.iload_n 3, 1) := dk_29 (dk_at dksX16_goalOf_0 16 rfl rfl)
theorem dX16_goalOf_17 : decode cX16_goalOf 17 = .ok (.imul, 1) := dk_104 (dk_at dksX16_goalOf_0 17 rfl rfl)
theorem dX16_goalOf_18 : decode cX16_goalOf 18 = .ok (.iload 4, 2) := dk_21 4 (dk_at dksX16_goalOf_0 18 rfl rfl)
theorem dX16_goalOf_20 : decode cX16_goalOf 20 = .ok (.aload_n 1, 1) := dk_43 (dk_at dksX16_goalOf_0 20 rfl rfl)
theorem dX16_goalOf_21 : decode cX16_goalOf 21 = .ok (.getfield 9, 3) := dk_180 0 9 (dk_at dksX16_goalOf_0 21 rfl rfl)
theorem dX16_goalOf_24 : decode cX16_goalOf 24 = .ok (.arraylength, 1) := dk_190 (dk_at dksX16_goalOf_1 0 rfl rfl)
theorem dX16_goalOf_25 : decode cX16_goalOf 25 = .ok (.if_icmp .ge 19, 3) := dk_162 0 19 (dk_at dksX16_goalOf_1 1 rfl rfl)
theorem dX16_goalOf_28 : decode cX16_goalOf 28 = .ok (.iconst 1, 1) := dk_4 (dk_at dksX16_goalOf_1 4 rfl rfl)
theorem dX16_goalOf_29 : decode cX16_goalOf 29 = .ok (.aload_n 1, 1) := dk_43 (dk_at dksX16_goalOf_1 5 rfl rfl)
theorem dX16_goalOf_30 : decode cX16_goalOf 30 = .ok (.getfield 9, 3) := dk_180 0 9 (dk_at dksX16_goalOf_1 6 rfl rfl)
theorem dX16_goalOf_33 : decode cX16_goalOf 33 = .ok (.iload 4, 2) := dk_21 4 (dk_at dksX16_goalOf_1 9 rfl rfl)
theorem dX16_goalOf_35 : decode cX16_goalOf 35 = .ok (.iaload, 1) := dk_46 (dk_at dksX16_goalOf_1 11 rfl rfl)
theorem dX16_goalOf_36 : decode cX16_goalOf 36 = .ok (.aload_n 2, 1) := dk_44 (dk_at dksX16_goalOf_1 12 rfl rfl)
theorem dX16_goalOf_37 : decode cX16_goalOf 37 = .ok (.invokestatic 13, 3) := dk_184 0 13 (dk_at dksX16_goalOf_1 13 rfl rfl)
theorem dX16_goalOf_40 : decode cX16_goalOf 40 = .ok (.iadd, 1) := dk_96 (dk_at dksX16_goalOf_1 16 rfl rfl)
theorem dX16_goalOf_41 : decode cX16_goalOf 41 = .ok (.goto 4, 3) := dk_167 0 4 (dk_at dksX16_goalOf_1 17 rfl rfl)
theorem dX16_goalOf_44 : decode cX16_goalOf 44 = .ok (.iconst 0, 1) := dk_3 (dk_at dksX16_goalOf_1 20 rfl rfl)
theorem dX16_goalOf_45 : decode cX16_goalOf 45 = .ok (.iadd, 1) := dk_96 (dk_at dksX16_goalOf_1 21 rfl rfl)
theorem dX16_goalOf_46 : decode cX16_goalOf 46 = .ok (.istore_n 3, 1) := dk_62 (dk_at dksX16_goalOf_1 22 rfl rfl)
theorem dX16_goalOf_47 : decode cX16_goalOf 47 = .ok (.iinc 4 1, 3) := dk_132 4 1 (dk_at dksX16_goalOf_2 0 rfl rfl)
theorem dX16_goalOf_50 : decode cX16_goalOf 50 = .ok (.goto (-42), 3) := dk_167 255 214 (dk_at dksX16_goalOf_2 3 rfl rfl)
theorem dX16_goalOf_53 : decode cX16_goalOf 53 = .ok (.iload_n 3, 1) := dk_29 (dk_at dksX16_goalOf_2 6 rfl rfl)
theorem dX16_goalOf_54 : decode cX16_goalOf 54 = .ok (.ireturn, 1) := dk_172 (dk_at dksX16_goalOf_2 7 rfl rfl)
abbrev cX16_setUp : ByteArray := prog_9_method_2_code
def yX16_setUp : MethodName := ⟨RX16, "setUp", "(I)V"⟩
def dkwX16_setUp_3 : List UInt8 := [181, 0, 17, 177]
abbrev dktX16_setUp_3 : List UInt8 := dkwX16_setUp_3 ++ []
def dkwX16_setUp_2 : List UInt8 := [167, 255, 227, 28, 154, 0, 23, 42, 180, 0, 22, 42, 180, 0, 17, 27, 79, 42, 89, 180, 0, 17, 4, 96]
abbrev dktX16_setUp_2 : List UInt8 := dkwX16_setUp_2 ++ dktX16_setUp_3
def dkwX16_setUp_1 : List UInt8 := [162, 0, 27, 28, 42, 180, 0, 22, 29, 46, 27, 160, 0, 7, 4, 167, 0, 4, 3, 128, 61, 132, 3, 1]
abbrev dktX16_setUp_1 : List UInt8 := dkwX16_setUp_1 ++ dktX16_setUp_2
def dkwX16_setUp_0 : List UInt8 := [42, 180, 0, 17, 17, 0, 200, 160, 0, 7, 4, 167, 0, 4, 3, 61, 3, 62, 29, 42, 180, 0, 17]
abbrev dktX16_setUp_0 : List UInt8 := dkwX16_setUp_0 ++ dktX16_setUp_1
theorem dksX16_setUp_0 : cX16_setUp.data.toList.drop 0 = dktX16_setUp_0 := by decide +kernel
theorem dksX16_setUp_1 : cX16_setUp.data.toList.drop 23 = dktX16_setUp_1 := dk_seg dksX16_setUp_0 23 rfl rfl
theorem dksX16_setUp_2 : cX16_setUp.data.toList.drop 47 = dktX16_setUp_2 := dk_seg dksX16_setUp_1 24 rfl rfl
theorem dksX16_setUp_3 : cX16_setUp.data.toList.drop 71 = dktX16_setUp_3 := dk_seg dksX16_setUp_2 24 rfl rfl
theorem dX16_setUp_0 : decode cX16_setUp 0 = .ok (.aload_n 0, 1) := dk_42 (dk_at dksX16_setUp_0 0 rfl rfl)
theorem dX16_setUp_1 : decode cX16_setUp 1 = .ok (.getfield 17, 3) := dk_180 0 17 (dk_at dksX16_setUp_0 1 rfl rfl)
theorem dX16_setUp_4 : decode cX16_setUp 4 = .ok (.sipush 200, 3) := dk_17 0 200 (dk_at dksX16_setUp_0 4 rfl rfl)
theorem dX16_setUp_7 : decode cX16_setUp 7 = .ok (.if_icmp .ne 7, 3) := dk_160 0 7 (dk_at dksX16_setUp_0 7 rfl rfl)
theorem dX16_setUp_10 : decode cX16_setUp 10 = .ok (.iconst 1, 1) := dk_4 (dk_at dksX16_setUp_0 10 rfl rfl)
theorem dX16_setUp_11 : decode cX16_setUp 11 = .ok (.goto 4, 3) := dk_167 0 4 (dk_at dksX16_setUp_0 11 rfl rfl)
theorem dX16_setUp_14 : decode cX16_setUp 14 = .ok (.iconst 0, 1) := dk_3 (dk_at dksX16_setUp_0 14 rfl rfl)
theorem dX16_setUp_15 : decode cX16_setUp 15 = .ok (.istore_n 2, 1) := dk_61 (dk_at dksX16_setUp_0 15 rfl rfl)
theorem dX16_setUp_16 : decode cX16_setUp 16 = .ok (.iconst 0, 1) := dk_3 (dk_at dksX16_setUp_0 16 rfl rfl)
theorem dX16_setUp_17 : decode cX16_setUp 17 = .ok (.istore_n 3, 1) := dk_62 (dk_at dksX16_setUp_0 17 rfl rfl)
theorem dX16_setUp_18 : decode cX16_setUp 18 = .ok (.iload_n 3, 1) := dk_29 (dk_at dksX16_setUp_0 18 rfl rfl)
theorem dX16_setUp_19 : decode cX16_setUp 19 = .ok (.aload_n 0, 1) := dk_42 (dk_at dksX16_setUp_0 19 rfl rfl)
theorem dX16_setUp_20 : decode cX16_setUp 20 = .ok (.getfield 17, 3) := dk_180 0 17 (dk_at dksX16_setUp_0 20 rfl rfl)
theorem dX16_setUp_23 : decode cX16_setUp 23 = .ok (.if_icmp .ge 27, 3) := dk_162 0 27 (dk_at dksX16_setUp_1 0 rfl rfl)
theorem dX16_setUp_26 : decode cX16_setUp 26 = .ok (.iload_n 2, 1) := dk_28 (dk_at dksX16_setUp_1 3 rfl rfl)
theorem dX16_setUp_27 : decode cX16_setUp 27 = .ok (.aload_n 0, 1) := dk_42 (dk_at dksX16_setUp_1 4 rfl rfl)
theorem dX16_setUp_28 : decode cX16_setUp 28 = .ok (.getfield 22, 3) := dk_180 0 22 (dk_at dksX16_setUp_1 5 rfl rfl)
theorem dX16_setUp_31 : decode cX16_setUp 31 = .ok (.iload_n 3, 1) := dk_29 (dk_at dksX16_setUp_1 8 rfl rfl)
theorem dX16_setUp_32 : decode cX16_setUp 32 = .ok (.iaload, 1) := dk_46 (dk_at dksX16_setUp_1 9 rfl rfl)
theorem dX16_setUp_33 : decode cX16_setUp 33 = .ok (.iload_n 1, 1) := dk_27 (dk_at dksX16_setUp_1 10 rfl rfl)
theorem dX16_setUp_34 : decode cX16_setUp 34 = .ok (.if_icmp .ne 7, 3) := dk_160 0 7 (dk_at dksX16_setUp_1 11 rfl rfl)
theorem dX16_setUp_37 : decode cX16_setUp 37 = .ok (.iconst 1, 1) := dk_4 (dk_at dksX16_setUp_1 14 rfl rfl)
theorem dX16_setUp_38 : decode cX16_setUp 38 = .ok (.goto 4, 3) := dk_167 0 4 (dk_at dksX16_setUp_1 15 rfl rfl)
theorem dX16_setUp_41 : decode cX16_setUp 41 = .ok (.iconst 0, 1) := dk_3 (dk_at dksX16_setUp_1 18 rfl rfl)
theorem dX16_setUp_42 : decode cX16_setUp 42 = .ok (.ior, 1) := dk_128 (dk_at dksX16_setUp_1 19 rfl rfl)
theorem dX16_setUp_43 : decode cX16_setUp 43 = .ok (.istore_n 2, 1) := dk_61 (dk_at dksX16_setUp_1 20 rfl rfl)
theorem dX16_setUp_44 : decode cX16_setUp 44 = .ok (.iinc 3 1, 3) := dk_132 3 1 (dk_at dksX16_setUp_1 21 rfl rfl)
theorem dX16_setUp_47 : decode cX16_setUp 47 = .ok (.goto (-29), 3) := dk_167 255 227 (dk_at dksX16_setUp_2 0 rfl rfl)
theorem dX16_setUp_50 : decode cX16_setUp 50 = .ok (.iload_n 2, 1) := dk_28 (dk_at dksX16_setUp_2 3 rfl rfl)
theorem dX16_setUp_51 : decode cX16_setUp 51 = .ok (.ifCond .ne 23, 3) := dk_154 0 23 (dk_at dksX16_setUp_2 4 rfl rfl)
theorem dX16_setUp_54 : decode cX16_setUp 54 = .ok (.aload_n 0, 1) := dk_42 (dk_at dksX16_setUp_2 7 rfl rfl)
theorem dX16_setUp_55 : decode cX16_setUp 55 = .ok (.getfield 22, 3) := dk_180 0 22 (dk_at dksX16_setUp_2 8 rfl rfl)
theorem dX16_setUp_58 : decode cX16_setUp 58 = .ok (.aload_n 0, 1) := dk_42 (dk_at dksX16_setUp_2 11 rfl rfl)
theorem dX16_setUp_59 : decode cX16_setUp 59 = .ok (.getfield 17, 3) := dk_180 0 17 (dk_at dksX16_setUp_2 12 rfl rfl)
theorem dX16_setUp_62 : decode cX16_setUp 62 = .ok (.iload_n 1, 1) := dk_27 (dk_at dksX16_setUp_2 15 rfl rfl)
theorem dX16_setUp_63 : decode cX16_setUp 63 = .ok (.iastore, 1) := dk_79 (dk_at dksX16_setUp_2 16 rfl rfl)
theorem dX16_setUp_64 : decode cX16_setUp 64 = .ok (.aload_n 0, 1) := dk_42 (dk_at dksX16_setUp_2 17 rfl rfl)
theorem dX16_setUp_65 : decode cX16_setUp 65 = .ok (.dup, 1) := dk_89 (dk_at dksX16_setUp_2 18 rfl rfl)
theorem dX16_setUp_66 : decode cX16_setUp 66 = .ok (.getfield 17, 3) := dk_180 0 17 (dk_at dksX16_setUp_2 19 rfl rfl)
theorem dX16_setUp_69 : decode cX16_setUp 69 = .ok (.iconst 1, 1) := dk_4 (dk_at dksX16_setUp_2 22 rfl rfl)
theorem dX16_setUp_70 : decode cX16_setUp 70 = .ok (.iadd, 1) := dk_96 (dk_at dksX16_setUp_2 23 rfl rfl)
theorem dX16_setUp_71 : decode cX16_setUp 71 = .ok (.putfield 17, 3) := dk_181 0 17 (dk_at dksX16_setUp_3 0 rfl rfl)
theorem dX16_setUp_74 : decode cX16_setUp 74 = .ok (.return_, 1) := dk_177 (dk_at dksX16_setUp_3 3 rfl rfl)
abbrev cX16_count : ByteArray := prog_9_method_6_code
def yX16_count : MethodName := ⟨RX16, "count", "(I)I"⟩
def dkwX16_count_2 : List UInt8 := [132, 3, 1, 167, 255, 225, 132, 2, 1, 167, 255, 209, 42, 180, 0, 17, 172]
abbrev dktX16_count_2 : List UInt8 := dkwX16_count_2 ++ []
def dkwX16_count_1 : List UInt8 := [180, 0, 64, 180, 0, 68, 182, 0, 73, 162, 0, 20, 42, 29, 42, 180, 0, 22, 28, 46, 182, 0, 119]
abbrev dktX16_count_1 : List UInt8 := dkwX16_count_1 ++ dktX16_count_2
def dkwX16_count_0 : List UInt8 := [42, 27, 182, 0, 116, 3, 61, 28, 42, 180, 0, 17, 162, 0, 45, 3, 62, 29, 42, 180, 0, 38]
abbrev dktX16_count_0 : List UInt8 := dkwX16_count_0 ++ dktX16_count_1
theorem dksX16_count_0 : cX16_count.data.toList.drop 0 = dktX16_count_0 := by decide +kernel
theorem dksX16_count_1 : cX16_count.data.toList.drop 22 = dktX16_count_1 := dk_seg dksX16_count_0 22 rfl rfl
theorem dksX16_count_2 : cX16_count.data.toList.drop 45 = dktX16_count_2 := dk_seg dksX16_count_1 23 rfl rfl
theorem dX16_count_0 : decode cX16_count 0 = .ok (.aload_n 0, 1) := dk_42 (dk_at dksX16_count_0 0 rfl rfl)
theorem dX16_count_1 : decode cX16_count 1 = .ok (.iload_n 1, 1) := dk_27 (dk_at dksX16_count_0 1 rfl rfl)
theorem dX16_count_2 : decode cX16_count 2 = .ok (.invokevirtual 116, 3) := dk_182 0 116 (dk_at dksX16_count_0 2 rfl rfl)
theorem dX16_count_5 : decode cX16_count 5 = .ok (.iconst 0, 1) := dk_3 (dk_at dksX16_count_0 5 rfl rfl)
theorem dX16_count_6 : decode cX16_count 6 = .ok (.istore_n 2, 1) := dk_61 (dk_at dksX16_count_0 6 rfl rfl)
theorem dX16_count_7 : decode cX16_count 7 = .ok (.iload_n 2, 1) := dk_28 (dk_at dksX16_count_0 7 rfl rfl)
theorem dX16_count_8 : decode cX16_count 8 = .ok (.aload_n 0, 1) := dk_42 (dk_at dksX16_count_0 8 rfl rfl)
theorem dX16_count_9 : decode cX16_count 9 = .ok (.getfield 17, 3) := dk_180 0 17 (dk_at dksX16_count_0 9 rfl rfl)
theorem dX16_count_12 : decode cX16_count 12 = .ok (.if_icmp .ge 45, 3) := dk_162 0 45 (dk_at dksX16_count_0 12 rfl rfl)
theorem dX16_count_15 : decode cX16_count 15 = .ok (.iconst 0, 1) := dk_3 (dk_at dksX16_count_0 15 rfl rfl)
theorem dX16_count_16 : decode cX16_count 16 = .ok (.istore_n 3, 1) := dk_62 (dk_at dksX16_count_0 16 rfl rfl)
theorem dX16_count_17 : decode cX16_count 17 = .ok (.iload_n 3, 1) := dk_29 (dk_at dksX16_count_0 17 rfl rfl)
theorem dX16_count_18 : decode cX16_count 18 = .ok (.aload_n 0, 1) := dk_42 (dk_at dksX16_count_0 18 rfl rfl)
theorem dX16_count_19 : decode cX16_count 19 = .ok (.getfield 38, 3) := dk_180 0 38 (dk_at dksX16_count_0 19 rfl rfl)
theorem dX16_count_22 : decode cX16_count 22 = .ok (.getfield 64, 3) := dk_180 0 64 (dk_at dksX16_count_1 0 rfl rfl)
theorem dX16_count_25 : decode cX16_count 25 = .ok (.getfield 68, 3) := dk_180 0 68 (dk_at dksX16_count_1 3 rfl rfl)
theorem dX16_count_28 : decode cX16_count 28 = .ok (.invokevirtual 73, 3) := dk_182 0 73 (dk_at dksX16_count_1 6 rfl rfl)
theorem dX16_count_31 : decode cX16_count 31 = .ok (.if_icmp .ge 20, 3) := dk_162 0 20 (dk_at dksX16_count_1 9 rfl rfl)
theorem dX16_count_34 : decode cX16_count 34 = .ok (.aload_n 0, 1) := dk_42 (dk_at dksX16_count_1 12 rfl rfl)
theorem dX16_count_35 : decode cX16_count 35 = .ok (.iload_n 3, 1) := dk_29 (dk_at dksX16_count_1 13 rfl rfl)
theorem dX16_count_36 : decode cX16_count 36 = .ok (.aload_n 0, 1) := dk_42 (dk_at dksX16_count_1 14 rfl rfl)
theorem dX16_count_37 : decode cX16_count 37 = .ok (.getfield 22, 3) := dk_180 0 22 (dk_at dksX16_count_1 15 rfl rfl)
theorem dX16_count_40 : decode cX16_count 40 = .ok (.iload_n 2, 1) := dk_28 (dk_at dksX16_count_1 18 rfl rfl)
theorem dX16_count_41 : decode cX16_count 41 = .ok (.iaload, 1) := dk_46 (dk_at dksX16_count_1 19 rfl rfl)
theorem dX16_count_42 : decode cX16_count 42 = .ok (.invokevirtual 119, 3) := dk_182 0 119 (dk_at dksX16_count_1 20 rfl rfl)
theorem dX16_count_45 : decode cX16_count 45 = .ok (.iinc 3 1, 3) := dk_132 3 1 (dk_at dksX16_count_2 0 rfl rfl)
theorem dX16_count_48 : decode cX16_count 48 = .ok (.goto (-31), 3) := dk_167 255 225 (dk_at dksX16_count_2 3 rfl rfl)
theorem dX16_count_51 : decode cX16_count 51 = .ok (.iinc 2 1, 3) := dk_132 2 1 (dk_at dksX16_count_2 6 rfl rfl)
theorem dX16_count_54 : decode cX16_count 54 = .ok (.goto (-47), 3) := dk_167 255 209 (dk_at dksX16_count_2 9 rfl rfl)
theorem dX16_count_57 : decode cX16_count 57 = .ok (.aload_n 0, 1) := dk_42 (dk_at dksX16_count_2 12 rfl rfl)
theorem dX16_count_58 : decode cX16_count 58 = .ok (.getfield 17, 3) := dk_180 0 17 (dk_at dksX16_count_2 13 rfl rfl)
theorem dX16_count_61 : decode cX16_count 61 = .ok (.ireturn, 1) := dk_172 (dk_at dksX16_count_2 16 rfl rfl)
abbrev cX16_ask : ByteArray := prog_9_method_5_code
def yX16_ask : MethodName := ⟨RX16, "ask", "(II)V"⟩
def dkwX16_ask_3 : List UInt8 := [87, 132, 3, 1, 167, 255, 213, 42, 180, 0, 52, 184, 0, 112, 177]
abbrev dktX16_ask_3 : List UInt8 := dkwX16_ask_3 ++ []
def dkwX16_ask_2 : List UInt8 := [162, 0, 31, 42, 180, 0, 60, 27, 182, 0, 77, 192, 0, 55, 29, 182, 0, 77, 192, 0, 91, 184, 0, 108]
abbrev dktX16_ask_2 : List UInt8 := dkwX16_ask_2 ++ dktX16_ask_3
def dkwX16_ask_1 : List UInt8 := [182, 0, 104, 153, 0, 51, 3, 62, 29, 42, 180, 0, 60, 27, 182, 0, 77, 192, 0, 55, 182, 0, 73]
abbrev dktX16_ask_1 : List UInt8 := dkwX16_ask_1 ++ dktX16_ask_2
def dkwX16_ask_0 : List UInt8 := [42, 42, 180, 0, 38, 180, 0, 64, 180, 0, 68, 27, 182, 0, 77, 192, 0, 26, 28, 42, 180, 0, 52]
abbrev dktX16_ask_0 : List UInt8 := dkwX16_ask_0 ++ dktX16_ask_1
theorem dksX16_ask_0 : cX16_ask.data.toList.drop 0 = dktX16_ask_0 := by decide +kernel
theorem dksX16_ask_1 : cX16_ask.data.toList.drop 23 = dktX16_ask_1 := dk_seg dksX16_ask_0 23 rfl rfl
theorem dksX16_ask_2 : cX16_ask.data.toList.drop 46 = dktX16_ask_2 := dk_seg dksX16_ask_1 23 rfl rfl
theorem dksX16_ask_3 : cX16_ask.data.toList.drop 70 = dktX16_ask_3 := dk_seg dksX16_ask_2 24 rfl rfl
theorem dX16_ask_0 : decode cX16_ask 0 = .ok (.aload_n 0, 1) := dk_42 (dk_at dksX16_ask_0 0 rfl rfl)
theorem dX16_ask_1 : decode cX16_ask 1 = .ok (.aload_n 0, 1) := dk_42 (dk_at dksX16_ask_0 1 rfl rfl)
theorem dX16_ask_2 : decode cX16_ask 2 = .ok (.getfield 38, 3) := dk_180 0 38 (dk_at dksX16_ask_0 2 rfl rfl)
theorem dX16_ask_5 : decode cX16_ask 5 = .ok (.getfield 64, 3) := dk_180 0 64 (dk_at dksX16_ask_0 5 rfl rfl)
theorem dX16_ask_8 : decode cX16_ask 8 = .ok (.getfield 68, 3) := dk_180 0 68 (dk_at dksX16_ask_0 8 rfl rfl)
theorem dX16_ask_11 : decode cX16_ask 11 = .ok (.iload_n 1, 1) := dk_27 (dk_at dksX16_ask_0 11 rfl rfl)
theorem dX16_ask_12 : decode cX16_ask 12 = .ok (.invokevirtual 77, 3) := dk_182 0 77 (dk_at dksX16_ask_0 12 rfl rfl)
theorem dX16_ask_15 : decode cX16_ask 15 = .ok (.checkcast 26, 3) := dk_192 0 26 (dk_at dksX16_ask_0 15 rfl rfl)
theorem dX16_ask_18 : decode cX16_ask 18 = .ok (.iload_n 2, 1) := dk_28 (dk_at dksX16_ask_0 18 rfl rfl)
theorem dX16_ask_19 : decode cX16_ask 19 = .ok (.aload_n 0, 1) := dk_42 (dk_at dksX16_ask_0 19 rfl rfl)
theorem dX16_ask_20 : decode cX16_ask 20 = .ok (.getfield 52, 3) := dk_180 0 52 (dk_at dksX16_ask_0 20 rfl rfl)
theorem dX16_ask_23 : decode cX16_ask 23 = .ok (.invokevirtual 104, 3) := dk_182 0 104 (dk_at dksX16_ask_1 0 rfl rfl)
theorem dX16_ask_26 : decode cX16_ask 26 = .ok (.ifCond .eq 51, 3) := dk_153 0 51 (dk_at dksX16_ask_1 3 rfl rfl)
theorem dX16_ask_29 : decode cX16_ask 29 = .ok (.iconst 0, 1) := dk_3 (dk_at dksX16_ask_1 6 rfl rfl)
theorem dX16_ask_30 : decode cX16_ask 30 = .ok (.istore_n 3, 1) := dk_62 (dk_at dksX16_ask_1 7 rfl rfl)
theorem dX16_ask_31 : decode cX16_ask 31 = .ok (.iload_n 3, 1) := dk_29 (dk_at dksX16_ask_1 8 rfl rfl)
theorem dX16_ask_32 : decode cX16_ask 32 = .ok (.aload_n 0, 1) := dk_42 (dk_at dksX16_ask_1 9 rfl rfl)
theorem dX16_ask_33 : decode cX16_ask 33 = .ok (.getfield 60, 3) := dk_180 0 60 (dk_at dksX16_ask_1 10 rfl rfl)
theorem dX16_ask_36 : decode cX16_ask 36 = .ok (.iload_n 1, 1) := dk_27 (dk_at dksX16_ask_1 13 rfl rfl)
theorem dX16_ask_37 : decode cX16_ask 37 = .ok (.invokevirtual 77, 3) := dk_182 0 77 (dk_at dksX16_ask_1 14 rfl rfl)
theorem dX16_ask_40 : decode cX16_ask 40 = .ok (.checkcast 55, 3) := dk_192 0 55 (dk_at dksX16_ask_1 17 rfl rfl)
theorem dX16_ask_43 : decode cX16_ask 43 = .ok (.invokevirtual 73, 3) := dk_182 0 73 (dk_at dksX16_ask_1 20 rfl rfl)
theorem dX16_ask_46 : decode cX16_ask 46 = .ok (.if_icmp .ge 31, 3) := dk_162 0 31 (dk_at dksX16_ask_2 0 rfl rfl)
theorem dX16_ask_49 : decode cX16_ask 49 = .ok (.aload_n 0, 1) := dk_42 (dk_at dksX16_ask_2 3 rfl rfl)
theorem dX16_ask_50 : decode cX16_ask 50 = .ok (.getfield 60, 3) := dk_180 0 60 (dk_at dksX16_ask_2 4 rfl rfl)
theorem dX16_ask_53 : decode cX16_ask 53 = .ok (.iload_n 1, 1) := dk_27 (dk_at dksX16_ask_2 7 rfl rfl)
theorem dX16_ask_54 : decode cX16_ask 54 = .ok (.invokevirtual 77, 3) := dk_182 0 77 (dk_at dksX16_ask_2 8 rfl rfl)
theorem dX16_ask_57 : decode cX16_ask 57 = .ok (.checkcast 55, 3) := dk_192 0 55 (dk_at dksX16_ask_2 11 rfl rfl)
theorem dX16_ask_60 : decode cX16_ask 60 = .ok (.iload_n 3, 1) := dk_29 (dk_at dksX16_ask_2 14 rfl rfl)
theorem dX16_ask_61 : decode cX16_ask 61 = .ok (.invokevirtual 77, 3) := dk_182 0 77 (dk_at dksX16_ask_2 15 rfl rfl)
theorem dX16_ask_64 : decode cX16_ask 64 = .ok (.checkcast 91, 3) := dk_192 0 91 (dk_at dksX16_ask_2 18 rfl rfl)
theorem dX16_ask_67 : decode cX16_ask 67 = .ok (.invokestatic 108, 3) := dk_184 0 108 (dk_at dksX16_ask_2 21 rfl rfl)
theorem dX16_ask_70 : decode cX16_ask 70 = .ok (.pop, 1) := dk_87 (dk_at dksX16_ask_3 0 rfl rfl)
theorem dX16_ask_71 : decode cX16_ask 71 = .ok (.iinc 3 1, 3) := dk_132 3 1 (dk_at dksX16_ask_3 1 rfl rfl)
theorem dX16_ask_74 : decode cX16_ask 74 = .ok (.goto (-43), 3) := dk_167 255 213 (dk_at dksX16_ask_3 4 rfl rfl)
theorem dX16_ask_77 : decode cX16_ask 77 = .ok (.aload_n 0, 1) := dk_42 (dk_at dksX16_ask_3 7 rfl rfl)
theorem dX16_ask_78 : decode cX16_ask 78 = .ok (.getfield 52, 3) := dk_180 0 52 (dk_at dksX16_ask_3 8 rfl rfl)
theorem dX16_ask_81 : decode cX16_ask 81 = .ok (.invokestatic 112, 3) := dk_184 0 112 (dk_at dksX16_ask_3 11 rfl rfl)
theorem dX16_ask_84 : decode cX16_ask 84 = .ok (.return_, 1) := dk_177 (dk_at dksX16_ask_3 14 rfl rfl)
abbrev cX16_binds : ByteArray := prog_9_method_3_code
def yX16_binds : MethodName := ⟨RX16, "binds", "(LRulehearth$Clause;I[I)Z"⟩
def dkwX16_binds_5 : List UInt8 := [21, 5, 172]
abbrev dktX16_binds_5 : List UInt8 := dkwX16_binds_5 ++ []
def dkwX16_binds_4 : List UInt8 := [153, 0, 7, 4, 167, 0, 4, 3, 54, 5, 21, 4, 16, 101, 108, 54, 4, 132, 6, 1, 167, 255, 176]
abbrev dktX16_binds_4 : List UInt8 := dkwX16_binds_4 ++ dktX16_binds_5
def dkwX16_binds_3 : List UInt8 := [180, 0, 31, 159, 0, 22, 43, 180, 0, 25, 180, 0, 9, 21, 6, 46, 21, 7, 45, 184, 0, 34]
abbrev dktX16_binds_3 : List UInt8 := dkwX16_binds_3 ++ dktX16_binds_4
def dkwX16_binds_2 : List UInt8 := [153, 0, 68, 28, 21, 4, 108, 16, 101, 112, 4, 100, 54, 7, 21, 7, 2, 159, 0, 31, 21, 6, 43]
abbrev dktX16_binds_2 : List UInt8 := dkwX16_binds_2 ++ dktX16_binds_3
def dkwX16_binds_1 : List UInt8 := [167, 0, 4, 3, 54, 5, 3, 54, 6, 21, 6, 43, 180, 0, 25, 180, 0, 9, 190, 162, 0, 73, 21, 5]
abbrev dktX16_binds_1 : List UInt8 := dkwX16_binds_1 ++ dktX16_binds_2
def dkwX16_binds_0 : List UInt8 := [17, 39, 217, 54, 4, 28, 21, 4, 16, 101, 104, 108, 43, 180, 0, 25, 180, 0, 3, 160, 0, 7, 4]
abbrev dktX16_binds_0 : List UInt8 := dkwX16_binds_0 ++ dktX16_binds_1
theorem dksX16_binds_0 : cX16_binds.data.toList.drop 0 = dktX16_binds_0 := by decide +kernel
theorem dksX16_binds_1 : cX16_binds.data.toList.drop 23 = dktX16_binds_1 := dk_seg dksX16_binds_0 23 rfl rfl
theorem dksX16_binds_2 : cX16_binds.data.toList.drop 47 = dktX16_binds_2 := dk_seg dksX16_binds_1 24 rfl rfl
theorem dksX16_binds_3 : cX16_binds.data.toList.drop 70 = dktX16_binds_3 := dk_seg dksX16_binds_2 23 rfl rfl
theorem dksX16_binds_4 : cX16_binds.data.toList.drop 92 = dktX16_binds_4 := dk_seg dksX16_binds_3 22 rfl rfl
theorem dksX16_binds_5 : cX16_binds.data.toList.drop 115 = dktX16_binds_5 := dk_seg dksX16_binds_4 23 rfl rfl
theorem dX16_binds_0 : decode cX16_binds 0 = .ok (.sipush 10201, 3) := dk_17 39 217 (dk_at dksX16_binds_0 0 rfl rfl)
theorem dX16_binds_3 : decode cX16_binds 3 = .ok (.istore 4, 2) := dk_54 4 (dk_at dksX16_binds_0 3 rfl rfl)
theorem dX16_binds_5 : decode cX16_binds 5 = .ok (.iload_n 2, 1) := dk_28 (dk_at dksX16_binds_0 5 rfl rfl)
theorem dX16_binds_6 : decode cX16_binds 6 = .ok (.iload 4, 2) := dk_21 4 (dk_at dksX16_binds_0 6 rfl rfl)
theorem dX16_binds_8 : decode cX16_binds 8 = .ok (.bipush 101, 2) := dk_16 101 (dk_at dksX16_binds_0 8 rfl rfl)
theorem dX16_binds_10 : decode cX16_binds 10 = .ok (.imul, 1) := dk_104 (dk_at dksX16_binds_0 10 rfl rfl)
theorem dX16_binds_11 : decode cX16_binds 11 = .ok (.idiv, 1) := dk_108 (dk_at dksX16_binds_0 11 rfl rfl)
theorem dX16_binds_12 : decode cX16_binds 12 = .ok (.aload_n 1, 1) := dk_43 (dk_at dksX16_binds_0 12 rfl rfl)
theorem dX16_binds_13 : decode cX16_binds 13 = .ok (.getfield 25, 3) := dk_180 0 25 (dk_at dksX16_binds_0 13 rfl rfl)
theorem dX16_binds_16 : decode cX16_binds 16 = .ok (.getfield 3, 3) := dk_180 0 3 (dk_at dksX16_binds_0 16 rfl rfl)
theorem dX16_binds_19 : decode cX16_binds 19 = .ok (.if_icmp .ne 7, 3) := dk_160 0 7 (dk_at dksX16_binds_0 19 rfl rfl)
theorem dX16_binds_22 : decode cX16_binds 22 = .ok (.iconst 1, 1) := dk_4 (dk_at dksX16_binds_0 22 rfl rfl)
theorem dX16_binds_23 : decode cX16_binds 23 = .ok (.goto 4, 3) := dk_167 0 4 (dk_at dksX16_binds_1 0 rfl rfl)
theorem dX16_binds_26 : decode cX16_binds 26 = .ok (.iconst 0, 1) := dk_3 (dk_at dksX16_binds_1 3 rfl rfl)
theorem dX16_binds_27 : decode cX16_binds 27 = .ok (.istore 5, 2) := dk_54 5 (dk_at dksX16_binds_1 4 rfl rfl)
theorem dX16_binds_29 : decode cX16_binds 29 = .ok (.iconst 0, 1) := dk_3 (dk_at dksX16_binds_1 6 rfl rfl)
theorem dX16_binds_30 : decode cX16_binds 30 = .ok (.istore 6, 2) := dk_54 6 (dk_at dksX16_binds_1 7 rfl rfl)
theorem dX16_binds_32 : decode cX16_binds 32 = .ok (.iload 6, 2) := dk_21 6 (dk_at dksX16_binds_1 9 rfl rfl)
theorem dX16_binds_34 : decode cX16_binds 34 = .ok (.aload_n 1, 1) := dk_43 (dk_at dksX16_binds_1 11 rfl rfl)
theorem dX16_binds_35 : decode cX16_binds 35 = .ok (.getfield 25, 3) := dk_180 0 25 (dk_at dksX16_binds_1 12 rfl rfl)
theorem dX16_binds_38 : decode cX16_binds 38 = .ok (.getfield 9, 3) := dk_180 0 9 (dk_at dksX16_binds_1 15 rfl rfl)
theorem dX16_binds_41 : decode cX16_binds 41 = .ok (.arraylength, 1) := dk_190 (dk_at dksX16_binds_1 18 rfl rfl)
theorem dX16_binds_42 : decode cX16_binds 42 = .ok (.if_icmp .ge 73, 3) := dk_162 0 73 (dk_at dksX16_binds_1 19 rfl rfl)
theorem dX16_binds_45 : decode cX16_binds 45 = .ok (.iload 5, 2) := dk_21 5 (dk_at dksX16_binds_1 22 rfl rfl)
theorem dX16_binds_47 : decode cX16_binds 47 = .ok (.ifCond .eq 68, 3) := dk_153 0 68 (dk_at dksX16_binds_2 0 rfl rfl)
theorem dX16_binds_50 : decode cX16_binds 50 = .ok (.iload_n 2, 1) := dk_28 (dk_at dksX16_binds_2 3 rfl rfl)
theorem dX16_binds_51 : decode cX16_binds 51 = .ok (.iload 4, 2) := dk_21 4 (dk_at dksX16_binds_2 4 rfl rfl)
theorem dX16_binds_53 : decode cX16_binds 53 = .ok (.idiv, 1) := dk_108 (dk_at dksX16_binds_2 6 rfl rfl)
theorem dX16_binds_54 : decode cX16_binds 54 = .ok (.bipush 101, 2) := dk_16 101 (dk_at dksX16_binds_2 7 rfl rfl)
theorem dX16_binds_56 : decode cX16_binds 56 = .ok (.irem, 1) := dk_112 (dk_at dksX16_binds_2 9 rfl rfl)
theorem dX16_binds_57 : decode cX16_binds 57 = .ok (.iconst 1, 1) := dk_4 (dk_at dksX16_binds_2 10 rfl rfl)
theorem dX16_binds_58 : decode cX16_binds 58 = .ok (.isub, 1) := dk_100 (dk_at dksX16_binds_2 11 rfl rfl)
theorem dX16_binds_59 : decode cX16_binds 59 = .ok (.istore 7, 2) := dk_54 7 (dk_at dksX16_binds_2 12 rfl rfl)
theorem dX16_binds_61 : decode cX16_binds 61 = .ok (.iload 7, 2) := dk_21 7 (dk_at dksX16_binds_2 14 rfl rfl)
theorem dX16_binds_63 : decode cX16_binds 63 = .ok (.iconst (-1), 1) := dk_2 (dk_at dksX16_binds_2 16 rfl rfl)
theorem dX16_binds_64 : decode cX16_binds 64 = .ok (.if_icmp .eq 31, 3) := dk_159 0 31 (dk_at dksX16_binds_2 17 rfl rfl)
theorem dX16_binds_67 : decode cX16_binds 67 = .ok (.iload 6, 2) := dk_21 6 (dk_at dksX16_binds_2 20 rfl rfl)
theorem dX16_binds_69 : decode cX16_binds 69 = .ok (.aload_n 1, 1) := dk_43 (dk_at dksX16_binds_2 22 rfl rfl)
theorem dX16_binds_70 : decode cX16_binds 70 = .ok (.getfield 31, 3) := dk_180 0 31 (dk_at dksX16_binds_3 0 rfl rfl)
theorem dX16_binds_73 : decode cX16_binds 73 = .ok (.if_icmp .eq 22, 3) := dk_159 0 22 (dk_at dksX16_binds_3 3 rfl rfl)
theorem dX16_binds_76 : decode cX16_binds 76 = .ok (.aload_n 1, 1) := dk_43 (dk_at dksX16_binds_3 6 rfl rfl)
theorem dX16_binds_77 : decode cX16_binds 77 = .ok (.getfield 25, 3) := dk_180 0 25 (dk_at dksX16_binds_3 7 rfl rfl)
theorem dX16_binds_80 : decode cX16_binds 80 = .ok (.getfield 9, 3) := dk_180 0 9 (dk_at dksX16_binds_3 10 rfl rfl)
theorem dX16_binds_83 : decode cX16_binds 83 = .ok (.iload 6, 2) := dk_21 6 (dk_at dksX16_binds_3 13 rfl rfl)
theorem dX16_binds_85 : decode cX16_binds 85 = .ok (.iaload, 1) := dk_46 (dk_at dksX16_binds_3 15 rfl rfl)
theorem dX16_binds_86 : decode cX16_binds 86 = .ok (.iload 7, 2) := dk_21 7 (dk_at dksX16_binds_3 16 rfl rfl)
theorem dX16_binds_88 : decode cX16_binds 88 = .ok (.aload_n 3, 1) := dk_45 (dk_at dksX16_binds_3 18 rfl rfl)
theorem dX16_binds_89 : decode cX16_binds 89 = .ok (.invokestatic 34, 3) := dk_184 0 34 (dk_at dksX16_binds_3 19 rfl rfl)
theorem dX16_binds_92 : decode cX16_binds 92 = .ok (.ifCond .eq 7, 3) := dk_153 0 7 (dk_at dksX16_binds_4 0 rfl rfl)
theorem dX16_binds_95 : decode cX16_binds 95 = .ok (.iconst 1, 1) := dk_4 (dk_at dksX16_binds_4 3 rfl rfl)
theorem dX16_binds_96 : decode cX16_binds 96 = .ok (.goto 4, 3) := dk_167 0 4 (dk_at dksX16_binds_4 4 rfl rfl)
theorem dX16_binds_99 : decode cX16_binds 99 = .ok (.iconst 0, 1) := dk_3 (dk_at dksX16_binds_4 7 rfl rfl)
theorem dX16_binds_100 : decode cX16_binds 100 = .ok (.istore 5, 2) := dk_54 5 (dk_at dksX16_binds_4 8 rfl rfl)
theorem dX16_binds_102 : decode cX16_binds 102 = .ok (.iload 4, 2) := dk_21 4 (dk_at dksX16_binds_4 10 rfl rfl)
theorem dX16_binds_104 : decode cX16_binds 104 = .ok (.bipush 101, 2) := dk_16 101 (dk_at dksX16_binds_4 12 rfl rfl)
theorem dX16_binds_106 : decode cX16_binds 106 = .ok (.idiv, 1) := dk_108 (dk_at dksX16_binds_4 14 rfl rfl)
theorem dX16_binds_107 : decode cX16_binds 107 = .ok (.istore 4, 2) := dk_54 4 (dk_at dksX16_binds_4 15 rfl rfl)
theorem dX16_binds_109 : decode cX16_binds 109 = .ok (.iinc 6 1, 3) := dk_132 6 1 (dk_at dksX16_binds_4 17 rfl rfl)
theorem dX16_binds_112 : decode cX16_binds 112 = .ok (.goto (-80), 3) := dk_167 255 176 (dk_at dksX16_binds_4 20 rfl rfl)
theorem dX16_binds_115 : decode cX16_binds 115 = .ok (.iload 5, 2) := dk_21 5 (dk_at dksX16_binds_5 0 rfl rfl)
theorem dX16_binds_117 : decode cX16_binds 117 = .ok (.ireturn, 1) := dk_172 (dk_at dksX16_binds_5 2 rfl rfl)

abbrev cX17_init : ByteArray := prog_2_method_1_code
def yX17_init : MethodName := ⟨RX17, "<init>", "(LRulehearth$World;I)V"⟩
def dkwX17_init_0 : List UInt8 := [42, 183, 0, 3, 42, 6, 188, 10, 181, 0, 9, 42, 43, 181, 0, 15, 42, 28, 181, 0, 19, 177]
abbrev dktX17_init_0 : List UInt8 := dkwX17_init_0 ++ []
theorem dksX17_init_0 : cX17_init.data.toList.drop 0 = dktX17_init_0 := by decide +kernel
theorem dX17_init_0 : decode cX17_init 0 = .ok (.aload_n 0, 1) := dk_42 (dk_at dksX17_init_0 0 rfl rfl)
theorem dX17_init_1 : decode cX17_init 1 = .ok (.invokespecial 3, 3) := dk_183 0 3 (dk_at dksX17_init_0 1 rfl rfl)
theorem dX17_init_4 : decode cX17_init 4 = .ok (.aload_n 0, 1) := dk_42 (dk_at dksX17_init_0 4 rfl rfl)
theorem dX17_init_5 : decode cX17_init 5 = .ok (.iconst 3, 1) := dk_6 (dk_at dksX17_init_0 5 rfl rfl)
theorem dX17_init_6 : decode cX17_init 6 = .ok (.newarray .int, 2) := dk_188_10 (dk_at dksX17_init_0 6 rfl rfl)
theorem dX17_init_8 : decode cX17_init 8 = .ok (.putfield 9, 3) := dk_181 0 9 (dk_at dksX17_init_0 8 rfl rfl)
theorem dX17_init_11 : decode cX17_init 11 = .ok (.aload_n 0, 1) := dk_42 (dk_at dksX17_init_0 11 rfl rfl)
theorem dX17_init_12 : decode cX17_init 12 = .ok (.aload_n 1, 1) := dk_43 (dk_at dksX17_init_0 12 rfl rfl)
theorem dX17_init_13 : decode cX17_init 13 = .ok (.putfield 15, 3) := dk_181 0 15 (dk_at dksX17_init_0 13 rfl rfl)
theorem dX17_init_16 : decode cX17_init 16 = .ok (.aload_n 0, 1) := dk_42 (dk_at dksX17_init_0 16 rfl rfl)
theorem dX17_init_17 : decode cX17_init 17 = .ok (.iload_n 2, 1) := dk_28 (dk_at dksX17_init_0 17 rfl rfl)
theorem dX17_init_18 : decode cX17_init 18 = .ok (.putfield 19, 3) := dk_181 0 19 (dk_at dksX17_init_0 18 rfl rfl)
theorem dX17_init_21 : decode cX17_init 21 = .ok (.return_, 1) := dk_177 (dk_at dksX17_init_0 21 rfl rfl)
abbrev cX17_look : ByteArray := prog_2_method_2_code
def yX17_look : MethodName := ⟨RX17, "look", "()LRulehearth$Agenda;"⟩
def dkwX17_look_4 : List UInt8 := [176]
abbrev dktX17_look_4 : List UInt8 := dkwX17_look_4 ++ []
def dkwX17_look_3 : List UInt8 := [180, 0, 15, 180, 0, 51, 184, 0, 55, 42, 183, 0, 59, 184, 0, 62, 87, 132, 1, 1, 167, 255, 168, 42]
abbrev dktX17_look_3 : List UInt8 := dkwX17_look_3 ++ dktX17_look_4
def dkwX17_look_2 : List UInt8 := [187, 0, 46, 89, 42, 180, 0, 41, 180, 0, 48, 42, 180, 0, 41, 180, 0, 48, 182, 0, 29, 42]
abbrev dktX17_look_2 : List UInt8 := dkwX17_look_2 ++ dktX17_look_3
def dkwX17_look_1 : List UInt8 := [27, 182, 0, 35, 192, 0, 39, 181, 0, 41, 42, 180, 0, 41, 180, 0, 45, 42, 180, 0, 19, 160, 0, 42]
abbrev dktX17_look_1 : List UInt8 := dkwX17_look_1 ++ dktX17_look_2
def dkwX17_look_0 : List UInt8 := [3, 60, 27, 42, 180, 0, 15, 180, 0, 23, 182, 0, 29, 162, 0, 80, 42, 42, 180, 0, 15, 180, 0, 23]
abbrev dktX17_look_0 : List UInt8 := dkwX17_look_0 ++ dktX17_look_1
theorem dksX17_look_0 : cX17_look.data.toList.drop 0 = dktX17_look_0 := by decide +kernel
theorem dksX17_look_1 : cX17_look.data.toList.drop 24 = dktX17_look_1 := dk_seg dksX17_look_0 24 rfl rfl
theorem dksX17_look_2 : cX17_look.data.toList.drop 48 = dktX17_look_2 := dk_seg dksX17_look_1 24 rfl rfl
theorem dksX17_look_3 : cX17_look.data.toList.drop 70 = dktX17_look_3 := dk_seg dksX17_look_2 22 rfl rfl
theorem dksX17_look_4 : cX17_look.data.toList.drop 94 = dktX17_look_4 := dk_seg dksX17_look_3 24 rfl rfl
theorem dX17_look_0 : decode cX17_look 0 = .ok (.iconst 0, 1) := dk_3 (dk_at dksX17_look_0 0 rfl rfl)
theorem dX17_look_1 : decode cX17_look 1 = .ok (.istore_n 1, 1) := dk_60 (dk_at dksX17_look_0 1 rfl rfl)
theorem dX17_look_2 : decode cX17_look 2 = .ok (.iload_n 1, 1) := dk_27 (dk_at dksX17_look_0 2 rfl rfl)
theorem dX17_look_3 : decode cX17_look 3 = .ok (.aload_n 0, 1) := dk_42 (dk_at dksX17_look_0 3 rfl rfl)
theorem dX17_look_4 : decode cX17_look 4 = .ok (.getfield 15, 3) := dk_180 0 15 (dk_at dksX17_look_0 4 rfl rfl)
theorem dX17_look_7 : decode cX17_look 7 = .ok (.getfield 23, 3) := dk_180 0 23 (dk_at dksX17_look_0 7 rfl rfl)
theorem dX17_look_10 : decode cX17_look 10 = .ok (.invokevirtual 29, 3) := dk_182 0 29 (dk_at dksX17_look_0 10 rfl rfl)
theorem dX17_look_13 : decode cX17_look 13 = .ok (.if_icmp .ge 80, 3) := dk_162 0 80 (dk_at dksX17_look_0 13 rfl rfl)
theorem dX17_look_16 : decode cX17_look 16 = .ok (.aload_n 0, 1) := dk_42 (dk_at dksX17_look_0 16 rfl rfl)
theorem dX17_look_17 : decode cX17_look 17 = .ok (.aload_n 0, 1) := dk_42 (dk_at dksX17_look_0 17 rfl rfl)
theorem dX17_look_18 : decode cX17_look 18 = .ok (.getfield 15, 3) := dk_180 0 15 (dk_at dksX17_look_0 18 rfl rfl)
theorem dX17_look_21 : decode cX17_look 21 = .ok (.getfield 23, 3) := dk_180 0 23 (dk_at dksX17_look_0 21 rfl rfl)
theorem dX17_look_24 : decode cX17_look 24 = .ok (.iload_n 1, 1) := dk_27 (dk_at dksX17_look_1 0 rfl rfl)
theorem dX17_look_25 : decode cX17_look 25 = .ok (.invokevirtual 35, 3) := dk_182 0 35 (dk_at dksX17_look_1 1 rfl rfl)
theorem dX17_look_28 : decode cX17_look 28 = .ok (.checkcast 39, 3) := dk_192 0 39 (dk_at dksX17_look_1 4 rfl rfl)
theorem dX17_look_31 : decode cX17_look 31 = .ok (.putfield 41, 3) := dk_181 0 41 (dk_at dksX17_look_1 7 rfl rfl)
theorem dX17_look_34 : decode cX17_look 34 = .ok (.aload_n 0, 1) := dk_42 (dk_at dksX17_look_1 10 rfl rfl)
theorem dX17_look_35 : decode cX17_look 35 = .ok (.getfield 41, 3) := dk_180 0 41 (dk_at dksX17_look_1 11 rfl rfl)
theorem dX17_look_38 : decode cX17_look 38 = .ok (.getfield 45, 3) := dk_180 0 45 (dk_at dksX17_look_1 14 rfl rfl)
theorem dX17_look_41 : decode cX17_look 41 = .ok (.aload_n 0, 1) := dk_42 (dk_at dksX17_look_1 17 rfl rfl)
theorem dX17_look_42 : decode cX17_look 42 = .ok (.getfield 19, 3) := dk_180 0 19 (dk_at dksX17_look_1 18 rfl rfl)
theorem dX17_look_45 : decode cX17_look 45 = .ok (.if_icmp .ne 42, 3) := dk_160 0 42 (dk_at dksX17_look_1 21 rfl rfl)
theorem dX17_look_48 : decode cX17_look 48 = .ok (.new 46, 3) := dk_187 0 46 (dk_at dksX17_look_2 0 rfl rfl)
theorem dX17_look_51 : decode cX17_look 51 = .ok (.dup, 1) := dk_89 (dk_at dksX17_look_2 3 rfl rfl)
theorem dX17_look_52 : decode cX17_look 52 = .ok (.aload_n 0, 1) := dk_42 (dk_at dksX17_look_2 4 rfl rfl)
theorem dX17_look_53 : decode cX17_look 53 = .ok (.getfield 41, 3) := dk_180 0 41 (dk_at dksX17_look_2 5 rfl rfl)
theorem dX17_look_56 : decode cX17_look 56 = .ok (.getfield 48, 3) := dk_180 0 48 (dk_at dksX17_look_2 8 rfl rfl)
theorem dX17_look_59 : decode cX17_look 59 = .ok (.aload_n 0, 1) := dk_42 (dk_at dksX17_look_2 11 rfl rfl)
theorem dX17_look_60 : decode cX17_look 60 = .ok (.getfield 41, 3) := dk_180 0 41 (dk_at dksX17_look_2 12 rfl rfl)
theorem dX17_look_63 : decode cX17_look 63 = .ok (.getfield 48, 3) := dk_180 0 48 (dk_at dksX17_look_2 15 rfl rfl)
theorem dX17_look_66 : decode cX17_look 66 = .ok (.invokevirtual 29, 3) := dk_182 0 29 (dk_at dksX17_look_2 18 rfl rfl)
theorem dX17_look_69 : decode cX17_look 69 = .ok (.aload_n 0, 1) := dk_42 (dk_at dksX17_look_2 21 rfl rfl)
theorem dX17_look_70 : decode cX17_look 70 = .ok (.getfield 15, 3) := dk_180 0 15 (dk_at dksX17_look_3 0 rfl rfl)
theorem dX17_look_73 : decode cX17_look 73 = .ok (.getfield 51, 3) := dk_180 0 51 (dk_at dksX17_look_3 3 rfl rfl)
theorem dX17_look_76 : decode cX17_look 76 = .ok (.invokestatic 55, 3) := dk_184 0 55 (dk_at dksX17_look_3 6 rfl rfl)
theorem dX17_look_79 : decode cX17_look 79 = .ok (.aload_n 0, 1) := dk_42 (dk_at dksX17_look_3 9 rfl rfl)
theorem dX17_look_80 : decode cX17_look 80 = .ok (.invokespecial 59, 3) := dk_183 0 59 (dk_at dksX17_look_3 10 rfl rfl)
theorem dX17_look_83 : decode cX17_look 83 = .ok (.invokestatic 62, 3) := dk_184 0 62 (dk_at dksX17_look_3 13 rfl rfl)
theorem dX17_look_86 : decode cX17_look 86 = .ok (.pop, 1) := dk_87 (dk_at dksX17_look_3 16 rfl rfl)
theorem dX17_look_87 : decode cX17_look 87 = .ok (.iinc 1 1, 3) := dk_132 1 1 (dk_at dksX17_look_3 17 rfl rfl)
theorem dX17_look_90 : decode cX17_look 90 = .ok (.goto (-88), 3) := dk_167 255 168 (dk_at dksX17_look_3 20 rfl rfl)
theorem dX17_look_93 : decode cX17_look 93 = .ok (.aload_n 0, 1) := dk_42 (dk_at dksX17_look_3 23 rfl rfl)
theorem dX17_look_94 : decode cX17_look 94 = .ok (.areturn, 1) := dk_176 (dk_at dksX17_look_4 0 rfl rfl)
abbrev cX17_take : ByteArray := prog_2_method_3_code
def yX17_take : MethodName := ⟨RX17, "take", "([I[I)Z"⟩
def dkwX17_take_5 : List UInt8 := [181, 0, 103, 44, 3, 42, 180, 0, 9, 3, 6, 184, 0, 106, 4, 172]
abbrev dktX17_take_5 : List UInt8 := dkwX17_take_5 ++ []
def dkwX17_take_4 : List UInt8 := [180, 0, 41, 181, 0, 89, 42, 21, 4, 181, 0, 96, 42, 42, 180, 0, 41, 43, 3, 182, 0, 99]
abbrev dktX17_take_4 : List UInt8 := dkwX17_take_4 ++ dktX17_take_5
def dkwX17_take_3 : List UInt8 := [167, 255, 229, 42, 180, 0, 89, 198, 0, 14, 42, 44, 21, 4, 29, 182, 0, 92, 153, 0, 41, 42, 42]
abbrev dktX17_take_3 : List UInt8 := dkwX17_take_3 ++ dktX17_take_4
def dkwX17_take_2 : List UInt8 := [162, 0, 27, 21, 4, 42, 180, 0, 15, 44, 21, 5, 46, 182, 0, 79, 184, 0, 83, 54, 4, 132, 5, 1]
abbrev dktX17_take_2 : List UInt8 := dkwX17_take_2 ++ dktX17_take_3
def dkwX17_take_1 : List UInt8 := [153, 0, 5, 4, 172, 42, 89, 180, 0, 76, 4, 96, 181, 0, 76, 3, 54, 4, 3, 54, 5, 21, 5, 29]
abbrev dktX17_take_1 : List UInt8 := dkwX17_take_1 ++ dktX17_take_2
def dkwX17_take_0 : List UInt8 := [42, 180, 0, 41, 182, 0, 66, 62, 42, 180, 0, 15, 42, 180, 0, 41, 180, 0, 69, 44, 29, 182, 0, 72]
abbrev dktX17_take_0 : List UInt8 := dkwX17_take_0 ++ dktX17_take_1
theorem dksX17_take_0 : cX17_take.data.toList.drop 0 = dktX17_take_0 := by decide +kernel
theorem dksX17_take_1 : cX17_take.data.toList.drop 24 = dktX17_take_1 := dk_seg dksX17_take_0 24 rfl rfl
theorem dksX17_take_2 : cX17_take.data.toList.drop 48 = dktX17_take_2 := dk_seg dksX17_take_1 24 rfl rfl
theorem dksX17_take_3 : cX17_take.data.toList.drop 72 = dktX17_take_3 := dk_seg dksX17_take_2 24 rfl rfl
theorem dksX17_take_4 : cX17_take.data.toList.drop 95 = dktX17_take_4 := dk_seg dksX17_take_3 23 rfl rfl
theorem dksX17_take_5 : cX17_take.data.toList.drop 117 = dktX17_take_5 := dk_seg dksX17_take_4 22 rfl rfl
theorem dX17_take_0 : decode cX17_take 0 = .ok (.aload_n 0, 1) := dk_42 (dk_at dksX17_take_0 0 rfl rfl)
theorem dX17_take_1 : decode cX17_take 1 = .ok (.getfield 41, 3) := dk_180 0 41 (dk_at dksX17_take_0 1 rfl rfl)
theorem dX17_take_4 : decode cX17_take 4 = .ok (.invokevirtual 66, 3) := dk_182 0 66 (dk_at dksX17_take_0 4 rfl rfl)
theorem dX17_take_7 : decode cX17_take 7 = .ok (.istore_n 3, 1) := dk_62 (dk_at dksX17_take_0 7 rfl rfl)
theorem dX17_take_8 : decode cX17_take 8 = .ok (.aload_n 0, 1) := dk_42 (dk_at dksX17_take_0 8 rfl rfl)
theorem dX17_take_9 : decode cX17_take 9 = .ok (.getfield 15, 3) := dk_180 0 15 (dk_at dksX17_take_0 9 rfl rfl)
theorem dX17_take_12 : decode cX17_take 12 = .ok (.aload_n 0, 1) := dk_42 (dk_at dksX17_take_0 12 rfl rfl)
theorem dX17_take_13 : decode cX17_take 13 = .ok (.getfield 41, 3) := dk_180 0 41 (dk_at dksX17_take_0 13 rfl rfl)
theorem dX17_take_16 : decode cX17_take 16 = .ok (.getfield 69, 3) := dk_180 0 69 (dk_at dksX17_take_0 16 rfl rfl)
theorem dX17_take_19 : decode cX17_take 19 = .ok (.aload_n 2, 1) := dk_44 (dk_at dksX17_take_0 19 rfl rfl)
theorem dX17_take_20 : decode cX17_take 20 = .ok (.iload_n 3, 1) := dk_29 (dk_at dksX17_take_0 20 rfl rfl)
theorem dX17_take_21 : decode cX17_take 21 = .ok (.invokevirtual 72, 3) := dk_182 0 72 (dk_at dksX17_take_0 21 rfl rfl)
theorem dX17_take_24 : decode cX17_take 24 = .ok (.ifCond .eq 5, 3) := dk_153 0 5 (dk_at dksX17_take_1 0 rfl rfl)
theorem dX17_take_27 : decode cX17_take 27 = .ok (.iconst 1, 1) := dk_4 (dk_at dksX17_take_1 3 rfl rfl)
theorem dX17_take_28 : decode cX17_take 28 = .ok (.ireturn, 1) := dk_172 (dk_at dksX17_take_1 4 rfl rfl)
theorem dX17_take_29 : decode cX17_take 29 = .ok (.aload_n 0, 1) := dk_42 (dk_at dksX17_take_1 5 rfl rfl)
theorem dX17_take_30 : decode cX17_take 30 = .ok (.dup, 1) := dk_89 (dk_at dksX17_take_1 6 rfl rfl)
theorem dX17_take_31 : decode cX17_take 31 = .ok (.getfield 76, 3) := dk_180 0 76 (dk_at dksX17_take_1 7 rfl rfl)
theorem dX17_take_34 : decode cX17_take 34 = .ok (.iconst 1, 1) := dk_4 (dk_at dksX17_take_1 10 rfl rfl)
theorem dX17_take_35 : decode cX17_take 35 = .ok (.iadd, 1) := dk_96 (dk_at dksX17_take_1 11 rfl rfl)
theorem dX17_take_36 : decode cX17_take 36 = .ok (.putfield 76, 3) := dk_181 0 76 (dk_at dksX17_take_1 12 rfl rfl)
theorem dX17_take_39 : decode cX17_take 39 = .ok (.iconst 0, 1) := dk_3 (dk_at dksX17_take_1 15 rfl rfl)
theorem dX17_take_40 : decode cX17_take 40 = .ok (.istore 4, 2) := dk_54 4 (dk_at dksX17_take_1 16 rfl rfl)
theorem dX17_take_42 : decode cX17_take 42 = .ok (.iconst 0, 1) := dk_3 (dk_at dksX17_take_1 18 rfl rfl)
theorem dX17_take_43 : decode cX17_take 43 = .ok (.istore 5, 2) := dk_54 5 (dk_at dksX17_take_1 19 rfl rfl)
theorem dX17_take_45 : decode cX17_take 45 = .ok (.iload 5, 2) := dk_21 5 (dk_at dksX17_take_1 21 rfl rfl)
theorem dX17_take_47 : decode cX17_take 47 = .ok (.iload_n 3, 1) := dk_29 (dk_at dksX17_take_1 23 rfl rfl)
theorem dX17_take_48 : decode cX17_take 48 = .ok (.if_icmp .ge 27, 3) := dk_162 0 27 (dk_at dksX17_take_2 0 rfl rfl)
theorem dX17_take_51 : decode cX17_take 51 = .ok (.iload 4, 2) := dk_21 4 (dk_at dksX17_take_2 3 rfl rfl)
theorem dX17_take_53 : decode cX17_take 53 = .ok (.aload_n 0, 1) := dk_42 (dk_at dksX17_take_2 5 rfl rfl)
theorem dX17_take_54 : decode cX17_take 54 = .ok (.getfield 15, 3) := dk_180 0 15 (dk_at dksX17_take_2 6 rfl rfl)
theorem dX17_take_57 : decode cX17_take 57 = .ok (.aload_n 2, 1) := dk_44 (dk_at dksX17_take_2 9 rfl rfl)
theorem dX17_take_58 : decode cX17_take 58 = .ok (.iload 5, 2) := dk_21 5 (dk_at dksX17_take_2 10 rfl rfl)
theorem dX17_take_60 : decode cX17_take 60 = .ok (.iaload, 1) := dk_46 (dk_at dksX17_take_2 12 rfl rfl)
theorem dX17_take_61 : decode cX17_take 61 = .ok (.invokevirtual 79, 3) := dk_182 0 79 (dk_at dksX17_take_2 13 rfl rfl)
theorem dX17_take_64 : decode cX17_take 64 = .ok (.invokestatic 83, 3) := dk_184 0 83 (dk_at dksX17_take_2 16 rfl rfl)
theorem dX17_take_67 : decode cX17_take 67 = .ok (.istore 4, 2) := dk_54 4 (dk_at dksX17_take_2 19 rfl rfl)
theorem dX17_take_69 : decode cX17_take 69 = .ok (.iinc 5 1, 3) := dk_132 5 1 (dk_at dksX17_take_2 21 rfl rfl)
theorem dX17_take_72 : decode cX17_take 72 = .ok (.goto (-27), 3) := dk_167 255 229 (dk_at dksX17_take_3 0 rfl rfl)
theorem dX17_take_75 : decode cX17_take 75 = .ok (.aload_n 0, 1) := dk_42 (dk_at dksX17_take_3 3 rfl rfl)
theorem dX17_take_76 : decode cX17_take 76 = .ok (.getfield 89, 3) := dk_180 0 89 (dk_at dksX17_take_3 4 rfl rfl)
theorem dX17_take_79 : decode cX17_take 79 = .ok (.ifnull 14, 3) := dk_198 0 14 (dk_at dksX17_take_3 7 rfl rfl)
theorem dX17_take_82 : decode cX17_take 82 = .ok (.aload_n 0, 1) := dk_42 (dk_at dksX17_take_3 10 rfl rfl)
theorem dX17_take_83 : decode cX17_take 83 = .ok (.aload_n 2, 1) := dk_44 (dk_at dksX17_take_3 11 rfl rfl)
theorem dX17_take_84 : decode cX17_take 84 = .ok (.iload 4, 2) := dk_21 4 (dk_at dksX17_take_3 12 rfl rfl)
theorem dX17_take_86 : decode cX17_take 86 = .ok (.iload_n 3, 1) := dk_29 (dk_at dksX17_take_3 14 rfl rfl)
theorem dX17_take_87 : decode cX17_take 87 = .ok (.invokevirtual 92, 3) := dk_182 0 92 (dk_at dksX17_take_3 15 rfl rfl)
theorem dX17_take_90 : decode cX17_take 90 = .ok (.ifCond .eq 41, 3) := dk_153 0 41 (dk_at dksX17_take_3 18 rfl rfl)
theorem dX17_take_93 : decode cX17_take 93 = .ok (.aload_n 0, 1) := dk_42 (dk_at dksX17_take_3 21 rfl rfl)
theorem dX17_take_94 : decode cX17_take 94 = .ok (.aload_n 0, 1) := dk_42 (dk_at dksX17_take_3 22 rfl rfl)
theorem dX17_take_95 : decode cX17_take 95 = .ok (.getfield 41, 3) := dk_180 0 41 (dk_at dksX17_take_4 0 rfl rfl)
theorem dX17_take_98 : decode cX17_take 98 = .ok (.putfield 89, 3) := dk_181 0 89 (dk_at dksX17_take_4 3 rfl rfl)
theorem dX17_take_101 : decode cX17_take 101 = .ok (.aload_n 0, 1) := dk_42 (dk_at dksX17_take_4 6 rfl rfl)
theorem dX17_take_102 : decode cX17_take 102 = .ok (.iload 4, 2) := dk_21 4 (dk_at dksX17_take_4 7 rfl rfl)
theorem dX17_take_104 : decode cX17_take 104 = .ok (.putfield 96, 3) := dk_181 0 96 (dk_at dksX17_take_4 9 rfl rfl)
theorem dX17_take_107 : decode cX17_take 107 = .ok (.aload_n 0, 1) := dk_42 (dk_at dksX17_take_4 12 rfl rfl)
theorem dX17_take_108 : decode cX17_take 108 = .ok (.aload_n 0, 1) := dk_42 (dk_at dksX17_take_4 13 rfl rfl)
theorem dX17_take_109 : decode cX17_take 109 = .ok (.getfield 41, 3) := dk_180 0 41 (dk_at dksX17_take_4 14 rfl rfl)
theorem dX17_take_112 : decode cX17_take 112 = .ok (.aload_n 1, 1) := dk_43 (dk_at dksX17_take_4 17 rfl rfl)
theorem dX17_take_113 : decode cX17_take 113 = .ok (.iconst 0, 1) := dk_3 (dk_at dksX17_take_4 18 rfl rfl)
theorem dX17_take_114 : decode cX17_take 114 = .ok (.invokevirtual 99, 3) := dk_182 0 99 (dk_at dksX17_take_4 19 rfl rfl)
theorem dX17_take_117 : decode cX17_take 117 = .ok (.putfield 103, 3) := dk_181 0 103 (dk_at dksX17_take_5 0 rfl rfl)
theorem dX17_take_120 : decode cX17_take 120 = .ok (.aload_n 2, 1) := dk_44 (dk_at dksX17_take_5 3 rfl rfl)
theorem dX17_take_121 : decode cX17_take 121 = .ok (.iconst 0, 1) := dk_3 (dk_at dksX17_take_5 4 rfl rfl)
theorem dX17_take_122 : decode cX17_take 122 = .ok (.aload_n 0, 1) := dk_42 (dk_at dksX17_take_5 5 rfl rfl)
theorem dX17_take_123 : decode cX17_take 123 = .ok (.getfield 9, 3) := dk_180 0 9 (dk_at dksX17_take_5 6 rfl rfl)
theorem dX17_take_126 : decode cX17_take 126 = .ok (.iconst 0, 1) := dk_3 (dk_at dksX17_take_5 9 rfl rfl)
theorem dX17_take_127 : decode cX17_take 127 = .ok (.iconst 3, 1) := dk_6 (dk_at dksX17_take_5 10 rfl rfl)
theorem dX17_take_128 : decode cX17_take 128 = .ok (.invokestatic 106, 3) := dk_184 0 106 (dk_at dksX17_take_5 11 rfl rfl)
theorem dX17_take_131 : decode cX17_take 131 = .ok (.iconst 1, 1) := dk_4 (dk_at dksX17_take_5 14 rfl rfl)
theorem dX17_take_132 : decode cX17_take 132 = .ok (.ireturn, 1) := dk_172 (dk_at dksX17_take_5 15 rfl rfl)
abbrev cX17_isAhead : ByteArray := prog_2_method_4_code
def yX17_isAhead : MethodName := ⟨RX17, "isAhead", "([III)Z"⟩
def dkwX17_isAhead_8 : List UInt8 := [167, 255, 213, 3, 172]
abbrev dktX17_isAhead_8 : List UInt8 := dkwX17_isAhead_8 ++ []
def dkwX17_isAhead_7 : List UInt8 := [21, 6, 46, 42, 180, 0, 9, 21, 6, 46, 162, 0, 7, 4, 167, 0, 4, 3, 172, 132, 6, 1]
abbrev dktX17_isAhead_7 : List UInt8 := dkwX17_isAhead_7 ++ dktX17_isAhead_8
def dkwX17_isAhead_6 : List UInt8 := [54, 6, 21, 6, 29, 162, 0, 43, 43, 21, 6, 46, 42, 180, 0, 9, 21, 6, 46, 159, 0, 23, 43]
abbrev dktX17_isAhead_6 : List UInt8 := dkwX17_isAhead_6 ++ dktX17_isAhead_7
def dkwX17_isAhead_5 : List UInt8 := [180, 0, 69, 100, 54, 5, 21, 5, 153, 0, 14, 21, 5, 158, 0, 7, 4, 167, 0, 4, 3, 172, 3]
abbrev dktX17_isAhead_5 : List UInt8 := dkwX17_isAhead_5 ++ dktX17_isAhead_6
def dkwX17_isAhead_4 : List UInt8 := [180, 0, 89, 180, 0, 48, 182, 0, 29, 100, 167, 0, 18, 42, 180, 0, 89, 180, 0, 69, 42, 180, 0, 41]
abbrev dktX17_isAhead_4 : List UInt8 := dkwX17_isAhead_4 ++ dktX17_isAhead_5
def dkwX17_isAhead_3 : List UInt8 := [180, 0, 89, 180, 0, 48, 182, 0, 29, 159, 0, 27, 42, 180, 0, 41, 180, 0, 48, 182, 0, 29, 42]
abbrev dktX17_isAhead_3 : List UInt8 := dkwX17_isAhead_3 ++ dktX17_isAhead_4
def dkwX17_isAhead_2 : List UInt8 := [21, 4, 158, 0, 7, 4, 167, 0, 4, 3, 172, 42, 180, 0, 41, 180, 0, 48, 182, 0, 29, 42]
abbrev dktX17_isAhead_2 : List UInt8 := dkwX17_isAhead_2 ++ dktX17_isAhead_3
def dkwX17_isAhead_1 : List UInt8 := [42, 180, 0, 89, 180, 0, 112, 100, 167, 0, 9, 28, 42, 180, 0, 96, 100, 54, 4, 21, 4, 153, 0, 14]
abbrev dktX17_isAhead_1 : List UInt8 := dkwX17_isAhead_1 ++ dktX17_isAhead_2
def dkwX17_isAhead_0 : List UInt8 := [42, 180, 0, 41, 180, 0, 112, 42, 180, 0, 89, 180, 0, 112, 159, 0, 21, 42, 180, 0, 41, 180, 0, 112]
abbrev dktX17_isAhead_0 : List UInt8 := dkwX17_isAhead_0 ++ dktX17_isAhead_1
theorem dksX17_isAhead_0 : cX17_isAhead.data.toList.drop 0 = dktX17_isAhead_0 := by decide +kernel
theorem dksX17_isAhead_1 : cX17_isAhead.data.toList.drop 24 = dktX17_isAhead_1 := dk_seg dksX17_isAhead_0 24 rfl rfl
theorem dksX17_isAhead_2 : cX17_isAhead.data.toList.drop 48 = dktX17_isAhead_2 := dk_seg dksX17_isAhead_1 24 rfl rfl
theorem dksX17_isAhead_3 : cX17_isAhead.data.toList.drop 70 = dktX17_isAhead_3 := dk_seg dksX17_isAhead_2 22 rfl rfl
theorem dksX17_isAhead_4 : cX17_isAhead.data.toList.drop 93 = dktX17_isAhead_4 := dk_seg dksX17_isAhead_3 23 rfl rfl
theorem dksX17_isAhead_5 : cX17_isAhead.data.toList.drop 117 = dktX17_isAhead_5 := dk_seg dksX17_isAhead_4 24 rfl rfl
theorem dksX17_isAhead_6 : cX17_isAhead.data.toList.drop 140 = dktX17_isAhead_6 := dk_seg dksX17_isAhead_5 23 rfl rfl
theorem dksX17_isAhead_7 : cX17_isAhead.data.toList.drop 163 = dktX17_isAhead_7 := dk_seg dksX17_isAhead_6 23 rfl rfl
theorem dksX17_isAhead_8 : cX17_isAhead.data.toList.drop 185 = dktX17_isAhead_8 := dk_seg dksX17_isAhead_7 22 rfl rfl
theorem dX17_isAhead_0 : decode cX17_isAhead 0 = .ok (.aload_n 0, 1) := dk_42 (dk_at dksX17_isAhead_0 0 rfl rfl)
theorem dX17_isAhead_1 : decode cX17_isAhead 1 = .ok (.getfield 41, 3) := dk_180 0 41 (dk_at dksX17_isAhead_0 1 rfl rfl)
theorem dX17_isAhead_4 : decode cX17_isAhead 4 = .ok (.getfield 112, 3) := dk_180 0 112 (dk_at dksX17_isAhead_0 4 rfl rfl)
theorem dX17_isAhead_7 : decode cX17_isAhead 7 = .ok (.aload_n 0, 1) := dk_42 (dk_at dksX17_isAhead_0 7 rfl rfl)
theorem dX17_isAhead_8 : decode cX17_isAhead 8 = .ok (.getfield 89, 3) := dk_180 0 89 (dk_at dksX17_isAhead_0 8 rfl rfl)
theorem dX17_isAhead_11 : decode cX17_isAhead 11 = .ok (.getfield 112, 3) := dk_180 0 112 (dk_at dksX17_isAhead_0 11 rfl rfl)
theorem dX17_isAhead_14 : decode cX17_isAhead 14 = .ok (.if_icmp .eq 21, 3) := dk_159 0 21 (dk_at dksX17_isAhead_0 14 rfl rfl)
theorem dX17_isAhead_17 : decode cX17_isAhead 17 = .ok (.aload_n 0, 1) := dk_42 (dk_at dksX17_isAhead_0 17 rfl rfl)
theorem dX17_isAhead_18 : decode cX17_isAhead 18 = .ok (.getfield 41, 3) := dk_180 0 41 (dk_at dksX17_isAhead_0 18 rfl rfl)
theorem dX17_isAhead_21 : decode cX17_isAhead 21 = .ok (.getfield 112, 3) := dk_180 0 112 (dk_at dksX17_isAhead_0 21 rfl rfl)
theorem dX17_isAhead_24 : decode cX17_isAhead 24 = .ok (.aload_n 0, 1) := dk_42 (dk_at dksX17_isAhead_1 0 rfl rfl)
theorem dX17_isAhead_25 : decode cX17_isAhead 25 = .ok (.getfield 89, 3) := dk_180 0 89 (dk_at dksX17_isAhead_1 1 rfl rfl)
theorem dX17_isAhead_28 : decode cX17_isAhead 28 = .ok (.getfield 112, 3) := dk_180 0 112 (dk_at dksX17_isAhead_1 4 rfl rfl)
theorem dX17_isAhead_31 : decode cX17_isAhead 31 = .ok (.isub, 1) := dk_100 (dk_at dksX17_isAhead_1 7 rfl rfl)
theorem dX17_isAhead_32 : decode cX17_isAhead 32 = .ok (.goto 9, 3) := dk_167 0 9 (dk_at dksX17_isAhead_1 8 rfl rfl)
theorem dX17_isAhead_35 : decode cX17_isAhead 35 = .ok (.iload_n 2, 1) := dk_28 (dk_at dksX17_isAhead_1 11 rfl rfl)
theorem dX17_isAhead_36 : decode cX17_isAhead 36 = .ok (.aload_n 0, 1) := dk_42 (dk_at dksX17_isAhead_1 12 rfl rfl)
theorem dX17_isAhead_37 : decode cX17_isAhead 37 = .ok (.getfield 96, 3) := dk_180 0 96 (dk_at dksX17_isAhead_1 13 rfl rfl)
theorem dX17_isAhead_40 : decode cX17_isAhead 40 = .ok (.isub, 1) := dk_100 (dk_at dksX17_isAhead_1 16 rfl rfl)
theorem dX17_isAhead_41 : decode cX17_isAhead 41 = .ok (.istore 4, 2) := dk_54 4 (dk_at dksX17_isAhead_1 17 rfl rfl)
theorem dX17_isAhead_43 : decode cX17_isAhead 43 = .ok (.iload 4, 2) := dk_21 4 (dk_at dksX17_isAhead_1 19 rfl rfl)
theorem dX17_isAhead_45 : decode cX17_isAhead 45 = .ok (.ifCond .eq 14, 3) := dk_153 0 14 (dk_at dksX17_isAhead_1 21 rfl rfl)
theorem dX17_isAhead_48 : decode cX17_isAhead 48 = .ok (.iload 4, 2) := dk_21 4 (dk_at dksX17_isAhead_2 0 rfl rfl)
theorem dX17_isAhead_50 : decode cX17_isAhead 50 = .ok (.ifCond .le 7, 3) := dk_158 0 7 (dk_at dksX17_isAhead_2 2 rfl rfl)
theorem dX17_isAhead_53 : decode cX17_isAhead 53 = .ok (.iconst 1, 1) := dk_4 (dk_at dksX17_isAhead_2 5 rfl rfl)
theorem dX17_isAhead_54 : decode cX17_isAhead 54 = .ok (.goto 4, 3) := dk_167 0 4 (dk_at dksX17_isAhead_2 6 rfl rfl)
theorem dX17_isAhead_57 : decode cX17_isAhead 57 = .ok (.iconst 0, 1) := dk_3 (dk_at dksX17_isAhead_2 9 rfl rfl)
theorem dX17_isAhead_58 : decode cX17_isAhead 58 = .ok (.ireturn, 1) := dk_172 (dk_at dksX17_isAhead_2 10 rfl rfl)
theorem dX17_isAhead_59 : decode cX17_isAhead 59 = .ok (.aload_n 0, 1) := dk_42 (dk_at dksX17_isAhead_2 11 rfl rfl)
theorem dX17_isAhead_60 : decode cX17_isAhead 60 = .ok (.getfield 41, 3) := dk_180 0 41 (dk_at dksX17_isAhead_2 12 rfl rfl)
theorem dX17_isAhead_63 : decode cX17_isAhead 63 = .ok (.getfield 48, 3) := dk_180 0 48 (dk_at dksX17_isAhead_2 15 rfl rfl)
theorem dX17_isAhead_66 : decode cX17_isAhead 66 = .ok (.invokevirtual 29, 3) := dk_182 0 29 (dk_at dksX17_isAhead_2 18 rfl rfl)
theorem dX17_isAhead_69 : decode cX17_isAhead 69 = .ok (.aload_n 0, 1) := dk_42 (dk_at dksX17_isAhead_2 21 rfl rfl)
theorem dX17_isAhead_70 : decode cX17_isAhead 70 = .ok (.getfield 89, 3) := dk_180 0 89 (dk_at dksX17_isAhead_3 0 rfl rfl)
theorem dX17_isAhead_73 : decode cX17_isAhead 73 = .ok (.getfield 48, 3) := dk_180 0 48 (dk_at dksX17_isAhead_3 3 rfl rfl)
theorem dX17_isAhead_76 : decode cX17_isAhead 76 = .ok (.invokevirtual 29, 3) := dk_182 0 29 (dk_at dksX17_isAhead_3 6 rfl rfl)
theorem dX17_isAhead_79 : decode cX17_isAhead 79 = .ok (.if_icmp .eq 27, 3) := dk_159 0 27 (dk_at dksX17_isAhead_3 9 rfl rfl)
theorem dX17_isAhead_82 : decode cX17_isAhead 82 = .ok (.aload_n 0, 1) := dk_42 (dk_at dksX17_isAhead_3 12 rfl rfl)
theorem dX17_isAhead_83 : decode cX17_isAhead 83 = .ok (.getfield 41, 3) := dk_180 0 41 (dk_at dksX17_isAhead_3 13 rfl rfl)
theorem dX17_isAhead_86 : decode cX17_isAhead 86 = .ok (.getfield 48, 3) := dk_180 0 48 (dk_at dksX17_isAhead_3 16 rfl rfl)
theorem dX17_isAhead_89 : decode cX17_isAhead 89 = .ok (.invokevirtual 29, 3) := dk_182 0 29 (dk_at dksX17_isAhead_3 19 rfl rfl)
theorem dX17_isAhead_92 : decode cX17_isAhead 92 = .ok (.aload_n 0, 1) := dk_42 (dk_at dksX17_isAhead_3 22 rfl rfl)
theorem dX17_isAhead_93 : decode cX17_isAhead 93 = .ok (.getfield 89, 3) := dk_180 0 89 (dk_at dksX17_isAhead_4 0 rfl rfl)
theorem dX17_isAhead_96 : decode cX17_isAhead 96 = .ok (.getfield 48, 3) := dk_180 0 48 (dk_at dksX17_isAhead_4 3 rfl rfl)
theorem dX17_isAhead_99 : decode cX17_isAhead 99 = .ok (.invokevirtual 29, 3) := dk_182 0 29 (dk_at dksX17_isAhead_4 6 rfl rfl)
theorem dX17_isAhead_102 : decode cX17_isAhead 102 = .ok (.isub, 1) := dk_100 (dk_at dksX17_isAhead_4 9 rfl rfl)
theorem dX17_isAhead_103 : decode cX17_isAhead 103 = .ok (.goto 18, 3) := dk_167 0 18 (dk_at dksX17_isAhead_4 10 rfl rfl)
theorem dX17_isAhead_106 : decode cX17_isAhead 106 = .ok (.aload_n 0, 1) := dk_42 (dk_at dksX17_isAhead_4 13 rfl rfl)
theorem dX17_isAhead_107 : decode cX17_isAhead 107 = .ok (.getfield 89, 3) := dk_180 0 89 (dk_at dksX17_isAhead_4 14 rfl rfl)
theorem dX17_isAhead_110 : decode cX17_isAhead 110 = .ok (.getfield 69, 3) := dk_180 0 69 (dk_at dksX17_isAhead_4 17 rfl rfl)
theorem dX17_isAhead_113 : decode cX17_isAhead 113 = .ok (.aload_n 0, 1) := dk_42 (dk_at dksX17_isAhead_4 20 rfl rfl)
theorem dX17_isAhead_114 : decode cX17_isAhead 114 = .ok (.getfield 41, 3) := dk_180 0 41 (dk_at dksX17_isAhead_4 21 rfl rfl)
theorem dX17_isAhead_117 : decode cX17_isAhead 117 = .ok (.getfield 69, 3) := dk_180 0 69 (dk_at dksX17_isAhead_5 0 rfl rfl)
theorem dX17_isAhead_120 : decode cX17_isAhead 120 = .ok (.isub, 1) := dk_100 (dk_at dksX17_isAhead_5 3 rfl rfl)
theorem dX17_isAhead_121 : decode cX17_isAhead 121 = .ok (.istore 5, 2) := dk_54 5 (dk_at dksX17_isAhead_5 4 rfl rfl)
theorem dX17_isAhead_123 : decode cX17_isAhead 123 = .ok (.iload 5, 2) := dk_21 5 (dk_at dksX17_isAhead_5 6 rfl rfl)
theorem dX17_isAhead_125 : decode cX17_isAhead 125 = .ok (.ifCond .eq 14, 3) := dk_153 0 14 (dk_at dksX17_isAhead_5 8 rfl rfl)
theorem dX17_isAhead_128 : decode cX17_isAhead 128 = .ok (.iload 5, 2) := dk_21 5 (dk_at dksX17_isAhead_5 11 rfl rfl)
theorem dX17_isAhead_130 : decode cX17_isAhead 130 = .ok (.ifCond .le 7, 3) := dk_158 0 7 (dk_at dksX17_isAhead_5 13 rfl rfl)
theorem dX17_isAhead_133 : decode cX17_isAhead 133 = .ok (.iconst 1, 1) := dk_4 (dk_at dksX17_isAhead_5 16 rfl rfl)
theorem dX17_isAhead_134 : decode cX17_isAhead 134 = .ok (.goto 4, 3) := dk_167 0 4 (dk_at dksX17_isAhead_5 17 rfl rfl)
theorem dX17_isAhead_137 : decode cX17_isAhead 137 = .ok (.iconst 0, 1) := dk_3 (dk_at dksX17_isAhead_5 20 rfl rfl)
theorem dX17_isAhead_138 : decode cX17_isAhead 138 = .ok (.ireturn, 1) := dk_172 (dk_at dksX17_isAhead_5 21 rfl rfl)
theorem dX17_isAhead_139 : decode cX17_isAhead 139 = .ok (.iconst 0, 1) := dk_3 (dk_at dksX17_isAhead_5 22 rfl rfl)
theorem dX17_isAhead_140 : decode cX17_isAhead 140 = .ok (.istore 6, 2) := dk_54 6 (dk_at dksX17_isAhead_6 0 rfl rfl)
theorem dX17_isAhead_142 : decode cX17_isAhead 142 = .ok (.iload 6, 2) := dk_21 6 (dk_at dksX17_isAhead_6 2 rfl rfl)
theorem dX17_isAhead_144 : decode cX17_isAhead 144 = .ok (.iload_n 3, 1) := dk_29 (dk_at dksX17_isAhead_6 4 rfl rfl)
theorem dX17_isAhead_145 : decode cX17_isAhead 145 = .ok (.if_icmp .ge 43, 3) := dk_162 0 43 (dk_at dksX17_isAhead_6 5 rfl rfl)
theorem dX17_isAhead_148 : decode cX17_isAhead 148 = .ok (.aload_n 1, 1) := dk_43 (dk_at dksX17_isAhead_6 8 rfl rfl)
theorem dX17_isAhead_149 : decode cX17_isAhead 149 = .ok (.iload 6, 2) := dk_21 6 (dk_at dksX17_isAhead_6 9 rfl rfl)
theorem dX17_isAhead_151 : decode cX17_isAhead 151 = .ok (.iaload, 1) := dk_46 (dk_at dksX17_isAhead_6 11 rfl rfl)
theorem dX17_isAhead_152 : decode cX17_isAhead 152 = .ok (.aload_n 0, 1) := dk_42 (dk_at dksX17_isAhead_6 12 rfl rfl)
theorem dX17_isAhead_153 : decode cX17_isAhead 153 = .ok (.getfield 9, 3) := dk_180 0 9 (dk_at dksX17_isAhead_6 13 rfl rfl)
theorem dX17_isAhead_156 : decode cX17_isAhead 156 = .ok (.iload 6, 2) := dk_21 6 (dk_at dksX17_isAhead_6 16 rfl rfl)
theorem dX17_isAhead_158 : decode cX17_isAhead 158 = .ok (.iaload, 1) := dk_46 (dk_at dksX17_isAhead_6 18 rfl rfl)
theorem dX17_isAhead_159 : decode cX17_isAhead 159 = .ok (.if_icmp .eq 23, 3) := dk_159 0 23 (dk_at dksX17_isAhead_6 19 rfl rfl)
theorem dX17_isAhead_162 : decode cX17_isAhead 162 = .ok (.aload_n 1, 1) := dk_43 (dk_at dksX17_isAhead_6 22 rfl rfl)
theorem dX17_isAhead_163 : decode cX17_isAhead 163 = .ok (.iload 6, 2) := dk_21 6 (dk_at dksX17_isAhead_7 0 rfl rfl)
theorem dX17_isAhead_165 : decode cX17_isAhead 165 = .ok (.iaload, 1) := dk_46 (dk_at dksX17_isAhead_7 2 rfl rfl)
theorem dX17_isAhead_166 : decode cX17_isAhead 166 = .ok (.aload_n 0, 1) := dk_42 (dk_at dksX17_isAhead_7 3 rfl rfl)
theorem dX17_isAhead_167 : decode cX17_isAhead 167 = .ok (.getfield 9, 3) := dk_180 0 9 (dk_at dksX17_isAhead_7 4 rfl rfl)
theorem dX17_isAhead_170 : decode cX17_isAhead 170 = .ok (.iload 6, 2) := dk_21 6 (dk_at dksX17_isAhead_7 7 rfl rfl)
theorem dX17_isAhead_172 : decode cX17_isAhead 172 = .ok (.iaload, 1) := dk_46 (dk_at dksX17_isAhead_7 9 rfl rfl)
theorem dX17_isAhead_173 : decode cX17_isAhead 173 = .ok (.if_icmp .ge 7, 3) := dk_162 0 7 (dk_at dksX17_isAhead_7 10 rfl rfl)
theorem dX17_isAhead_176 : decode cX17_isAhead 176 = .ok (.iconst 1, 1) := dk_4 (dk_at dksX17_isAhead_7 13 rfl rfl)
theorem dX17_isAhead_177 : decode cX17_isAhead 177 = .ok (.goto 4, 3) := dk_167 0 4 (dk_at dksX17_isAhead_7 14 rfl rfl)
theorem dX17_isAhead_180 : decode cX17_isAhead 180 = .ok (.iconst 0, 1) := dk_3 (dk_at dksX17_isAhead_7 17 rfl rfl)
theorem dX17_isAhead_181 : decode cX17_isAhead 181 = .ok (.ireturn, 1) := dk_172 (dk_at dksX17_isAhead_7 18 rfl rfl)
theorem dX17_isAhead_182 : decode cX17_isAhead 182 = .ok (.iinc 6 1, 3) := dk_132 6 1 (dk_at dksX17_isAhead_7 19 rfl rfl)
theorem dX17_isAhead_185 : decode cX17_isAhead 185 = .ok (.goto (-43), 3) := dk_167 255 213 (dk_at dksX17_isAhead_8 0 rfl rfl)
theorem dX17_isAhead_188 : decode cX17_isAhead 188 = .ok (.iconst 0, 1) := dk_3 (dk_at dksX17_isAhead_8 3 rfl rfl)
theorem dX17_isAhead_189 : decode cX17_isAhead 189 = .ok (.ireturn, 1) := dk_172 (dk_at dksX17_isAhead_8 4 rfl rfl)

abbrev hX0_relation : List (Nat × Nat × Nat × Nat) := [(0, 9, 12, 13), (0, 9, 15, 15)]
abbrev wX0_relation : Cond := Cond.codeWith yX0_relation cX0_relation 4 (some FieldType.int) hX0_relation
theorem mdX0_relation : rv_md yX0_relation wX0_relation 3 := ⟨4, Or.inr ⟨_, _, _, rfl⟩, q1103, q123, ⟨by decide +kernel, by decide +kernel⟩, by decide +kernel, by decide⟩
abbrev hX0_tell : List (Nat × Nat × Nat × Nat) := [(0, 10, 13, 21), (0, 10, 17, 13), (0, 10, 21, 15)]
abbrev wX0_tell : Cond := Cond.codeWith yX0_tell cX0_tell 5 (some FieldType.int) hX0_tell
theorem mdX0_tell : rv_md yX0_tell wX0_tell 4 := ⟨5, Or.inr ⟨_, _, _, rfl⟩, q1154, q123, ⟨by decide +kernel, by decide +kernel⟩, by decide +kernel, by decide⟩
abbrev hX0_take : List (Nat × Nat × Nat × Nat) := [(0, 9, 12, 21), (0, 9, 15, 13), (0, 9, 18, 15)]
abbrev wX0_take : Cond := Cond.codeWith yX0_take cX0_take 4 (some FieldType.int) hX0_take
theorem mdX0_take : rv_md yX0_take wX0_take 3 := ⟨4, Or.inr ⟨_, _, _, rfl⟩, q1401, q123, ⟨by decide +kernel, by decide +kernel⟩, by decide +kernel, by decide⟩
abbrev hX0_stands : List (Nat × Nat × Nat × Nat) := [(0, 16, 19, 21), (0, 16, 22, 13)]
abbrev wX0_stands : Cond := Cond.codeWith yX0_stands cX0_stands 4 (some FieldType.int) hX0_stands
theorem mdX0_stands : rv_md yX0_stands wX0_stands 3 := ⟨4, Or.inr ⟨_, _, _, rfl⟩, q1410, q123, ⟨by decide +kernel, by decide +kernel⟩, by decide +kernel, by decide⟩
abbrev hX0_standsByRounds : List (Nat × Nat × Nat × Nat) := [(0, 16, 19, 21), (0, 16, 22, 13)]
abbrev wX0_standsByRounds : Cond := Cond.codeWith yX0_standsByRounds cX0_standsByRounds 4 (some FieldType.int) hX0_standsByRounds
theorem mdX0_standsByRounds : rv_md yX0_standsByRounds wX0_standsByRounds 3 := ⟨4, Or.inr ⟨_, _, _, rfl⟩, q1418, q123, ⟨by decide +kernel, by decide +kernel⟩, by decide +kernel, by decide⟩
abbrev hX0_endOf : List (Nat × Nat × Nat × Nat) := [(0, 9, 12, 21), (0, 9, 15, 13)]
abbrev wX0_endOf : Cond := Cond.codeWith yX0_endOf cX0_endOf 4 (some FieldType.int) hX0_endOf
theorem mdX0_endOf : rv_md yX0_endOf wX0_endOf 3 := ⟨4, Or.inr ⟨_, _, _, rfl⟩, q1430, q123, ⟨by decide +kernel, by decide +kernel⟩, by decide +kernel, by decide⟩
abbrev hX0_tag : List (Nat × Nat × Nat × Nat) := [(0, 9, 12, 21), (0, 9, 15, 13)]
abbrev wX0_tag : Cond := Cond.codeWith yX0_tag cX0_tag 4 (some FieldType.int) hX0_tag
theorem mdX0_tag : rv_md yX0_tag wX0_tag 3 := ⟨4, Or.inr ⟨_, _, _, rfl⟩, q1438, q123, ⟨by decide +kernel, by decide +kernel⟩, by decide +kernel, by decide⟩
abbrev hX0_standingAt : List (Nat × Nat × Nat × Nat) := [(0, 9, 12, 21)]
abbrev wX0_standingAt : Cond := Cond.codeWith yX0_standingAt cX0_standingAt 4 (some FieldType.int) hX0_standingAt
theorem mdX0_standingAt : rv_md yX0_standingAt wX0_standingAt 3 := ⟨4, Or.inr ⟨_, _, _, rfl⟩, q1446, q123, ⟨by decide +kernel, by decide +kernel⟩, by decide +kernel, by decide⟩
abbrev hX0_rule : List (Nat × Nat × Nat × Nat) := [(0, 5, 8, 21), (0, 5, 11, 15)]
abbrev wX0_rule : Cond := Cond.codeWith yX0_rule cX0_rule 3 (some FieldType.int) hX0_rule
theorem mdX0_rule : rv_md yX0_rule wX0_rule 2 := ⟨3, Or.inr ⟨_, _, _, rfl⟩, q1453, q123, ⟨by decide +kernel, by decide +kernel⟩, by decide +kernel, by decide⟩
abbrev hX0_deed : List (Nat × Nat × Nat × Nat) := [(0, 9, 12, 21), (0, 9, 16, 13), (0, 9, 20, 15)]
abbrev wX0_deed : Cond := Cond.codeWith yX0_deed cX0_deed 6 (some FieldType.int) hX0_deed
theorem mdX0_deed : rv_md yX0_deed wX0_deed 5 := ⟨6, Or.inr ⟨_, _, _, rfl⟩, q1562, q123, ⟨by decide +kernel, by decide +kernel⟩, by decide +kernel, by decide⟩
abbrev hX0_variable : List (Nat × Nat × Nat × Nat) := [(0, 5, 8, 13), (0, 5, 11, 15)]
abbrev wX0_variable : Cond := Cond.codeWith yX0_variable cX0_variable 3 (some FieldType.int) hX0_variable
theorem mdX0_variable : rv_md yX0_variable wX0_variable 2 := ⟨3, Or.inr ⟨_, _, _, rfl⟩, q1569, q123, ⟨by decide +kernel, by decide +kernel⟩, by decide +kernel, by decide⟩
abbrev hX0_value : List (Nat × Nat × Nat × Nat) := [(0, 5, 8, 13), (0, 5, 11, 15)]
abbrev wX0_value : Cond := Cond.codeWith yX0_value cX0_value 3 (some FieldType.int) hX0_value
theorem mdX0_value : rv_md yX0_value wX0_value 2 := ⟨3, Or.inr ⟨_, _, _, rfl⟩, q1595, q123, ⟨by decide +kernel, by decide +kernel⟩, by decide +kernel, by decide⟩
abbrev hX0_gather : List (Nat × Nat × Nat × Nat) := [(0, 6, 9, 13), (0, 6, 12, 15)]
abbrev wX0_gather : Cond := Cond.codeWith yX0_gather cX0_gather 4 (some FieldType.int) hX0_gather
theorem mdX0_gather : rv_md yX0_gather wX0_gather 3 := ⟨4, Or.inr ⟨_, _, _, rfl⟩, q1602, q123, ⟨by decide +kernel, by decide +kernel⟩, by decide +kernel, by decide⟩
abbrev hX0_atom : List (Nat × Nat × Nat × Nat) := [(0, 5, 8, 21), (0, 5, 11, 15)]
abbrev wX0_atom : Cond := Cond.codeWith yX0_atom cX0_atom 3 (some FieldType.int) hX0_atom
theorem mdX0_atom : rv_md yX0_atom wX0_atom 2 := ⟨3, Or.inr ⟨_, _, _, rfl⟩, q1609, q123, ⟨by decide +kernel, by decide +kernel⟩, by decide +kernel, by decide⟩
abbrev hX0_not : List (Nat × Nat × Nat × Nat) := [(0, 5, 8, 21), (0, 5, 11, 15)]
abbrev wX0_not : Cond := Cond.codeWith yX0_not cX0_not 3 (some FieldType.int) hX0_not
theorem mdX0_not : rv_md yX0_not wX0_not 2 := ⟨3, Or.inr ⟨_, _, _, rfl⟩, q1621, q123, ⟨by decide +kernel, by decide +kernel⟩, by decide +kernel, by decide⟩
abbrev hX0_test : List (Nat × Nat × Nat × Nat) := [(0, 5, 8, 13), (0, 5, 11, 15)]
abbrev wX0_test : Cond := Cond.codeWith yX0_test cX0_test 3 (some FieldType.int) hX0_test
theorem mdX0_test : rv_md yX0_test wX0_test 2 := ⟨3, Or.inr ⟨_, _, _, rfl⟩, q1628, q123, ⟨by decide +kernel, by decide +kernel⟩, by decide +kernel, by decide⟩
abbrev hX0_plus : List (Nat × Nat × Nat × Nat) := [(0, 4, 7, 15)]
abbrev wX0_plus : Cond := Cond.codeWith yX0_plus cX0_plus 2 (some FieldType.int) hX0_plus
theorem mdX0_plus : rv_md yX0_plus wX0_plus 1 := ⟨2, Or.inr ⟨_, _, _, rfl⟩, q1635, q123, ⟨by decide +kernel, by decide +kernel⟩, by decide +kernel, by decide⟩
abbrev hX0_done : List (Nat × Nat × Nat × Nat) := [(0, 8, 11, 15)]
abbrev wX0_done : Cond := Cond.codeWith yX0_done cX0_done 3 (some FieldType.int) hX0_done
theorem mdX0_done : rv_md yX0_done wX0_done 2 := ⟨3, Or.inr ⟨_, _, _, rfl⟩, q1642, q123, ⟨by decide +kernel, by decide +kernel⟩, by decide +kernel, by decide⟩
abbrev hX0_drop : List (Nat × Nat × Nat × Nat) := [(0, 9, 12, 21), (0, 9, 15, 15)]
abbrev wX0_drop : Cond := Cond.codeWith yX0_drop cX0_drop 4 (some FieldType.int) hX0_drop
theorem mdX0_drop : rv_md yX0_drop wX0_drop 3 := ⟨4, Or.inr ⟨_, _, _, rfl⟩, q1665, q123, ⟨by decide +kernel, by decide +kernel⟩, by decide +kernel, by decide⟩
abbrev hX0_dropDeed : List (Nat × Nat × Nat × Nat) := [(0, 9, 12, 21)]
abbrev wX0_dropDeed : Cond := Cond.codeWith yX0_dropDeed cX0_dropDeed 4 (some FieldType.int) hX0_dropDeed
theorem mdX0_dropDeed : rv_md yX0_dropDeed wX0_dropDeed 3 := ⟨4, Or.inr ⟨_, _, _, rfl⟩, q1679, q123, ⟨by decide +kernel, by decide +kernel⟩, by decide +kernel, by decide⟩
abbrev hX0_stratum : List (Nat × Nat × Nat × Nat) := [(0, 9, 12, 21)]
abbrev wX0_stratum : Cond := Cond.codeWith yX0_stratum cX0_stratum 4 (some FieldType.int) hX0_stratum
theorem mdX0_stratum : rv_md yX0_stratum wX0_stratum 3 := ⟨4, Or.inr ⟨_, _, _, rfl⟩, q1686, q123, ⟨by decide +kernel, by decide +kernel⟩, by decide +kernel, by decide⟩
abbrev hX0_depth : List (Nat × Nat × Nat × Nat) := [(0, 9, 12, 21), (0, 9, 15, 13)]
abbrev wX0_depth : Cond := Cond.codeWith yX0_depth cX0_depth 4 (some FieldType.int) hX0_depth
theorem mdX0_depth : rv_md yX0_depth wX0_depth 3 := ⟨4, Or.inr ⟨_, _, _, rfl⟩, q1693, q123, ⟨by decide +kernel, by decide +kernel⟩, by decide +kernel, by decide⟩
abbrev hX0_why : List (Nat × Nat × Nat × Nat) := [(0, 9, 12, 21), (0, 9, 15, 13)]
abbrev wX0_why : Cond := Cond.codeWith yX0_why cX0_why 4 (some FieldType.int) hX0_why
theorem mdX0_why : rv_md yX0_why wX0_why 3 := ⟨4, Or.inr ⟨_, _, _, rfl⟩, q1822, q123, ⟨by decide +kernel, by decide +kernel⟩, by decide +kernel, by decide⟩
abbrev hX0_reasons : List (Nat × Nat × Nat × Nat) := [(0, 9, 12, 21), (0, 9, 15, 13)]
abbrev wX0_reasons : Cond := Cond.codeWith yX0_reasons cX0_reasons 4 (some FieldType.int) hX0_reasons
theorem mdX0_reasons : rv_md yX0_reasons wX0_reasons 3 := ⟨4, Or.inr ⟨_, _, _, rfl⟩, q1883, q123, ⟨by decide +kernel, by decide +kernel⟩, by decide +kernel, by decide⟩
abbrev hX0_reasonAt : List (Nat × Nat × Nat × Nat) := [(0, 10, 13, 21), (0, 10, 17, 13)]
abbrev wX0_reasonAt : Cond := Cond.codeWith yX0_reasonAt cX0_reasonAt 5 (some FieldType.int) hX0_reasonAt
theorem mdX0_reasonAt : rv_md yX0_reasonAt wX0_reasonAt 4 := ⟨5, Or.inr ⟨_, _, _, rfl⟩, q1890, q123, ⟨by decide +kernel, by decide +kernel⟩, by decide +kernel, by decide⟩
abbrev hX0_dependsOn : List (Nat × Nat × Nat × Nat) := [(0, 17, 20, 21), (0, 17, 24, 13)]
abbrev wX0_dependsOn : Cond := Cond.codeWith yX0_dependsOn cX0_dependsOn 5 (some FieldType.int) hX0_dependsOn
theorem mdX0_dependsOn : rv_md yX0_dependsOn wX0_dependsOn 4 := ⟨5, Or.inr ⟨_, _, _, rfl⟩, q1897, q123, ⟨by decide +kernel, by decide +kernel⟩, by decide +kernel, by decide⟩
abbrev hX0_whyNot : List (Nat × Nat × Nat × Nat) := [(0, 10, 13, 21), (0, 10, 17, 13)]
abbrev wX0_whyNot : Cond := Cond.codeWith yX0_whyNot cX0_whyNot 5 (some FieldType.int) hX0_whyNot
theorem mdX0_whyNot : rv_md yX0_whyNot wX0_whyNot 4 := ⟨5, Or.inr ⟨_, _, _, rfl⟩, q1905, q123, ⟨by decide +kernel, by decide +kernel⟩, by decide +kernel, by decide⟩
abbrev hX0_answers : List (Nat × Nat × Nat × Nat) := [(0, 14, 17, 21), (0, 14, 21, 13)]
abbrev wX0_answers : Cond := Cond.codeWith yX0_answers cX0_answers 7 (some FieldType.int) hX0_answers
theorem mdX0_answers : rv_md yX0_answers wX0_answers 6 := ⟨7, Or.inr ⟨_, _, _, rfl⟩, q1914, q123, ⟨by decide +kernel, by decide +kernel⟩, by decide +kernel, by decide⟩
abbrev hX0_goals : List (Nat × Nat × Nat × Nat) := [(0, 14, 17, 21), (0, 14, 21, 13)]
abbrev wX0_goals : Cond := Cond.codeWith yX0_goals cX0_goals 7 (some FieldType.int) hX0_goals
theorem mdX0_goals : rv_md yX0_goals wX0_goals 6 := ⟨7, Or.inr ⟨_, _, _, rfl⟩, q1925, q123, ⟨by decide +kernel, by decide +kernel⟩, by decide +kernel, by decide⟩
abbrev hX0_matches : List (Nat × Nat × Nat × Nat) := [(0, 10, 13, 21), (0, 10, 17, 13)]
abbrev wX0_matches : Cond := Cond.codeWith yX0_matches cX0_matches 5 (some FieldType.int) hX0_matches
theorem mdX0_matches : rv_md yX0_matches wX0_matches 4 := ⟨5, Or.inr ⟨_, _, _, rfl⟩, q1991, q123, ⟨by decide +kernel, by decide +kernel⟩, by decide +kernel, by decide⟩
abbrev hX0_planAt : List (Nat × Nat × Nat × Nat) := [(0, 10, 13, 21)]
abbrev wX0_planAt : Cond := Cond.codeWith yX0_planAt cX0_planAt 5 (some FieldType.int) hX0_planAt
theorem mdX0_planAt : rv_md yX0_planAt wX0_planAt 4 := ⟨5, Or.inr ⟨_, _, _, rfl⟩, q2004, q123, ⟨by decide +kernel, by decide +kernel⟩, by decide +kernel, by decide⟩
abbrev hX0_work : List (Nat × Nat × Nat × Nat) := [(0, 10, 13, 21)]
abbrev wX0_work : Cond := Cond.codeWith yX0_work cX0_work 5 (some FieldType.int) hX0_work
theorem mdX0_work : rv_md yX0_work wX0_work 4 := ⟨5, Or.inr ⟨_, _, _, rfl⟩, q2031, q123, ⟨by decide +kernel, by decide +kernel⟩, by decide +kernel, by decide⟩
abbrev hX0_agenda : List (Nat × Nat × Nat × Nat) := [(0, 9, 12, 13)]
abbrev wX0_agenda : Cond := Cond.codeWith yX0_agenda cX0_agenda 4 (some FieldType.int) hX0_agenda
theorem mdX0_agenda : rv_md yX0_agenda wX0_agenda 3 := ⟨4, Or.inr ⟨_, _, _, rfl⟩, q2038, q123, ⟨by decide +kernel, by decide +kernel⟩, by decide +kernel, by decide⟩
abbrev hX0_fire : List (Nat × Nat × Nat × Nat) := [(0, 8, 11, 15)]
abbrev wX0_fire : Cond := Cond.codeWith yX0_fire cX0_fire 3 (some FieldType.int) hX0_fire
theorem mdX0_fire : rv_md yX0_fire wX0_fire 2 := ⟨3, Or.inr ⟨_, _, _, rfl⟩, q2045, q123, ⟨by decide +kernel, by decide +kernel⟩, by decide +kernel, by decide⟩
abbrev hX0_run : List (Nat × Nat × Nat × Nat) := [(0, 9, 12, 13)]
abbrev wX0_run : Cond := Cond.codeWith yX0_run cX0_run 4 (some FieldType.int) hX0_run
theorem mdX0_run : rv_md yX0_run wX0_run 3 := ⟨4, Or.inr ⟨_, _, _, rfl⟩, q2052, q123, ⟨by decide +kernel, by decide +kernel⟩, by decide +kernel, by decide⟩
abbrev hX0_focus : List (Nat × Nat × Nat × Nat) := [(0, 9, 12, 13), (0, 9, 15, 15)]
abbrev wX0_focus : Cond := Cond.codeWith yX0_focus cX0_focus 4 (some FieldType.int) hX0_focus
theorem mdX0_focus : rv_md yX0_focus wX0_focus 3 := ⟨4, Or.inr ⟨_, _, _, rfl⟩, q2060, q123, ⟨by decide +kernel, by decide +kernel⟩, by decide +kernel, by decide⟩
abbrev hX0_tick : List (Nat × Nat × Nat × Nat) := [(0, 9, 12, 13), (0, 9, 15, 15)]
abbrev wX0_tick : Cond := Cond.codeWith yX0_tick cX0_tick 4 (some FieldType.int) hX0_tick
theorem mdX0_tick : rv_md yX0_tick wX0_tick 3 := ⟨4, Or.inr ⟨_, _, _, rfl⟩, q2067, q123, ⟨by decide +kernel, by decide +kernel⟩, by decide +kernel, by decide⟩
abbrev hX0_begin : List (Nat × Nat × Nat × Nat) := [(0, 8, 11, 15)]
abbrev wX0_begin : Cond := Cond.codeWith yX0_begin cX0_begin 3 (some FieldType.int) hX0_begin
theorem mdX0_begin : rv_md yX0_begin wX0_begin 2 := ⟨3, Or.inr ⟨_, _, _, rfl⟩, q2074, q123, ⟨by decide +kernel, by decide +kernel⟩, by decide +kernel, by decide⟩
abbrev hX0_commit : List (Nat × Nat × Nat × Nat) := [(0, 8, 11, 15)]
abbrev wX0_commit : Cond := Cond.codeWith yX0_commit cX0_commit 3 (some FieldType.int) hX0_commit
theorem mdX0_commit : rv_md yX0_commit wX0_commit 2 := ⟨3, Or.inr ⟨_, _, _, rfl⟩, q2081, q123, ⟨by decide +kernel, by decide +kernel⟩, by decide +kernel, by decide⟩
abbrev hX0_rollBack : List (Nat × Nat × Nat × Nat) := [(0, 8, 11, 15)]
abbrev wX0_rollBack : Cond := Cond.codeWith yX0_rollBack cX0_rollBack 3 (some FieldType.int) hX0_rollBack
theorem mdX0_rollBack : rv_md yX0_rollBack wX0_rollBack 2 := ⟨3, Or.inr ⟨_, _, _, rfl⟩, q2088, q123, ⟨by decide +kernel, by decide +kernel⟩, by decide +kernel, by decide⟩
abbrev wX1_init : Cond := Cond.code yX1_init cX1_init 1 none
theorem mdX1_init : rv_md yX1_init wX1_init 0 := ⟨1, Or.inl ⟨_, _, rfl⟩, q169, q124, ⟨by decide +kernel, by decide +kernel⟩, by decide +kernel, by decide⟩
abbrev wX1_standing : Cond := Cond.code yX1_standing cX1_standing 1 (some FieldType.int)
theorem mdX1_standing : rv_md yX1_standing wX1_standing 0 := ⟨1, Or.inl ⟨_, _, rfl⟩, q711, q124, ⟨by decide +kernel, by decide +kernel⟩, by decide +kernel, by decide⟩
abbrev wX1_cancel : Cond := Cond.code yX1_cancel cX1_cancel 2 (some FieldType.boolean)
theorem mdX1_cancel : rv_md yX1_cancel wX1_cancel 0 := ⟨2, Or.inl ⟨_, _, rfl⟩, q715, q124, ⟨by decide +kernel, by decide +kernel⟩, by decide +kernel, by decide⟩
abbrev wX1_beginnings : Cond := Cond.code yX1_beginnings cX1_beginnings 2 (some FieldType.int)
theorem mdX1_beginnings : rv_md yX1_beginnings wX1_beginnings 0 := ⟨2, Or.inl ⟨_, _, rfl⟩, q719, q124, ⟨by decide +kernel, by decide +kernel⟩, by decide +kernel, by decide⟩
abbrev wX1_addBeginnings : Cond := Cond.code yX1_addBeginnings cX1_addBeginnings 5 none
theorem mdX1_addBeginnings : rv_md yX1_addBeginnings wX1_addBeginnings 2 := ⟨5, Or.inl ⟨_, _, rfl⟩, q723, q124, ⟨by decide +kernel, by decide +kernel⟩, by decide +kernel, by decide⟩
abbrev wX1_beginning : Cond := Cond.code yX1_beginning cX1_beginning 9 (some (FieldType.object "java/lang/String"))
theorem mdX1_beginning : rv_md yX1_beginning wX1_beginning 2 := ⟨9, Or.inl ⟨_, _, rfl⟩, q745, q124, ⟨by decide +kernel, by decide +kernel⟩, by decide +kernel, by decide⟩
abbrev wX1_unknown : Cond := Cond.code yX1_unknown cX1_unknown 1 (some (FieldType.array FieldType.int))
theorem mdX1_unknown : rv_md yX1_unknown wX1_unknown 0 := ⟨1, Or.inl ⟨_, _, rfl⟩, q750, q124, ⟨by decide +kernel, by decide +kernel⟩, by decide +kernel, by decide⟩
abbrev wX1_forget : Cond := Cond.code yX1_forget cX1_forget 2 none
theorem mdX1_forget : rv_md yX1_forget wX1_forget 1 := ⟨2, Or.inl ⟨_, _, rfl⟩, q753, q124, ⟨by decide +kernel, by decide +kernel⟩, by decide +kernel, by decide⟩
abbrev wX1_next : Cond := Cond.code yX1_next cX1_next 2 (some FieldType.int)
theorem mdX1_next : rv_md yX1_next wX1_next 0 := ⟨2, Or.inl ⟨_, _, rfl⟩, q833, q124, ⟨by decide +kernel, by decide +kernel⟩, by decide +kernel, by decide⟩
abbrev wX1_ahead : Cond := Cond.code yX1_ahead cX1_ahead 3 (some (FieldType.object "Rulehearth$Agenda"))
theorem mdX1_ahead : rv_md yX1_ahead wX1_ahead 2 := ⟨3, Or.inl ⟨_, _, rfl⟩, q836, q124, ⟨by decide +kernel, by decide +kernel⟩, by decide +kernel, by decide⟩
abbrev hX1_runs : List (Nat × Nat × Nat × Nat) := [(0, 4, 7, 98)]
abbrev wX1_runs : Cond := Cond.codeWith yX1_runs cX1_runs 2 (some FieldType.int) hX1_runs
theorem mdX1_runs : rv_md yX1_runs wX1_runs 1 := ⟨2, Or.inr ⟨_, _, _, rfl⟩, q922, q124, ⟨by decide +kernel, by decide +kernel⟩, by decide +kernel, by decide⟩
abbrev wX1_valueOf : Cond := Cond.code yX1_valueOf cX1_valueOf 2 (some FieldType.int)
theorem mdX1_valueOf : rv_md yX1_valueOf wX1_valueOf 2 := ⟨2, Or.inl ⟨_, _, rfl⟩, q985, q124, ⟨by decide +kernel, by decide +kernel⟩, by decide +kernel, by decide⟩
abbrev wX1_maskOf : Cond := Cond.code yX1_maskOf cX1_maskOf 6 (some FieldType.long)
theorem mdX1_maskOf : rv_md yX1_maskOf wX1_maskOf 2 := ⟨6, Or.inl ⟨_, _, rfl⟩, q1021, q124, ⟨by decide +kernel, by decide +kernel⟩, by decide +kernel, by decide⟩
abbrev wX1_slotOf : Cond := Cond.code yX1_slotOf cX1_slotOf 2 (some FieldType.int)
theorem mdX1_slotOf : rv_md yX1_slotOf wX1_slotOf 2 := ⟨2, Or.inl ⟨_, _, rfl⟩, q1043, q124, ⟨by decide +kernel, by decide +kernel⟩, by decide +kernel, by decide⟩
abbrev wX1_bind : Cond := Cond.code yX1_bind cX1_bind 4 (some FieldType.boolean)
theorem mdX1_bind : rv_md yX1_bind wX1_bind 3 := ⟨4, Or.inl ⟨_, _, rfl⟩, q1046, q124, ⟨by decide +kernel, by decide +kernel⟩, by decide +kernel, by decide⟩
abbrev wX1_nextFact : Cond := Cond.code yX1_nextFact cX1_nextFact 2 (some FieldType.int)
theorem mdX1_nextFact : rv_md yX1_nextFact wX1_nextFact 0 := ⟨2, Or.inl ⟨_, _, rfl⟩, q1092, q124, ⟨by decide +kernel, by decide +kernel⟩, by decide +kernel, by decide⟩
abbrev wX1_focused : Cond := Cond.code yX1_focused cX1_focused 1 (some FieldType.int)
theorem mdX1_focused : rv_md yX1_focused wX1_focused 0 := ⟨1, Or.inl ⟨_, _, rfl⟩, q1096, q124, ⟨by decide +kernel, by decide +kernel⟩, by decide +kernel, by decide⟩
abbrev wX1_now : Cond := Cond.code yX1_now cX1_now 1 (some FieldType.int)
theorem mdX1_now : rv_md yX1_now wX1_now 0 := ⟨1, Or.inl ⟨_, _, rfl⟩, q1100, q124, ⟨by decide +kernel, by decide +kernel⟩, by decide +kernel, by decide⟩
abbrev wX1_relation : Cond := Cond.code yX1_relation cX1_relation 3 (some FieldType.int)
theorem mdX1_relation : rv_md yX1_relation wX1_relation 1 := ⟨3, Or.inl ⟨_, _, rfl⟩, q1109, q124, ⟨by decide +kernel, by decide +kernel⟩, by decide +kernel, by decide⟩
abbrev wX1_checkArgument : Cond := Cond.code yX1_checkArgument cX1_checkArgument 1 none
theorem mdX1_checkArgument : rv_md yX1_checkArgument wX1_checkArgument 1 := ⟨1, Or.inl ⟨_, _, rfl⟩, q1112, q124, ⟨by decide +kernel, by decide +kernel⟩, by decide +kernel, by decide⟩
abbrev wX1_checkState : Cond := Cond.code yX1_checkState cX1_checkState 1 none
theorem mdX1_checkState : rv_md yX1_checkState wX1_checkState 1 := ⟨1, Or.inl ⟨_, _, rfl⟩, q1126, q124, ⟨by decide +kernel, by decide +kernel⟩, by decide +kernel, by decide⟩
abbrev wX1_tell : Cond := Cond.code yX1_tell cX1_tell 4 (some FieldType.int)
theorem mdX1_tell : rv_md yX1_tell wX1_tell 2 := ⟨4, Or.inl ⟨_, _, rfl⟩, q1177, q124, ⟨by decide +kernel, by decide +kernel⟩, by decide +kernel, by decide⟩
abbrev wX1_checkFact : Cond := Cond.code yX1_checkFact cX1_checkFact 2 none
theorem mdX1_checkFact : rv_md yX1_checkFact wX1_checkFact 1 := ⟨2, Or.inl ⟨_, _, rfl⟩, q1181, q124, ⟨by decide +kernel, by decide +kernel⟩, by decide +kernel, by decide⟩
abbrev wX1_checkIndex : Cond := Cond.code yX1_checkIndex cX1_checkIndex 2 none
theorem mdX1_checkIndex : rv_md yX1_checkIndex wX1_checkIndex 2 := ⟨2, Or.inl ⟨_, _, rfl⟩, q1185, q124, ⟨by decide +kernel, by decide +kernel⟩, by decide +kernel, by decide⟩
abbrev wX1_isProper : Cond := Cond.code yX1_isProper cX1_isProper 3 (some FieldType.boolean)
theorem mdX1_isProper : rv_md yX1_isProper wX1_isProper 1 := ⟨3, Or.inl ⟨_, _, rfl⟩, q1204, q124, ⟨by decide +kernel, by decide +kernel⟩, by decide +kernel, by decide⟩
abbrev wX1_relationOf : Cond := Cond.code yX1_relationOf cX1_relationOf 1 (some FieldType.int)
theorem mdX1_relationOf : rv_md yX1_relationOf wX1_relationOf 1 := ⟨1, Or.inl ⟨_, _, rfl⟩, q1207, q124, ⟨by decide +kernel, by decide +kernel⟩, by decide +kernel, by decide⟩
abbrev hX1_become : List (Nat × Nat × Nat × Nat) := [(0, 4, 7, 98), (0, 4, 7, 100)]
abbrev wX1_become : Cond := Cond.codeWith yX1_become cX1_become 3 (some FieldType.int) hX1_become
theorem mdX1_become : rv_md yX1_become wX1_become 1 := ⟨3, Or.inr ⟨_, _, _, rfl⟩, q1226, q124, ⟨by decide +kernel, by decide +kernel⟩, by decide +kernel, by decide⟩
abbrev wX1_take : Cond := Cond.code yX1_take cX1_take 4 (some FieldType.int)
theorem mdX1_take : rv_md yX1_take wX1_take 1 := ⟨4, Or.inl ⟨_, _, rfl⟩, q1405, q124, ⟨by decide +kernel, by decide +kernel⟩, by decide +kernel, by decide⟩
abbrev wX1_stands : Cond := Cond.code yX1_stands cX1_stands 2 (some FieldType.boolean)
theorem mdX1_stands : rv_md yX1_stands wX1_stands 1 := ⟨2, Or.inl ⟨_, _, rfl⟩, q1414, q124, ⟨by decide +kernel, by decide +kernel⟩, by decide +kernel, by decide⟩
abbrev hX1_standsByRounds : List (Nat × Nat × Nat × Nat) := [(5, 23, 24, 98), (5, 23, 24, 100)]
abbrev wX1_standsByRounds : Cond := Cond.codeWith yX1_standsByRounds cX1_standsByRounds 3 (some FieldType.boolean) hX1_standsByRounds
theorem mdX1_standsByRounds : rv_md yX1_standsByRounds wX1_standsByRounds 1 := ⟨3, Or.inr ⟨_, _, _, rfl⟩, q1422, q124, ⟨by decide +kernel, by decide +kernel⟩, by decide +kernel, by decide⟩
abbrev wX1_endOf : Cond := Cond.code yX1_endOf cX1_endOf 3 (some FieldType.int)
theorem mdX1_endOf : rv_md yX1_endOf wX1_endOf 1 := ⟨3, Or.inl ⟨_, _, rfl⟩, q1434, q124, ⟨by decide +kernel, by decide +kernel⟩, by decide +kernel, by decide⟩
abbrev wX1_tag : Cond := Cond.code yX1_tag cX1_tag 2 (some FieldType.int)
theorem mdX1_tag : rv_md yX1_tag wX1_tag 1 := ⟨2, Or.inl ⟨_, _, rfl⟩, q1442, q124, ⟨by decide +kernel, by decide +kernel⟩, by decide +kernel, by decide⟩
abbrev wX1_standingAt : Cond := Cond.code yX1_standingAt cX1_standingAt 2 (some FieldType.int)
theorem mdX1_standingAt : rv_md yX1_standingAt wX1_standingAt 1 := ⟨2, Or.inl ⟨_, _, rfl⟩, q1450, q124, ⟨by decide +kernel, by decide +kernel⟩, by decide +kernel, by decide⟩
abbrev wX1_rule : Cond := Cond.code yX1_rule cX1_rule 2 none
theorem mdX1_rule : rv_md yX1_rule wX1_rule 1 := ⟨2, Or.inl ⟨_, _, rfl⟩, q1457, q124, ⟨by decide +kernel, by decide +kernel⟩, by decide +kernel, by decide⟩
abbrev wX1_head : Cond := Cond.code yX1_head cX1_head 2 (some (FieldType.object "Rulehearth$Item"))
theorem mdX1_head : rv_md yX1_head wX1_head 1 := ⟨2, Or.inl ⟨_, _, rfl⟩, q1462, q124, ⟨by decide +kernel, by decide +kernel⟩, by decide +kernel, by decide⟩
abbrev wX1_checkRelation : Cond := Cond.code yX1_checkRelation cX1_checkRelation 2 none
theorem mdX1_checkRelation : rv_md yX1_checkRelation wX1_checkRelation 1 := ⟨2, Or.inl ⟨_, _, rfl⟩, q1466, q124, ⟨by decide +kernel, by decide +kernel⟩, by decide +kernel, by decide⟩
abbrev wX1_begin : Cond := Cond.code yX1_begin cX1_begin 2 none
theorem mdX1_begin : rv_md yX1_begin wX1_begin 1 := ⟨2, Or.inl ⟨_, _, rfl⟩, q1559, q124, ⟨by decide +kernel, by decide +kernel⟩, by decide +kernel, by decide⟩
abbrev wX1_deed : Cond := Cond.code yX1_deed cX1_deed 6 none
theorem mdX1_deed : rv_md yX1_deed wX1_deed 4 := ⟨6, Or.inl ⟨_, _, rfl⟩, q1566, q124, ⟨by decide +kernel, by decide +kernel⟩, by decide +kernel, by decide⟩
abbrev wX1_variable : Cond := Cond.code yX1_variable cX1_variable 2 none
theorem mdX1_variable : rv_md yX1_variable wX1_variable 1 := ⟨2, Or.inl ⟨_, _, rfl⟩, q1573, q124, ⟨by decide +kernel, by decide +kernel⟩, by decide +kernel, by decide⟩
abbrev wX1_checkVariable : Cond := Cond.code yX1_checkVariable cX1_checkVariable 1 none
theorem mdX1_checkVariable : rv_md yX1_checkVariable wX1_checkVariable 1 := ⟨1, Or.inl ⟨_, _, rfl⟩, q1576, q124, ⟨by decide +kernel, by decide +kernel⟩, by decide +kernel, by decide⟩
abbrev wX1_add : Cond := Cond.code yX1_add cX1_add 3 none
theorem mdX1_add : rv_md yX1_add wX1_add 1 := ⟨3, Or.inl ⟨_, _, rfl⟩, q1580, q124, ⟨by decide +kernel, by decide +kernel⟩, by decide +kernel, by decide⟩
abbrev wX1_value : Cond := Cond.code yX1_value cX1_value 2 none
theorem mdX1_value : rv_md yX1_value wX1_value 1 := ⟨2, Or.inl ⟨_, _, rfl⟩, q1599, q124, ⟨by decide +kernel, by decide +kernel⟩, by decide +kernel, by decide⟩
abbrev wX1_gather : Cond := Cond.code yX1_gather cX1_gather 3 none
theorem mdX1_gather : rv_md yX1_gather wX1_gather 2 := ⟨3, Or.inl ⟨_, _, rfl⟩, q1606, q124, ⟨by decide +kernel, by decide +kernel⟩, by decide +kernel, by decide⟩
abbrev wX1_atom : Cond := Cond.code yX1_atom cX1_atom 2 none
theorem mdX1_atom : rv_md yX1_atom wX1_atom 1 := ⟨2, Or.inl ⟨_, _, rfl⟩, q1613, q124, ⟨by decide +kernel, by decide +kernel⟩, by decide +kernel, by decide⟩
abbrev wX1_addItem : Cond := Cond.code yX1_addItem cX1_addItem 2 none
theorem mdX1_addItem : rv_md yX1_addItem wX1_addItem 1 := ⟨2, Or.inl ⟨_, _, rfl⟩, q1617, q124, ⟨by decide +kernel, by decide +kernel⟩, by decide +kernel, by decide⟩
abbrev wX1_not : Cond := Cond.code yX1_not cX1_not 2 none
theorem mdX1_not : rv_md yX1_not wX1_not 1 := ⟨2, Or.inl ⟨_, _, rfl⟩, q1625, q124, ⟨by decide +kernel, by decide +kernel⟩, by decide +kernel, by decide⟩
abbrev wX1_test : Cond := Cond.code yX1_test cX1_test 2 none
theorem mdX1_test : rv_md yX1_test wX1_test 1 := ⟨2, Or.inl ⟨_, _, rfl⟩, q1632, q124, ⟨by decide +kernel, by decide +kernel⟩, by decide +kernel, by decide⟩
abbrev wX1_plus : Cond := Cond.code yX1_plus cX1_plus 1 none
theorem mdX1_plus : rv_md yX1_plus wX1_plus 0 := ⟨1, Or.inl ⟨_, _, rfl⟩, q1639, q124, ⟨by decide +kernel, by decide +kernel⟩, by decide +kernel, by decide⟩
abbrev hX1_done : List (Nat × Nat × Nat × Nat) := [(15, 22, 25, 100)]
abbrev wX1_done : Cond := Cond.codeWith yX1_done cX1_done 3 (some FieldType.int) hX1_done
theorem mdX1_done : rv_md yX1_done wX1_done 0 := ⟨3, Or.inr ⟨_, _, _, rfl⟩, q1646, q124, ⟨by decide +kernel, by decide +kernel⟩, by decide +kernel, by decide⟩
abbrev wX1_checkSound : Cond := Cond.code yX1_checkSound cX1_checkSound 3 none
theorem mdX1_checkSound : rv_md yX1_checkSound wX1_checkSound 1 := ⟨3, Or.inl ⟨_, _, rfl⟩, q1649, q124, ⟨by decide +kernel, by decide +kernel⟩, by decide +kernel, by decide⟩
abbrev wX1_needed : Cond := Cond.code yX1_needed cX1_needed 3 (some FieldType.int)
theorem mdX1_needed : rv_md yX1_needed wX1_needed 1 := ⟨3, Or.inl ⟨_, _, rfl⟩, q1655, q124, ⟨by decide +kernel, by decide +kernel⟩, by decide +kernel, by decide⟩
abbrev wX1_known : Cond := Cond.code yX1_known cX1_known 3 (some FieldType.int)
theorem mdX1_known : rv_md yX1_known wX1_known 1 := ⟨3, Or.inl ⟨_, _, rfl⟩, q1660, q124, ⟨by decide +kernel, by decide +kernel⟩, by decide +kernel, by decide⟩
abbrev wX1_drop : Cond := Cond.code yX1_drop cX1_drop 4 (some FieldType.int)
theorem mdX1_drop : rv_md yX1_drop wX1_drop 1 := ⟨4, Or.inl ⟨_, _, rfl⟩, q1669, q124, ⟨by decide +kernel, by decide +kernel⟩, by decide +kernel, by decide⟩
abbrev wX1_find : Cond := Cond.code yX1_find cX1_find 3 (some (FieldType.object "Rulehearth$Clause"))
theorem mdX1_find : rv_md yX1_find wX1_find 2 := ⟨3, Or.inl ⟨_, _, rfl⟩, q1672, q124, ⟨by decide +kernel, by decide +kernel⟩, by decide +kernel, by decide⟩
abbrev wX1_dropDeed : Cond := Cond.code yX1_dropDeed cX1_dropDeed 4 (some FieldType.int)
theorem mdX1_dropDeed : rv_md yX1_dropDeed wX1_dropDeed 1 := ⟨4, Or.inl ⟨_, _, rfl⟩, q1683, q124, ⟨by decide +kernel, by decide +kernel⟩, by decide +kernel, by decide⟩
abbrev hX1_stratum : List (Nat × Nat × Nat × Nat) := [(5, 14, 15, 100)]
abbrev wX1_stratum : Cond := Cond.codeWith yX1_stratum cX1_stratum 3 (some FieldType.int) hX1_stratum
theorem mdX1_stratum : rv_md yX1_stratum wX1_stratum 1 := ⟨3, Or.inr ⟨_, _, _, rfl⟩, q1690, q124, ⟨by decide +kernel, by decide +kernel⟩, by decide +kernel, by decide⟩
abbrev wX1_depth : Cond := Cond.code yX1_depth cX1_depth 3 (some FieldType.int)
theorem mdX1_depth : rv_md yX1_depth wX1_depth 1 := ⟨3, Or.inl ⟨_, _, rfl⟩, q1697, q124, ⟨by decide +kernel, by decide +kernel⟩, by decide +kernel, by decide⟩
abbrev wX1_reasonsOfNow : Cond := Cond.code yX1_reasonsOfNow cX1_reasonsOfNow 1 (some (FieldType.object "Rulehearth$Reasons"))
theorem mdX1_reasonsOfNow : rv_md yX1_reasonsOfNow wX1_reasonsOfNow 0 := ⟨1, Or.inl ⟨_, _, rfl⟩, q1701, q124, ⟨by decide +kernel, by decide +kernel⟩, by decide +kernel, by decide⟩
abbrev wX1_matcher : Cond := Cond.code yX1_matcher cX1_matcher 4 (some (FieldType.object "Rulehearth$Matcher"))
theorem mdX1_matcher : rv_md yX1_matcher wX1_matcher 3 := ⟨4, Or.inl ⟨_, _, rfl⟩, q1724, q124, ⟨by decide +kernel, by decide +kernel⟩, by decide +kernel, by decide⟩
abbrev wX1_why : Cond := Cond.code yX1_why cX1_why 3 (some FieldType.int)
theorem mdX1_why : rv_md yX1_why wX1_why 1 := ⟨3, Or.inl ⟨_, _, rfl⟩, q1826, q124, ⟨by decide +kernel, by decide +kernel⟩, by decide +kernel, by decide⟩
abbrev wX1_whyOf : Cond := Cond.code yX1_whyOf cX1_whyOf 10 (some (FieldType.object "Rulehearth$Why"))
theorem mdX1_whyOf : rv_md yX1_whyOf wX1_whyOf 1 := ⟨10, Or.inl ⟨_, _, rfl⟩, q1830, q124, ⟨by decide +kernel, by decide +kernel⟩, by decide +kernel, by decide⟩
abbrev wX1_firstOf : Cond := Cond.code yX1_firstOf cX1_firstOf 8 none
theorem mdX1_firstOf : rv_md yX1_firstOf wX1_firstOf 5 := ⟨8, Or.inl ⟨_, _, rfl⟩, q1852, q124, ⟨by decide +kernel, by decide +kernel⟩, by decide +kernel, by decide⟩
abbrev wX1_reasons : Cond := Cond.code yX1_reasons cX1_reasons 3 (some FieldType.int)
theorem mdX1_reasons : rv_md yX1_reasons wX1_reasons 1 := ⟨3, Or.inl ⟨_, _, rfl⟩, q1887, q124, ⟨by decide +kernel, by decide +kernel⟩, by decide +kernel, by decide⟩
abbrev wX1_reasonAt : Cond := Cond.code yX1_reasonAt cX1_reasonAt 4 (some FieldType.int)
theorem mdX1_reasonAt : rv_md yX1_reasonAt wX1_reasonAt 2 := ⟨4, Or.inl ⟨_, _, rfl⟩, q1894, q124, ⟨by decide +kernel, by decide +kernel⟩, by decide +kernel, by decide⟩
abbrev wX1_dependsOn : Cond := Cond.code yX1_dependsOn cX1_dependsOn 11 (some FieldType.boolean)
theorem mdX1_dependsOn : rv_md yX1_dependsOn wX1_dependsOn 2 := ⟨11, Or.inl ⟨_, _, rfl⟩, q1901, q124, ⟨by decide +kernel, by decide +kernel⟩, by decide +kernel, by decide⟩
abbrev wX1_whyNot : Cond := Cond.code yX1_whyNot cX1_whyNot 6 (some FieldType.int)
theorem mdX1_whyNot : rv_md yX1_whyNot wX1_whyNot 2 := ⟨6, Or.inl ⟨_, _, rfl⟩, q1909, q124, ⟨by decide +kernel, by decide +kernel⟩, by decide +kernel, by decide⟩
abbrev wX1_lambda_whyNot_0 : Cond := Cond.code yX1_lambda_whyNot_0 cX1_lambda_whyNot_0 2 (some FieldType.boolean)
theorem mdX1_lambda_whyNot_0 : rv_md yX1_lambda_whyNot_0 wX1_lambda_whyNot_0 2 := ⟨2, Or.inl ⟨_, _, rfl⟩, q1911, q124, ⟨by decide +kernel, by decide +kernel⟩, by decide +kernel, by decide⟩
abbrev wX1_answers : Cond := Cond.code yX1_answers cX1_answers 9 (some FieldType.int)
theorem mdX1_answers : rv_md yX1_answers wX1_answers 4 := ⟨9, Or.inl ⟨_, _, rfl⟩, q1918, q124, ⟨by decide +kernel, by decide +kernel⟩, by decide +kernel, by decide⟩
abbrev wX1_checkGoal : Cond := Cond.code yX1_checkGoal cX1_checkGoal 6 none
theorem mdX1_checkGoal : rv_md yX1_checkGoal wX1_checkGoal 4 := ⟨6, Or.inl ⟨_, _, rfl⟩, q1922, q124, ⟨by decide +kernel, by decide +kernel⟩, by decide +kernel, by decide⟩
abbrev wX1_goals : Cond := Cond.code yX1_goals cX1_goals 6 (some FieldType.int)
theorem mdX1_goals : rv_md yX1_goals wX1_goals 4 := ⟨6, Or.inl ⟨_, _, rfl⟩, q1929, q124, ⟨by decide +kernel, by decide +kernel⟩, by decide +kernel, by decide⟩
abbrev wX1_matches : Cond := Cond.code yX1_matches cX1_matches 4 (some FieldType.int)
theorem mdX1_matches : rv_md yX1_matches wX1_matches 2 := ⟨4, Or.inl ⟨_, _, rfl⟩, q1995, q124, ⟨by decide +kernel, by decide +kernel⟩, by decide +kernel, by decide⟩
abbrev wX1_count : Cond := Cond.code yX1_count cX1_count 5 (some FieldType.int)
theorem mdX1_count : rv_md yX1_count wX1_count 2 := ⟨5, Or.inl ⟨_, _, rfl⟩, q1999, q124, ⟨by decide +kernel, by decide +kernel⟩, by decide +kernel, by decide⟩
abbrev wX1_lambda_count_1 : Cond := Cond.code yX1_lambda_count_1 cX1_lambda_count_1 3 (some FieldType.boolean)
theorem mdX1_lambda_count_1 : rv_md yX1_lambda_count_1 wX1_lambda_count_1 3 := ⟨3, Or.inl ⟨_, _, rfl⟩, q2001, q124, ⟨by decide +kernel, by decide +kernel⟩, by decide +kernel, by decide⟩
abbrev wX1_planAt : Cond := Cond.code yX1_planAt cX1_planAt 4 (some FieldType.int)
theorem mdX1_planAt : rv_md yX1_planAt wX1_planAt 2 := ⟨4, Or.inl ⟨_, _, rfl⟩, q2008, q124, ⟨by decide +kernel, by decide +kernel⟩, by decide +kernel, by decide⟩
abbrev wX1_plan : Cond := Cond.code yX1_plan cX1_plan 10 (some (FieldType.object "java/util/ArrayList"))
theorem mdX1_plan : rv_md yX1_plan wX1_plan 1 := ⟨10, Or.inl ⟨_, _, rfl⟩, q2012, q124, ⟨by decide +kernel, by decide +kernel⟩, by decide +kernel, by decide⟩
abbrev wX1_atomsOf : Cond := Cond.code yX1_atomsOf cX1_atomsOf 3 (some (FieldType.object "java/util/ArrayList"))
theorem mdX1_atomsOf : rv_md yX1_atomsOf wX1_atomsOf 1 := ⟨3, Or.inl ⟨_, _, rfl⟩, q2015, q124, ⟨by decide +kernel, by decide +kernel⟩, by decide +kernel, by decide⟩
abbrev wX1_haveCommon : Cond := Cond.code yX1_haveCommon cX1_haveCommon 4 (some FieldType.boolean)
theorem mdX1_haveCommon : rv_md yX1_haveCommon wX1_haveCommon 2 := ⟨4, Or.inl ⟨_, _, rfl⟩, q2018, q124, ⟨by decide +kernel, by decide +kernel⟩, by decide +kernel, by decide⟩
abbrev wX1_work : Cond := Cond.code yX1_work cX1_work 7 (some FieldType.int)
theorem mdX1_work : rv_md yX1_work wX1_work 2 := ⟨7, Or.inl ⟨_, _, rfl⟩, q2035, q124, ⟨by decide +kernel, by decide +kernel⟩, by decide +kernel, by decide⟩
abbrev wX1_agenda : Cond := Cond.code yX1_agenda cX1_agenda 2 (some FieldType.int)
theorem mdX1_agenda : rv_md yX1_agenda wX1_agenda 1 := ⟨2, Or.inl ⟨_, _, rfl⟩, q2042, q124, ⟨by decide +kernel, by decide +kernel⟩, by decide +kernel, by decide⟩
abbrev wX1_fire : Cond := Cond.code yX1_fire cX1_fire 6 (some FieldType.int)
theorem mdX1_fire : rv_md yX1_fire wX1_fire 0 := ⟨6, Or.inl ⟨_, _, rfl⟩, q2049, q124, ⟨by decide +kernel, by decide +kernel⟩, by decide +kernel, by decide⟩
abbrev hX1_run : List (Nat × Nat × Nat × Nat) := [(21, 40, 43, 49)]
abbrev wX1_run : Cond := Cond.codeWith yX1_run cX1_run 4 (some FieldType.int) hX1_run
theorem mdX1_run : rv_md yX1_run wX1_run 1 := ⟨4, Or.inr ⟨_, _, _, rfl⟩, q2056, q124, ⟨by decide +kernel, by decide +kernel⟩, by decide +kernel, by decide⟩
abbrev wX1_focus : Cond := Cond.code yX1_focus cX1_focus 3 (some FieldType.int)
theorem mdX1_focus : rv_md yX1_focus wX1_focus 1 := ⟨3, Or.inl ⟨_, _, rfl⟩, q2064, q124, ⟨by decide +kernel, by decide +kernel⟩, by decide +kernel, by decide⟩
abbrev hX1_tick : List (Nat × Nat × Nat × Nat) := [(29, 140, 143, 98), (29, 140, 143, 100)]
abbrev wX1_tick : Cond := Cond.codeWith yX1_tick cX1_tick 7 (some FieldType.int) hX1_tick
theorem mdX1_tick : rv_md yX1_tick wX1_tick 1 := ⟨7, Or.inr ⟨_, _, _, rfl⟩, q2071, q124, ⟨by decide +kernel, by decide +kernel⟩, by decide +kernel, by decide⟩
abbrev wX1_begin_2 : Cond := Cond.code yX1_begin_2 cX1_begin_2 1 (some FieldType.int)
theorem mdX1_begin_2 : rv_md yX1_begin_2 wX1_begin_2 0 := ⟨1, Or.inl ⟨_, _, rfl⟩, q2078, q124, ⟨by decide +kernel, by decide +kernel⟩, by decide +kernel, by decide⟩
abbrev wX1_commit : Cond := Cond.code yX1_commit cX1_commit 1 (some FieldType.int)
theorem mdX1_commit : rv_md yX1_commit wX1_commit 0 := ⟨1, Or.inl ⟨_, _, rfl⟩, q2085, q124, ⟨by decide +kernel, by decide +kernel⟩, by decide +kernel, by decide⟩
abbrev wX1_rollBack : Cond := Cond.code yX1_rollBack cX1_rollBack 1 (some FieldType.int)
theorem mdX1_rollBack : rv_md yX1_rollBack wX1_rollBack 0 := ⟨1, Or.inl ⟨_, _, rfl⟩, q2092, q124, ⟨by decide +kernel, by decide +kernel⟩, by decide +kernel, by decide⟩
abbrev wX2_init : Cond := Cond.code yX2_init cX2_init 1 none
theorem mdX2_init : rv_md yX2_init wX2_init 0 := ⟨1, Or.inl ⟨_, _, rfl⟩, q177, q125, ⟨by decide +kernel, by decide +kernel⟩, by decide +kernel, by decide⟩
abbrev wX2_hasFired : Cond := Cond.code yX2_hasFired cX2_hasFired 9 (some FieldType.boolean)
theorem mdX2_hasFired : rv_md yX2_hasFired wX2_hasFired 3 := ⟨9, Or.inl ⟨_, _, rfl⟩, q953, q125, ⟨by decide +kernel, by decide +kernel⟩, by decide +kernel, by decide⟩
abbrev wX2_tagOf : Cond := Cond.code yX2_tagOf cX2_tagOf 3 (some FieldType.int)
theorem mdX2_tagOf : rv_md yX2_tagOf wX2_tagOf 1 := ⟨3, Or.inl ⟨_, _, rfl⟩, q960, q125, ⟨by decide +kernel, by decide +kernel⟩, by decide +kernel, by decide⟩
abbrev wX2_copy : Cond := Cond.code yX2_copy cX2_copy 2 (some (FieldType.object "Rulehearth$World"))
theorem mdX2_copy : rv_md yX2_copy wX2_copy 0 := ⟨2, Or.inl ⟨_, _, rfl⟩, q1134, q125, ⟨by decide +kernel, by decide +kernel⟩, by decide +kernel, by decide⟩
abbrev wX2_tell : Cond := Cond.code yX2_tell cX2_tell 5 none
theorem mdX2_tell : rv_md yX2_tell wX2_tell 2 := ⟨5, Or.inl ⟨_, _, rfl⟩, q1212, q125, ⟨by decide +kernel, by decide +kernel⟩, by decide +kernel, by decide⟩
abbrev wX2_toldAt : Cond := Cond.code yX2_toldAt cX2_toldAt 3 (some FieldType.int)
theorem mdX2_toldAt : rv_md yX2_toldAt wX2_toldAt 1 := ⟨3, Or.inl ⟨_, _, rfl⟩, q1216, q125, ⟨by decide +kernel, by decide +kernel⟩, by decide +kernel, by decide⟩
abbrev wX2_settle : Cond := Cond.code yX2_settle cX2_settle 5 none
theorem mdX2_settle : rv_md yX2_settle wX2_settle 0 := ⟨5, Or.inl ⟨_, _, rfl⟩, q1231, q125, ⟨by decide +kernel, by decide +kernel⟩, by decide +kernel, by decide⟩
abbrev wX2_strata : Cond := Cond.code yX2_strata cX2_strata 9 (some (FieldType.array FieldType.int))
theorem mdX2_strata : rv_md yX2_strata wX2_strata 0 := ⟨9, Or.inl ⟨_, _, rfl⟩, q1235, q125, ⟨by decide +kernel, by decide +kernel⟩, by decide +kernel, by decide⟩
abbrev wX2_found : Cond := Cond.code yX2_found cX2_found 10 (some (FieldType.object "Rulehearth$Facts"))
theorem mdX2_found : rv_md yX2_found wX2_found 1 := ⟨10, Or.inl ⟨_, _, rfl⟩, q1257, q125, ⟨by decide +kernel, by decide +kernel⟩, by decide +kernel, by decide⟩
abbrev wX2_toldFacts : Cond := Cond.code yX2_toldFacts cX2_toldFacts 3 (some (FieldType.object "Rulehearth$Facts"))
theorem mdX2_toldFacts : rv_md yX2_toldFacts wX2_toldFacts 0 := ⟨3, Or.inl ⟨_, _, rfl⟩, q1261, q125, ⟨by decide +kernel, by decide +kernel⟩, by decide +kernel, by decide⟩
abbrev wX2_derivers : Cond := Cond.code yX2_derivers cX2_derivers 5 (some (FieldType.object "java/util/ArrayList"))
theorem mdX2_derivers : rv_md yX2_derivers wX2_derivers 2 := ⟨5, Or.inl ⟨_, _, rfl⟩, q1284, q125, ⟨by decide +kernel, by decide +kernel⟩, by decide +kernel, by decide⟩
abbrev wX2_merge : Cond := Cond.code yX2_merge cX2_merge 5 (some FieldType.boolean)
theorem mdX2_merge : rv_md yX2_merge wX2_merge 3 := ⟨5, Or.inl ⟨_, _, rfl⟩, q1386, q125, ⟨by decide +kernel, by decide +kernel⟩, by decide +kernel, by decide⟩
abbrev wX2_areTags : Cond := Cond.code yX2_areTags cX2_areTags 6 (some FieldType.boolean)
theorem mdX2_areTags : rv_md yX2_areTags wX2_areTags 1 := ⟨6, Or.inl ⟨_, _, rfl⟩, q1390, q125, ⟨by decide +kernel, by decide +kernel⟩, by decide +kernel, by decide⟩
abbrev wX2_foundByRounds : Cond := Cond.code yX2_foundByRounds cX2_foundByRounds 8 (some (FieldType.object "Rulehearth$Facts"))
theorem mdX2_foundByRounds : rv_md yX2_foundByRounds wX2_foundByRounds 1 := ⟨8, Or.inl ⟨_, _, rfl⟩, q1427, q125, ⟨by decide +kernel, by decide +kernel⟩, by decide +kernel, by decide⟩
abbrev wX3_init : Cond := Cond.code yX3_init cX3_init 1 none
theorem mdX3_init : rv_md yX3_init wX3_init 0 := ⟨1, Or.inl ⟨_, _, rfl⟩, q526, q145, ⟨by decide +kernel, by decide +kernel⟩, by decide +kernel, by decide⟩
abbrev wX3_indexOf : Cond := Cond.code yX3_indexOf cX3_indexOf 2 (some FieldType.int)
theorem mdX3_indexOf : rv_md yX3_indexOf wX3_indexOf 1 := ⟨2, Or.inl ⟨_, _, rfl⟩, q964, q145, ⟨by decide +kernel, by decide +kernel⟩, by decide +kernel, by decide⟩
abbrev wX3_has : Cond := Cond.code yX3_has cX3_has 3 (some FieldType.boolean)
theorem mdX3_has : rv_md yX3_has wX3_has 1 := ⟨3, Or.inl ⟨_, _, rfl⟩, q968, q145, ⟨by decide +kernel, by decide +kernel⟩, by decide +kernel, by decide⟩
abbrev wX3_placeOf : Cond := Cond.code yX3_placeOf cX3_placeOf 5 (some FieldType.int)
theorem mdX3_placeOf : rv_md yX3_placeOf wX3_placeOf 1 := ⟨5, Or.inl ⟨_, _, rfl⟩, q972, q145, ⟨by decide +kernel, by decide +kernel⟩, by decide +kernel, by decide⟩
abbrev wX3_add : Cond := Cond.code yX3_add cX3_add 5 none
theorem mdX3_add : rv_md yX3_add wX3_add 2 := ⟨5, Or.inl ⟨_, _, rfl⟩, q1265, q145, ⟨by decide +kernel, by decide +kernel⟩, by decide +kernel, by decide⟩
abbrev wX3_countOf : Cond := Cond.code yX3_countOf cX3_countOf 2 (some FieldType.int)
theorem mdX3_countOf : rv_md yX3_countOf wX3_countOf 1 := ⟨2, Or.inl ⟨_, _, rfl⟩, q2026, q145, ⟨by decide +kernel, by decide +kernel⟩, by decide +kernel, by decide⟩
abbrev wX5_init : Cond := Cond.code yX5_init cX5_init 2 none
theorem mdX5_init : rv_md yX5_init wX5_init 1 := ⟨2, Or.inl ⟨_, _, rfl⟩, q1250, q152, ⟨by decide +kernel, by decide +kernel⟩, by decide +kernel, by decide⟩
abbrev wX6_init : Cond := Cond.code yX6_init cX6_init 1 none
theorem mdX6_init : rv_md yX6_init wX6_init 0 := ⟨1, Or.inl ⟨_, _, rfl⟩, q1277, q153, ⟨by decide +kernel, by decide +kernel⟩, by decide +kernel, by decide⟩
abbrev wX7_init : Cond := Cond.code yX7_init cX7_init 6 none
theorem mdX7_init : rv_md yX7_init wX7_init 3 := ⟨6, Or.inl ⟨_, _, rfl⟩, q1289, q154, ⟨by decide +kernel, by decide +kernel⟩, by decide +kernel, by decide⟩
abbrev wX7_lambda_new_0 : Cond := Cond.code yX7_lambda_new_0 cX7_lambda_new_0 4 (some FieldType.boolean)
theorem mdX7_lambda_new_0 : rv_md yX7_lambda_new_0 wX7_lambda_new_0 3 := ⟨4, Or.inl ⟨_, _, rfl⟩, q1313, q154, ⟨by decide +kernel, by decide +kernel⟩, by decide +kernel, by decide⟩
abbrev wX7_deriveAll : Cond := Cond.code yX7_deriveAll cX7_deriveAll 2 none
theorem mdX7_deriveAll : rv_md yX7_deriveAll wX7_deriveAll 0 := ⟨2, Or.inl ⟨_, _, rfl⟩, q1344, q154, ⟨by decide +kernel, by decide +kernel⟩, by decide +kernel, by decide⟩
abbrev wX7_deriveNew : Cond := Cond.code yX7_deriveNew cX7_deriveNew 3 none
theorem mdX7_deriveNew : rv_md yX7_deriveNew wX7_deriveNew 1 := ⟨3, Or.inl ⟨_, _, rfl⟩, q1382, q154, ⟨by decide +kernel, by decide +kernel⟩, by decide +kernel, by decide⟩
abbrev wX8_take : Cond := Cond.code yX8_take cX8_take 3 (some FieldType.boolean)
theorem mdX8_take : rv_md yX8_take wX8_take 2 := ⟨3, Or.inl ⟨_, _, rfl⟩, q1010, q155, ⟨by decide +kernel, by decide +kernel⟩, by decide +kernel, by decide⟩
abbrev wX8_init : Cond := Cond.code yX8_init cX8_init 2 none
theorem mdX8_init : rv_md yX8_init wX8_init 1 := ⟨2, Or.inl ⟨_, _, rfl⟩, q1298, q155, ⟨by decide +kernel, by decide +kernel⟩, by decide +kernel, by decide⟩
abbrev wX8_clear : Cond := Cond.code yX8_clear cX8_clear 2 none
theorem mdX8_clear : rv_md yX8_clear wX8_clear 0 := ⟨2, Or.inl ⟨_, _, rfl⟩, q1356, q155, ⟨by decide +kernel, by decide +kernel⟩, by decide +kernel, by decide⟩
abbrev wX8_fact : Cond := Cond.code yX8_fact cX8_fact 3 (some FieldType.int)
theorem mdX8_fact : rv_md yX8_fact wX8_fact 1 := ⟨3, Or.inl ⟨_, _, rfl⟩, q1369, q155, ⟨by decide +kernel, by decide +kernel⟩, by decide +kernel, by decide⟩
abbrev wX8_value : Cond := Cond.code yX8_value cX8_value 6 (some FieldType.int)
theorem mdX8_value : rv_md yX8_value wX8_value 0 := ⟨6, Or.inl ⟨_, _, rfl⟩, q1376, q155, ⟨by decide +kernel, by decide +kernel⟩, by decide +kernel, by decide⟩
abbrev wX8_gives : Cond := Cond.code yX8_gives cX8_gives 2 (some FieldType.boolean)
theorem mdX8_gives : rv_md yX8_gives wX8_gives 1 := ⟨2, Or.inl ⟨_, _, rfl⟩, q1767, q155, ⟨by decide +kernel, by decide +kernel⟩, by decide +kernel, by decide⟩
abbrev wX9_init : Cond := Cond.code yX9_init cX9_init 6 none
theorem mdX9_init : rv_md yX9_init wX9_init 5 := ⟨6, Or.inl ⟨_, _, rfl⟩, q886, q156, ⟨by decide +kernel, by decide +kernel⟩, by decide +kernel, by decide⟩
abbrev wX9_run : Cond := Cond.code yX9_run cX9_run 1 none
theorem mdX9_run : rv_md yX9_run wX9_run 0 := ⟨1, Or.inl ⟨_, _, rfl⟩, q927, q156, ⟨by decide +kernel, by decide +kernel⟩, by decide +kernel, by decide⟩
abbrev wX9_go : Cond := Cond.code yX9_go cX9_go 4 none
theorem mdX9_go : rv_md yX9_go wX9_go 2 := ⟨4, Or.inl ⟨_, _, rfl⟩, q931, q156, ⟨by decide +kernel, by decide +kernel⟩, by decide +kernel, by decide⟩
abbrev wX9_goAtom : Cond := Cond.code yX9_goAtom cX9_goAtom 9 none
theorem mdX9_goAtom : rv_md yX9_goAtom wX9_goAtom 3 := ⟨9, Or.inl ⟨_, _, rfl⟩, q1030, q156, ⟨by decide +kernel, by decide +kernel⟩, by decide +kernel, by decide⟩
abbrev wX9_mask : Cond := Cond.code yX9_mask cX9_mask 3 (some FieldType.int)
theorem mdX9_mask : rv_md yX9_mask wX9_mask 0 := ⟨3, Or.inl ⟨_, _, rfl⟩, q1036, q156, ⟨by decide +kernel, by decide +kernel⟩, by decide +kernel, by decide⟩
abbrev wX9_isAllowed : Cond := Cond.code yX9_isAllowed cX9_isAllowed 3 (some FieldType.boolean)
theorem mdX9_isAllowed : rv_md yX9_isAllowed wX9_isAllowed 2 := ⟨3, Or.inl ⟨_, _, rfl⟩, q1040, q156, ⟨by decide +kernel, by decide +kernel⟩, by decide +kernel, by decide⟩
abbrev wX9_unbind : Cond := Cond.code yX9_unbind cX9_unbind 3 none
theorem mdX9_unbind : rv_md yX9_unbind wX9_unbind 1 := ⟨3, Or.inl ⟨_, _, rfl⟩, q1051, q156, ⟨by decide +kernel, by decide +kernel⟩, by decide +kernel, by decide⟩
abbrev wX9_factOf : Cond := Cond.code yX9_factOf cX9_factOf 4 (some FieldType.int)
theorem mdX9_factOf : rv_md yX9_factOf wX9_factOf 1 := ⟨4, Or.inl ⟨_, _, rfl⟩, q1055, q156, ⟨by decide +kernel, by decide +kernel⟩, by decide +kernel, by decide⟩
abbrev wX9_holds : Cond := Cond.code yX9_holds cX9_holds 4 (some FieldType.boolean)
theorem mdX9_holds : rv_md yX9_holds wX9_holds 1 := ⟨4, Or.inl ⟨_, _, rfl⟩, q1061, q156, ⟨by decide +kernel, by decide +kernel⟩, by decide +kernel, by decide⟩
abbrev wX9_goPlus : Cond := Cond.code yX9_goPlus cX9_goPlus 6 none
theorem mdX9_goPlus : rv_md yX9_goPlus wX9_goPlus 3 := ⟨6, Or.inl ⟨_, _, rfl⟩, q1065, q156, ⟨by decide +kernel, by decide +kernel⟩, by decide +kernel, by decide⟩
abbrev wX9_run_2 : Cond := Cond.code yX9_run_2 cX9_run_2 3 none
theorem mdX9_run_2 : rv_md yX9_run_2 wX9_run_2 2 := ⟨3, Or.inl ⟨_, _, rfl⟩, q1348, q156, ⟨by decide +kernel, by decide +kernel⟩, by decide +kernel, by decide⟩
abbrev wX10_atoms : Cond := Cond.code yX10_atoms cX10_atoms 3 (some FieldType.int)
theorem mdX10_atoms : rv_md yX10_atoms wX10_atoms 0 := ⟨3, Or.inl ⟨_, _, rfl⟩, q946, q157, ⟨by decide +kernel, by decide +kernel⟩, by decide +kernel, by decide⟩
abbrev wX10_fact : Cond := Cond.code yX10_fact cX10_fact 6 (some FieldType.int)
theorem mdX10_fact : rv_md yX10_fact wX10_fact 2 := ⟨6, Or.inl ⟨_, _, rfl⟩, q982, q157, ⟨by decide +kernel, by decide +kernel⟩, by decide +kernel, by decide⟩
abbrev wX10_binds : Cond := Cond.code yX10_binds cX10_binds 5 (some FieldType.boolean)
theorem mdX10_binds : rv_md yX10_binds wX10_binds 2 := ⟨5, Or.inl ⟨_, _, rfl⟩, q1360, q157, ⟨by decide +kernel, by decide +kernel⟩, by decide +kernel, by decide⟩
abbrev wX10_init : Cond := Cond.code yX10_init cX10_init 6 none
theorem mdX10_init : rv_md yX10_init wX10_init 5 := ⟨6, Or.inl ⟨_, _, rfl⟩, q1503, q157, ⟨by decide +kernel, by decide +kernel⟩, by decide +kernel, by decide⟩
abbrev wX10_latest : Cond := Cond.code yX10_latest cX10_latest 1 (some (FieldType.object "Rulehearth$Item"))
theorem mdX10_latest : rv_md yX10_latest wX10_latest 0 := ⟨1, Or.inl ⟨_, _, rfl⟩, q1584, q157, ⟨by decide +kernel, by decide +kernel⟩, by decide +kernel, by decide⟩
abbrev wX11_init : Cond := Cond.code yX11_init cX11_init 4 none
theorem mdX11_init : rv_md yX11_init wX11_init 3 := ⟨4, Or.inl ⟨_, _, rfl⟩, q1470, q158, ⟨by decide +kernel, by decide +kernel⟩, by decide +kernel, by decide⟩
abbrev wX11_isWhole : Cond := Cond.code yX11_isWhole cX11_isWhole 1 (some FieldType.boolean)
theorem mdX11_isWhole : rv_md yX11_isWhole wX11_isWhole 0 := ⟨1, Or.inl ⟨_, _, rfl⟩, q1592, q158, ⟨by decide +kernel, by decide +kernel⟩, by decide +kernel, by decide⟩
abbrev wX11_hasVariable : Cond := Cond.code yX11_hasVariable cX11_hasVariable 4 (some FieldType.boolean)
theorem mdX11_hasVariable : rv_md yX11_hasVariable wX11_hasVariable 1 := ⟨4, Or.inl ⟨_, _, rfl⟩, q2022, q158, ⟨by decide +kernel, by decide +kernel⟩, by decide +kernel, by decide⟩
abbrev wX12_init : Cond := Cond.code yX12_init cX12_init 6 none
theorem mdX12_init : rv_md yX12_init wX12_init 1 := ⟨6, Or.inl ⟨_, _, rfl⟩, q1706, q159, ⟨by decide +kernel, by decide +kernel⟩, by decide +kernel, by decide⟩
abbrev wX12_lambda_new_0 : Cond := Cond.code yX12_lambda_new_0 cX12_lambda_new_0 5 (some FieldType.boolean)
theorem mdX12_lambda_new_0 : rv_md yX12_lambda_new_0 wX12_lambda_new_0 4 := ⟨5, Or.inl ⟨_, _, rfl⟩, q1716, q159, ⟨by decide +kernel, by decide +kernel⟩, by decide +kernel, by decide⟩
abbrev wX12_gatherBy : Cond := Cond.code yX12_gatherBy cX12_gatherBy 7 (some (FieldType.array FieldType.long))
theorem mdX12_gatherBy : rv_md yX12_gatherBy wX12_gatherBy 1 := ⟨7, Or.inl ⟨_, _, rfl⟩, q1731, q159, ⟨by decide +kernel, by decide +kernel⟩, by decide +kernel, by decide⟩
abbrev wX12_measure : Cond := Cond.code yX12_measure cX12_measure 6 (some (FieldType.object "Rulehearth$Reasons"))
theorem mdX12_measure : rv_md yX12_measure wX12_measure 0 := ⟨6, Or.inl ⟨_, _, rfl⟩, q1798, q159, ⟨by decide +kernel, by decide +kernel⟩, by decide +kernel, by decide⟩
abbrev wX12_lambda_measure_1 : Cond := Cond.code yX12_lambda_measure_1 cX12_lambda_measure_1 5 (some FieldType.boolean)
theorem mdX12_lambda_measure_1 : rv_md yX12_lambda_measure_1 wX12_lambda_measure_1 4 := ⟨5, Or.inl ⟨_, _, rfl⟩, q1803, q159, ⟨by decide +kernel, by decide +kernel⟩, by decide +kernel, by decide⟩
abbrev wX12_above : Cond := Cond.code yX12_above cX12_above 7 (some FieldType.int)
theorem mdX12_above : rv_md yX12_above wX12_above 2 := ⟨7, Or.inl ⟨_, _, rfl⟩, q1807, q159, ⟨by decide +kernel, by decide +kernel⟩, by decide +kernel, by decide⟩
abbrev wX12_relax : Cond := Cond.code yX12_relax cX12_relax 3 none
theorem mdX12_relax : rv_md yX12_relax wX12_relax 2 := ⟨3, Or.inl ⟨_, _, rfl⟩, q1812, q159, ⟨by decide +kernel, by decide +kernel⟩, by decide +kernel, by decide⟩
abbrev wX12_above_2 : Cond := Cond.code yX12_above_2 cX12_above_2 6 (some FieldType.int)
theorem mdX12_above_2 : rv_md yX12_above_2 wX12_above_2 1 := ⟨6, Or.inl ⟨_, _, rfl⟩, q1819, q159, ⟨by decide +kernel, by decide +kernel⟩, by decide +kernel, by decide⟩
abbrev wX13_take : Cond := Cond.code yX13_take cX13_take 3 (some FieldType.boolean)
theorem mdX13_take : rv_md yX13_take wX13_take 2 := ⟨3, Or.inl ⟨_, _, rfl⟩, q1017, q160, ⟨by decide +kernel, by decide +kernel⟩, by decide +kernel, by decide⟩
abbrev wX13_init : Cond := Cond.code yX13_init cX13_init 3 none
theorem mdX13_init : rv_md yX13_init wX13_init 2 := ⟨3, Or.inl ⟨_, _, rfl⟩, q1736, q160, ⟨by decide +kernel, by decide +kernel⟩, by decide +kernel, by decide⟩
abbrev wX13_of : Cond := Cond.code yX13_of cX13_of 6 (some FieldType.long)
theorem mdX13_of : rv_md yX13_of wX13_of 4 := ⟨6, Or.inl ⟨_, _, rfl⟩, q1755, q160, ⟨by decide +kernel, by decide +kernel⟩, by decide +kernel, by decide⟩
abbrev wX14_init : Cond := Cond.code yX14_init cX14_init 1 none
theorem mdX14_init : rv_md yX14_init wX14_init 0 := ⟨1, Or.inl ⟨_, _, rfl⟩, q1835, q161, ⟨by decide +kernel, by decide +kernel⟩, by decide +kernel, by decide⟩
abbrev wX15_take : Cond := Cond.code yX15_take cX15_take 5 (some FieldType.boolean)
theorem mdX15_take : rv_md yX15_take wX15_take 2 := ⟨5, Or.inl ⟨_, _, rfl⟩, q992, q162, ⟨by decide +kernel, by decide +kernel⟩, by decide +kernel, by decide⟩
abbrev wX15_isLower : Cond := Cond.code yX15_isLower cX15_isLower 3 (some FieldType.boolean)
theorem mdX15_isLower : rv_md yX15_isLower wX15_isLower 1 := ⟨3, Or.inl ⟨_, _, rfl⟩, q999, q162, ⟨by decide +kernel, by decide +kernel⟩, by decide +kernel, by decide⟩
abbrev wX15_init : Cond := Cond.code yX15_init cX15_init 5 none
theorem mdX15_init : rv_md yX15_init wX15_init 4 := ⟨5, Or.inl ⟨_, _, rfl⟩, q1856, q162, ⟨by decide +kernel, by decide +kernel⟩, by decide +kernel, by decide⟩
abbrev wX16_init : Cond := Cond.code yX16_init cX16_init 8 none
theorem mdX16_init : rv_md yX16_init wX16_init 1 := ⟨8, Or.inl ⟨_, _, rfl⟩, q1934, q163, ⟨by decide +kernel, by decide +kernel⟩, by decide +kernel, by decide⟩
abbrev wX16_lambda_new_0 : Cond := Cond.code yX16_lambda_new_0 cX16_lambda_new_0 4 (some FieldType.boolean)
theorem mdX16_lambda_new_0 : rv_md yX16_lambda_new_0 wX16_lambda_new_0 3 := ⟨4, Or.inl ⟨_, _, rfl⟩, q1945, q163, ⟨by decide +kernel, by decide +kernel⟩, by decide +kernel, by decide⟩
abbrev wX16_goalOf : Cond := Cond.code yX16_goalOf cX16_goalOf 5 (some FieldType.int)
theorem mdX16_goalOf : rv_md yX16_goalOf wX16_goalOf 2 := ⟨5, Or.inl ⟨_, _, rfl⟩, q1949, q163, ⟨by decide +kernel, by decide +kernel⟩, by decide +kernel, by decide⟩
abbrev wX16_setUp : Cond := Cond.code yX16_setUp cX16_setUp 4 none
theorem mdX16_setUp : rv_md yX16_setUp wX16_setUp 1 := ⟨4, Or.inl ⟨_, _, rfl⟩, q1954, q163, ⟨by decide +kernel, by decide +kernel⟩, by decide +kernel, by decide⟩
abbrev wX16_count : Cond := Cond.code yX16_count cX16_count 4 (some FieldType.int)
theorem mdX16_count : rv_md yX16_count wX16_count 1 := ⟨4, Or.inl ⟨_, _, rfl⟩, q1977, q163, ⟨by decide +kernel, by decide +kernel⟩, by decide +kernel, by decide⟩
abbrev wX16_ask : Cond := Cond.code yX16_ask cX16_ask 4 none
theorem mdX16_ask : rv_md yX16_ask wX16_ask 2 := ⟨4, Or.inl ⟨_, _, rfl⟩, q1981, q163, ⟨by decide +kernel, by decide +kernel⟩, by decide +kernel, by decide⟩
abbrev wX16_binds : Cond := Cond.code yX16_binds cX16_binds 8 (some FieldType.boolean)
theorem mdX16_binds : rv_md yX16_binds wX16_binds 3 := ⟨8, Or.inl ⟨_, _, rfl⟩, q1985, q163, ⟨by decide +kernel, by decide +kernel⟩, by decide +kernel, by decide⟩
abbrev wX17_init : Cond := Cond.code yX17_init cX17_init 3 none
theorem mdX17_init : rv_md yX17_init wX17_init 2 := ⟨3, Or.inl ⟨_, _, rfl⟩, q843, q164, ⟨by decide +kernel, by decide +kernel⟩, by decide +kernel, by decide⟩
abbrev wX17_look : Cond := Cond.code yX17_look cX17_look 2 (some (FieldType.object "Rulehearth$Agenda"))
theorem mdX17_look : rv_md yX17_look wX17_look 0 := ⟨2, Or.inl ⟨_, _, rfl⟩, q877, q164, ⟨by decide +kernel, by decide +kernel⟩, by decide +kernel, by decide⟩
abbrev wX17_take : Cond := Cond.code yX17_take cX17_take 6 (some FieldType.boolean)
theorem mdX17_take : rv_md yX17_take wX17_take 2 := ⟨6, Or.inl ⟨_, _, rfl⟩, q942, q164, ⟨by decide +kernel, by decide +kernel⟩, by decide +kernel, by decide⟩
abbrev wX17_isAhead : Cond := Cond.code yX17_isAhead cX17_isAhead 7 (some FieldType.boolean)
theorem mdX17_isAhead : rv_md yX17_isAhead wX17_isAhead 3 := ⟨7, Or.inl ⟨_, _, rfl⟩, q978, q164, ⟨by decide +kernel, by decide +kernel⟩, by decide +kernel, by decide⟩
