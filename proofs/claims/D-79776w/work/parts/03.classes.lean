/-! CLASSES AND WORDS (printed by tools/gen_names.py out of claim/names) -/
set_option maxRecDepth 100000
def RX0 : String := "RulehearthLaw"
theorem q123 : (Jvm.Cond.initialized "RulehearthLaw") ∈ lw_all := lw_g (lw_at lw_m1 0 rfl) rfl
theorem q165 : (Jvm.Cond.classLink "RulehearthLaw" (8 : Nat) "Rulehearth") ∈ lw_all := lw_g (lw_at lw_m1 42 rfl) rfl
theorem q167 : (Jvm.Cond.methodLink "RulehearthLaw" (145 : Nat) ({ cls := "Rulehearth", name := "<init>", desc := "()V" } : Jvm.MethodName)) ∈ lw_all := lw_g (lw_at lw_m1 44 rfl) rfl
theorem q708 : (Jvm.Cond.methodLink "RulehearthLaw" (177 : Nat) ({ cls := "Rulehearth", name := "standing", desc := "()I" } : Jvm.MethodName)) ∈ lw_all := lw_g (lw_at lw_m3 105 rfl) rfl
theorem q712 : (Jvm.Cond.methodLink "RulehearthLaw" (219 : Nat) ({ cls := "Rulehearth", name := "cancel", desc := "()Z" } : Jvm.MethodName)) ∈ lw_all := lw_g (lw_at lw_m3 109 rfl) rfl
theorem q716 : (Jvm.Cond.methodLink "RulehearthLaw" (258 : Nat) ({ cls := "Rulehearth", name := "beginnings", desc := "()I" } : Jvm.MethodName)) ∈ lw_all := lw_g (lw_at lw_m3 113 rfl) rfl
theorem q830 : (Jvm.Cond.methodLink "RulehearthLaw" (275 : Nat) ({ cls := "Rulehearth", name := "next", desc := "()I" } : Jvm.MethodName)) ∈ lw_all := lw_g (lw_at lw_m3 227 rfl) rfl
theorem q1089 : (Jvm.Cond.methodLink "RulehearthLaw" (279 : Nat) ({ cls := "Rulehearth", name := "nextFact", desc := "()I" } : Jvm.MethodName)) ∈ lw_all := lw_g (lw_at lw_m5 6 rfl) rfl
theorem q1093 : (Jvm.Cond.methodLink "RulehearthLaw" (292 : Nat) ({ cls := "Rulehearth", name := "focused", desc := "()I" } : Jvm.MethodName)) ∈ lw_all := lw_g (lw_at lw_m5 10 rfl) rfl
theorem q1097 : (Jvm.Cond.methodLink "RulehearthLaw" (299 : Nat) ({ cls := "Rulehearth", name := "now", desc := "()I" } : Jvm.MethodName)) ∈ lw_all := lw_g (lw_at lw_m5 14 rfl) rfl
theorem q1101 : (Jvm.Cond.methodLink "RulehearthLaw" (149 : Nat) ({ cls := "RulehearthLaw", name := "relation", desc := "(LRulehearth;I[J)I" } : Jvm.MethodName)) ∈ lw_all := lw_g (lw_at lw_m5 18 rfl) rfl
theorem q1102 : (Jvm.Cond.static ({ cls := "RulehearthLaw", name := "relation", desc := "(LRulehearth;I[J)I" } : Jvm.MethodName)) ∈ lw_all := lw_g (lw_at lw_m5 19 rfl) rfl
theorem q1103 : (Jvm.Cond.codeWith ({ cls := "RulehearthLaw", name := "relation", desc := "(LRulehearth;I[J)I" } : Jvm.MethodName) method_3_code (4 : Nat) (Option.some Jvm.ClassFile.FieldType.int) [((0 : Nat), (9 : Nat), (12 : Nat), (13 : Nat)), ((0 : Nat), (9 : Nat), (15 : Nat), (15 : Nat))]) ∈ lw_all := lw_g (lw_at lw_m5 20 rfl) rfl
theorem q1104 : (Jvm.Cond.classLink "RulehearthLaw" (13 : Nat) "java/lang/IllegalArgumentException") ∈ lw_all := lw_g (lw_at lw_m5 21 rfl) rfl
theorem q1105 : (Jvm.Cond.classLink "RulehearthLaw" (15 : Nat) "java/lang/IllegalStateException") ∈ lw_all := lw_g (lw_at lw_m5 22 rfl) rfl
theorem q1106 : (Jvm.Cond.methodLink "RulehearthLaw" (7 : Nat) ({ cls := "Rulehearth", name := "relation", desc := "(I)I" } : Jvm.MethodName)) ∈ lw_all := lw_g (lw_at lw_m5 23 rfl) rfl
theorem q1152 : (Jvm.Cond.methodLink "RulehearthLaw" (158 : Nat) ({ cls := "RulehearthLaw", name := "tell", desc := "(LRulehearth;II[J)I" } : Jvm.MethodName)) ∈ lw_all := lw_g (lw_at lw_m5 69 rfl) rfl
theorem q1153 : (Jvm.Cond.static ({ cls := "RulehearthLaw", name := "tell", desc := "(LRulehearth;II[J)I" } : Jvm.MethodName)) ∈ lw_all := lw_g (lw_at lw_m5 70 rfl) rfl
theorem q1154 : (Jvm.Cond.codeWith ({ cls := "RulehearthLaw", name := "tell", desc := "(LRulehearth;II[J)I" } : Jvm.MethodName) method_4_code (5 : Nat) (Option.some Jvm.ClassFile.FieldType.int) [((0 : Nat), (10 : Nat), (13 : Nat), (21 : Nat)), ((0 : Nat), (10 : Nat), (17 : Nat), (13 : Nat)), ((0 : Nat), (10 : Nat), (21 : Nat), (15 : Nat))]) ∈ lw_all := lw_g (lw_at lw_m5 71 rfl) rfl
theorem q1155 : (Jvm.Cond.classLink "RulehearthLaw" (21 : Nat) "java/lang/IndexOutOfBoundsException") ∈ lw_all := lw_g (lw_at lw_m5 72 rfl) rfl
theorem q1174 : (Jvm.Cond.methodLink "RulehearthLaw" (17 : Nat) ({ cls := "Rulehearth", name := "tell", desc := "(II)I" } : Jvm.MethodName)) ∈ lw_all := lw_g (lw_at lw_m5 91 rfl) rfl
theorem q1399 : (Jvm.Cond.methodLink "RulehearthLaw" (162 : Nat) ({ cls := "RulehearthLaw", name := "take", desc := "(LRulehearth;I[J)I" } : Jvm.MethodName)) ∈ lw_all := lw_g (lw_at lw_m6 76 rfl) rfl
theorem q1400 : (Jvm.Cond.static ({ cls := "RulehearthLaw", name := "take", desc := "(LRulehearth;I[J)I" } : Jvm.MethodName)) ∈ lw_all := lw_g (lw_at lw_m6 77 rfl) rfl
theorem q1401 : (Jvm.Cond.codeWith ({ cls := "RulehearthLaw", name := "take", desc := "(LRulehearth;I[J)I" } : Jvm.MethodName) method_5_code (4 : Nat) (Option.some Jvm.ClassFile.FieldType.int) [((0 : Nat), (9 : Nat), (12 : Nat), (21 : Nat)), ((0 : Nat), (9 : Nat), (15 : Nat), (13 : Nat)), ((0 : Nat), (9 : Nat), (18 : Nat), (15 : Nat))]) ∈ lw_all := lw_g (lw_at lw_m6 78 rfl) rfl
theorem q1402 : (Jvm.Cond.methodLink "RulehearthLaw" (23 : Nat) ({ cls := "Rulehearth", name := "take", desc := "(I)I" } : Jvm.MethodName)) ∈ lw_all := lw_g (lw_at lw_m6 79 rfl) rfl
theorem q1408 : (Jvm.Cond.methodLink "RulehearthLaw" (165 : Nat) ({ cls := "RulehearthLaw", name := "stands", desc := "(LRulehearth;I[J)I" } : Jvm.MethodName)) ∈ lw_all := lw_g (lw_at lw_m6 85 rfl) rfl
theorem q1409 : (Jvm.Cond.static ({ cls := "RulehearthLaw", name := "stands", desc := "(LRulehearth;I[J)I" } : Jvm.MethodName)) ∈ lw_all := lw_g (lw_at lw_m6 86 rfl) rfl
theorem q1410 : (Jvm.Cond.codeWith ({ cls := "RulehearthLaw", name := "stands", desc := "(LRulehearth;I[J)I" } : Jvm.MethodName) method_6_code (4 : Nat) (Option.some Jvm.ClassFile.FieldType.int) [((0 : Nat), (16 : Nat), (19 : Nat), (21 : Nat)), ((0 : Nat), (16 : Nat), (22 : Nat), (13 : Nat))]) ∈ lw_all := lw_g (lw_at lw_m6 87 rfl) rfl
theorem q1411 : (Jvm.Cond.methodLink "RulehearthLaw" (26 : Nat) ({ cls := "Rulehearth", name := "stands", desc := "(I)Z" } : Jvm.MethodName)) ∈ lw_all := lw_g (lw_at lw_m6 88 rfl) rfl
theorem q1416 : (Jvm.Cond.methodLink "RulehearthLaw" (168 : Nat) ({ cls := "RulehearthLaw", name := "standsByRounds", desc := "(LRulehearth;I[J)I" } : Jvm.MethodName)) ∈ lw_all := lw_g (lw_at lw_m6 93 rfl) rfl
theorem q1417 : (Jvm.Cond.static ({ cls := "RulehearthLaw", name := "standsByRounds", desc := "(LRulehearth;I[J)I" } : Jvm.MethodName)) ∈ lw_all := lw_g (lw_at lw_m6 94 rfl) rfl
theorem q1418 : (Jvm.Cond.codeWith ({ cls := "RulehearthLaw", name := "standsByRounds", desc := "(LRulehearth;I[J)I" } : Jvm.MethodName) method_7_code (4 : Nat) (Option.some Jvm.ClassFile.FieldType.int) [((0 : Nat), (16 : Nat), (19 : Nat), (21 : Nat)), ((0 : Nat), (16 : Nat), (22 : Nat), (13 : Nat))]) ∈ lw_all := lw_g (lw_at lw_m6 95 rfl) rfl
theorem q1419 : (Jvm.Cond.methodLink "RulehearthLaw" (30 : Nat) ({ cls := "Rulehearth", name := "standsByRounds", desc := "(I)Z" } : Jvm.MethodName)) ∈ lw_all := lw_g (lw_at lw_m6 96 rfl) rfl
theorem q1428 : (Jvm.Cond.methodLink "RulehearthLaw" (171 : Nat) ({ cls := "RulehearthLaw", name := "endOf", desc := "(LRulehearth;I[J)I" } : Jvm.MethodName)) ∈ lw_all := lw_g (lw_at lw_m6 105 rfl) rfl
theorem q1429 : (Jvm.Cond.static ({ cls := "RulehearthLaw", name := "endOf", desc := "(LRulehearth;I[J)I" } : Jvm.MethodName)) ∈ lw_all := lw_g (lw_at lw_m6 106 rfl) rfl
theorem q1430 : (Jvm.Cond.codeWith ({ cls := "RulehearthLaw", name := "endOf", desc := "(LRulehearth;I[J)I" } : Jvm.MethodName) method_8_code (4 : Nat) (Option.some Jvm.ClassFile.FieldType.int) [((0 : Nat), (9 : Nat), (12 : Nat), (21 : Nat)), ((0 : Nat), (9 : Nat), (15 : Nat), (13 : Nat))]) ∈ lw_all := lw_g (lw_at lw_m6 107 rfl) rfl
theorem q1431 : (Jvm.Cond.methodLink "RulehearthLaw" (33 : Nat) ({ cls := "Rulehearth", name := "endOf", desc := "(I)I" } : Jvm.MethodName)) ∈ lw_all := lw_g (lw_at lw_m6 108 rfl) rfl
theorem q1436 : (Jvm.Cond.methodLink "RulehearthLaw" (174 : Nat) ({ cls := "RulehearthLaw", name := "tag", desc := "(LRulehearth;I[J)I" } : Jvm.MethodName)) ∈ lw_all := lw_g (lw_at lw_m6 113 rfl) rfl
theorem q1437 : (Jvm.Cond.static ({ cls := "RulehearthLaw", name := "tag", desc := "(LRulehearth;I[J)I" } : Jvm.MethodName)) ∈ lw_all := lw_g (lw_at lw_m6 114 rfl) rfl
theorem q1438 : (Jvm.Cond.codeWith ({ cls := "RulehearthLaw", name := "tag", desc := "(LRulehearth;I[J)I" } : Jvm.MethodName) method_9_code (4 : Nat) (Option.some Jvm.ClassFile.FieldType.int) [((0 : Nat), (9 : Nat), (12 : Nat), (21 : Nat)), ((0 : Nat), (9 : Nat), (15 : Nat), (13 : Nat))]) ∈ lw_all := lw_g (lw_at lw_m6 115 rfl) rfl
theorem q1439 : (Jvm.Cond.methodLink "RulehearthLaw" (36 : Nat) ({ cls := "Rulehearth", name := "tag", desc := "(I)I" } : Jvm.MethodName)) ∈ lw_all := lw_g (lw_at lw_m6 116 rfl) rfl
theorem q1444 : (Jvm.Cond.methodLink "RulehearthLaw" (181 : Nat) ({ cls := "RulehearthLaw", name := "standingAt", desc := "(LRulehearth;I[J)I" } : Jvm.MethodName)) ∈ lw_all := lw_g (lw_at lw_m6 121 rfl) rfl
theorem q1445 : (Jvm.Cond.static ({ cls := "RulehearthLaw", name := "standingAt", desc := "(LRulehearth;I[J)I" } : Jvm.MethodName)) ∈ lw_all := lw_g (lw_at lw_m6 122 rfl) rfl
theorem q1446 : (Jvm.Cond.codeWith ({ cls := "RulehearthLaw", name := "standingAt", desc := "(LRulehearth;I[J)I" } : Jvm.MethodName) method_10_code (4 : Nat) (Option.some Jvm.ClassFile.FieldType.int) [((0 : Nat), (9 : Nat), (12 : Nat), (21 : Nat))]) ∈ lw_all := lw_g (lw_at lw_m6 123 rfl) rfl
theorem q1447 : (Jvm.Cond.methodLink "RulehearthLaw" (39 : Nat) ({ cls := "Rulehearth", name := "standingAt", desc := "(I)I" } : Jvm.MethodName)) ∈ lw_all := lw_g (lw_at lw_m6 124 rfl) rfl
theorem q1451 : (Jvm.Cond.methodLink "RulehearthLaw" (184 : Nat) ({ cls := "RulehearthLaw", name := "rule", desc := "(LRulehearth;I)I" } : Jvm.MethodName)) ∈ lw_all := lw_g (lw_at lw_m6 128 rfl) rfl
theorem q1452 : (Jvm.Cond.static ({ cls := "RulehearthLaw", name := "rule", desc := "(LRulehearth;I)I" } : Jvm.MethodName)) ∈ lw_all := lw_g (lw_at lw_m6 129 rfl) rfl
theorem q1453 : (Jvm.Cond.codeWith ({ cls := "RulehearthLaw", name := "rule", desc := "(LRulehearth;I)I" } : Jvm.MethodName) method_11_code (3 : Nat) (Option.some Jvm.ClassFile.FieldType.int) [((0 : Nat), (5 : Nat), (8 : Nat), (21 : Nat)), ((0 : Nat), (5 : Nat), (11 : Nat), (15 : Nat))]) ∈ lw_all := lw_g (lw_at lw_m6 130 rfl) rfl
theorem q1454 : (Jvm.Cond.methodLink "RulehearthLaw" (42 : Nat) ({ cls := "Rulehearth", name := "rule", desc := "(I)V" } : Jvm.MethodName)) ∈ lw_all := lw_g (lw_at lw_m6 131 rfl) rfl
theorem q1560 : (Jvm.Cond.methodLink "RulehearthLaw" (188 : Nat) ({ cls := "RulehearthLaw", name := "deed", desc := "(LRulehearth;IIZI)I" } : Jvm.MethodName)) ∈ lw_all := lw_g (lw_at lw_m6 237 rfl) rfl
theorem q1561 : (Jvm.Cond.static ({ cls := "RulehearthLaw", name := "deed", desc := "(LRulehearth;IIZI)I" } : Jvm.MethodName)) ∈ lw_all := lw_g (lw_at lw_m6 238 rfl) rfl
theorem q1562 : (Jvm.Cond.codeWith ({ cls := "RulehearthLaw", name := "deed", desc := "(LRulehearth;IIZI)I" } : Jvm.MethodName) method_12_code (6 : Nat) (Option.some Jvm.ClassFile.FieldType.int) [((0 : Nat), (9 : Nat), (12 : Nat), (21 : Nat)), ((0 : Nat), (9 : Nat), (16 : Nat), (13 : Nat)), ((0 : Nat), (9 : Nat), (20 : Nat), (15 : Nat))]) ∈ lw_all := lw_g (lw_at lw_m6 239 rfl) rfl
theorem q1563 : (Jvm.Cond.methodLink "RulehearthLaw" (46 : Nat) ({ cls := "Rulehearth", name := "deed", desc := "(IIZI)V" } : Jvm.MethodName)) ∈ lw_all := lw_g (lw_at lw_m7 0 rfl) rfl
theorem q1567 : (Jvm.Cond.methodLink "RulehearthLaw" (192 : Nat) ({ cls := "RulehearthLaw", name := "variable", desc := "(LRulehearth;I)I" } : Jvm.MethodName)) ∈ lw_all := lw_g (lw_at lw_m7 4 rfl) rfl
theorem q1568 : (Jvm.Cond.static ({ cls := "RulehearthLaw", name := "variable", desc := "(LRulehearth;I)I" } : Jvm.MethodName)) ∈ lw_all := lw_g (lw_at lw_m7 5 rfl) rfl
theorem q1569 : (Jvm.Cond.codeWith ({ cls := "RulehearthLaw", name := "variable", desc := "(LRulehearth;I)I" } : Jvm.MethodName) method_13_code (3 : Nat) (Option.some Jvm.ClassFile.FieldType.int) [((0 : Nat), (5 : Nat), (8 : Nat), (13 : Nat)), ((0 : Nat), (5 : Nat), (11 : Nat), (15 : Nat))]) ∈ lw_all := lw_g (lw_at lw_m7 6 rfl) rfl
theorem q1570 : (Jvm.Cond.methodLink "RulehearthLaw" (50 : Nat) ({ cls := "Rulehearth", name := "variable", desc := "(I)V" } : Jvm.MethodName)) ∈ lw_all := lw_g (lw_at lw_m7 7 rfl) rfl
theorem q1593 : (Jvm.Cond.methodLink "RulehearthLaw" (195 : Nat) ({ cls := "RulehearthLaw", name := "value", desc := "(LRulehearth;I)I" } : Jvm.MethodName)) ∈ lw_all := lw_g (lw_at lw_m7 30 rfl) rfl
theorem q1594 : (Jvm.Cond.static ({ cls := "RulehearthLaw", name := "value", desc := "(LRulehearth;I)I" } : Jvm.MethodName)) ∈ lw_all := lw_g (lw_at lw_m7 31 rfl) rfl
theorem q1595 : (Jvm.Cond.codeWith ({ cls := "RulehearthLaw", name := "value", desc := "(LRulehearth;I)I" } : Jvm.MethodName) method_14_code (3 : Nat) (Option.some Jvm.ClassFile.FieldType.int) [((0 : Nat), (5 : Nat), (8 : Nat), (13 : Nat)), ((0 : Nat), (5 : Nat), (11 : Nat), (15 : Nat))]) ∈ lw_all := lw_g (lw_at lw_m7 32 rfl) rfl
theorem q1596 : (Jvm.Cond.methodLink "RulehearthLaw" (53 : Nat) ({ cls := "Rulehearth", name := "value", desc := "(I)V" } : Jvm.MethodName)) ∈ lw_all := lw_g (lw_at lw_m7 33 rfl) rfl
theorem q1600 : (Jvm.Cond.methodLink "RulehearthLaw" (198 : Nat) ({ cls := "RulehearthLaw", name := "gather", desc := "(LRulehearth;II)I" } : Jvm.MethodName)) ∈ lw_all := lw_g (lw_at lw_m7 37 rfl) rfl
theorem q1601 : (Jvm.Cond.static ({ cls := "RulehearthLaw", name := "gather", desc := "(LRulehearth;II)I" } : Jvm.MethodName)) ∈ lw_all := lw_g (lw_at lw_m7 38 rfl) rfl
theorem q1602 : (Jvm.Cond.codeWith ({ cls := "RulehearthLaw", name := "gather", desc := "(LRulehearth;II)I" } : Jvm.MethodName) method_15_code (4 : Nat) (Option.some Jvm.ClassFile.FieldType.int) [((0 : Nat), (6 : Nat), (9 : Nat), (13 : Nat)), ((0 : Nat), (6 : Nat), (12 : Nat), (15 : Nat))]) ∈ lw_all := lw_g (lw_at lw_m7 39 rfl) rfl
theorem q1603 : (Jvm.Cond.methodLink "RulehearthLaw" (56 : Nat) ({ cls := "Rulehearth", name := "gather", desc := "(II)V" } : Jvm.MethodName)) ∈ lw_all := lw_g (lw_at lw_m7 40 rfl) rfl
theorem q1607 : (Jvm.Cond.methodLink "RulehearthLaw" (202 : Nat) ({ cls := "RulehearthLaw", name := "atom", desc := "(LRulehearth;I)I" } : Jvm.MethodName)) ∈ lw_all := lw_g (lw_at lw_m7 44 rfl) rfl
theorem q1608 : (Jvm.Cond.static ({ cls := "RulehearthLaw", name := "atom", desc := "(LRulehearth;I)I" } : Jvm.MethodName)) ∈ lw_all := lw_g (lw_at lw_m7 45 rfl) rfl
theorem q1609 : (Jvm.Cond.codeWith ({ cls := "RulehearthLaw", name := "atom", desc := "(LRulehearth;I)I" } : Jvm.MethodName) method_16_code (3 : Nat) (Option.some Jvm.ClassFile.FieldType.int) [((0 : Nat), (5 : Nat), (8 : Nat), (21 : Nat)), ((0 : Nat), (5 : Nat), (11 : Nat), (15 : Nat))]) ∈ lw_all := lw_g (lw_at lw_m7 46 rfl) rfl
theorem q1610 : (Jvm.Cond.methodLink "RulehearthLaw" (60 : Nat) ({ cls := "Rulehearth", name := "atom", desc := "(I)V" } : Jvm.MethodName)) ∈ lw_all := lw_g (lw_at lw_m7 47 rfl) rfl
theorem q1619 : (Jvm.Cond.methodLink "RulehearthLaw" (205 : Nat) ({ cls := "RulehearthLaw", name := "not", desc := "(LRulehearth;I)I" } : Jvm.MethodName)) ∈ lw_all := lw_g (lw_at lw_m7 56 rfl) rfl
theorem q1620 : (Jvm.Cond.static ({ cls := "RulehearthLaw", name := "not", desc := "(LRulehearth;I)I" } : Jvm.MethodName)) ∈ lw_all := lw_g (lw_at lw_m7 57 rfl) rfl
theorem q1621 : (Jvm.Cond.codeWith ({ cls := "RulehearthLaw", name := "not", desc := "(LRulehearth;I)I" } : Jvm.MethodName) method_17_code (3 : Nat) (Option.some Jvm.ClassFile.FieldType.int) [((0 : Nat), (5 : Nat), (8 : Nat), (21 : Nat)), ((0 : Nat), (5 : Nat), (11 : Nat), (15 : Nat))]) ∈ lw_all := lw_g (lw_at lw_m7 58 rfl) rfl
theorem q1622 : (Jvm.Cond.methodLink "RulehearthLaw" (63 : Nat) ({ cls := "Rulehearth", name := "not", desc := "(I)V" } : Jvm.MethodName)) ∈ lw_all := lw_g (lw_at lw_m7 59 rfl) rfl
theorem q1626 : (Jvm.Cond.methodLink "RulehearthLaw" (208 : Nat) ({ cls := "RulehearthLaw", name := "test", desc := "(LRulehearth;I)I" } : Jvm.MethodName)) ∈ lw_all := lw_g (lw_at lw_m7 63 rfl) rfl
theorem q1627 : (Jvm.Cond.static ({ cls := "RulehearthLaw", name := "test", desc := "(LRulehearth;I)I" } : Jvm.MethodName)) ∈ lw_all := lw_g (lw_at lw_m7 64 rfl) rfl
theorem q1628 : (Jvm.Cond.codeWith ({ cls := "RulehearthLaw", name := "test", desc := "(LRulehearth;I)I" } : Jvm.MethodName) method_18_code (3 : Nat) (Option.some Jvm.ClassFile.FieldType.int) [((0 : Nat), (5 : Nat), (8 : Nat), (13 : Nat)), ((0 : Nat), (5 : Nat), (11 : Nat), (15 : Nat))]) ∈ lw_all := lw_g (lw_at lw_m7 65 rfl) rfl
theorem q1629 : (Jvm.Cond.methodLink "RulehearthLaw" (66 : Nat) ({ cls := "Rulehearth", name := "test", desc := "(I)V" } : Jvm.MethodName)) ∈ lw_all := lw_g (lw_at lw_m7 66 rfl) rfl
theorem q1633 : (Jvm.Cond.methodLink "RulehearthLaw" (211 : Nat) ({ cls := "RulehearthLaw", name := "plus", desc := "(LRulehearth;)I" } : Jvm.MethodName)) ∈ lw_all := lw_g (lw_at lw_m7 70 rfl) rfl
theorem q1634 : (Jvm.Cond.static ({ cls := "RulehearthLaw", name := "plus", desc := "(LRulehearth;)I" } : Jvm.MethodName)) ∈ lw_all := lw_g (lw_at lw_m7 71 rfl) rfl
theorem q1635 : (Jvm.Cond.codeWith ({ cls := "RulehearthLaw", name := "plus", desc := "(LRulehearth;)I" } : Jvm.MethodName) method_19_code (2 : Nat) (Option.some Jvm.ClassFile.FieldType.int) [((0 : Nat), (4 : Nat), (7 : Nat), (15 : Nat))]) ∈ lw_all := lw_g (lw_at lw_m7 72 rfl) rfl
theorem q1636 : (Jvm.Cond.methodLink "RulehearthLaw" (69 : Nat) ({ cls := "Rulehearth", name := "plus", desc := "()V" } : Jvm.MethodName)) ∈ lw_all := lw_g (lw_at lw_m7 73 rfl) rfl
theorem q1640 : (Jvm.Cond.methodLink "RulehearthLaw" (215 : Nat) ({ cls := "RulehearthLaw", name := "done", desc := "(LRulehearth;[J)I" } : Jvm.MethodName)) ∈ lw_all := lw_g (lw_at lw_m7 77 rfl) rfl
theorem q1641 : (Jvm.Cond.static ({ cls := "RulehearthLaw", name := "done", desc := "(LRulehearth;[J)I" } : Jvm.MethodName)) ∈ lw_all := lw_g (lw_at lw_m7 78 rfl) rfl
theorem q1642 : (Jvm.Cond.codeWith ({ cls := "RulehearthLaw", name := "done", desc := "(LRulehearth;[J)I" } : Jvm.MethodName) method_20_code (3 : Nat) (Option.some Jvm.ClassFile.FieldType.int) [((0 : Nat), (8 : Nat), (11 : Nat), (15 : Nat))]) ∈ lw_all := lw_g (lw_at lw_m7 79 rfl) rfl
theorem q1643 : (Jvm.Cond.methodLink "RulehearthLaw" (72 : Nat) ({ cls := "Rulehearth", name := "done", desc := "()I" } : Jvm.MethodName)) ∈ lw_all := lw_g (lw_at lw_m7 80 rfl) rfl
theorem q1663 : (Jvm.Cond.methodLink "RulehearthLaw" (224 : Nat) ({ cls := "RulehearthLaw", name := "drop", desc := "(LRulehearth;I[J)I" } : Jvm.MethodName)) ∈ lw_all := lw_g (lw_at lw_m7 100 rfl) rfl
theorem q1664 : (Jvm.Cond.static ({ cls := "RulehearthLaw", name := "drop", desc := "(LRulehearth;I[J)I" } : Jvm.MethodName)) ∈ lw_all := lw_g (lw_at lw_m7 101 rfl) rfl
theorem q1665 : (Jvm.Cond.codeWith ({ cls := "RulehearthLaw", name := "drop", desc := "(LRulehearth;I[J)I" } : Jvm.MethodName) method_21_code (4 : Nat) (Option.some Jvm.ClassFile.FieldType.int) [((0 : Nat), (9 : Nat), (12 : Nat), (21 : Nat)), ((0 : Nat), (9 : Nat), (15 : Nat), (15 : Nat))]) ∈ lw_all := lw_g (lw_at lw_m7 102 rfl) rfl
theorem q1666 : (Jvm.Cond.methodLink "RulehearthLaw" (76 : Nat) ({ cls := "Rulehearth", name := "drop", desc := "(I)I" } : Jvm.MethodName)) ∈ lw_all := lw_g (lw_at lw_m7 103 rfl) rfl
theorem q1677 : (Jvm.Cond.methodLink "RulehearthLaw" (227 : Nat) ({ cls := "RulehearthLaw", name := "dropDeed", desc := "(LRulehearth;I[J)I" } : Jvm.MethodName)) ∈ lw_all := lw_g (lw_at lw_m7 114 rfl) rfl
theorem q1678 : (Jvm.Cond.static ({ cls := "RulehearthLaw", name := "dropDeed", desc := "(LRulehearth;I[J)I" } : Jvm.MethodName)) ∈ lw_all := lw_g (lw_at lw_m7 115 rfl) rfl
theorem q1679 : (Jvm.Cond.codeWith ({ cls := "RulehearthLaw", name := "dropDeed", desc := "(LRulehearth;I[J)I" } : Jvm.MethodName) method_22_code (4 : Nat) (Option.some Jvm.ClassFile.FieldType.int) [((0 : Nat), (9 : Nat), (12 : Nat), (21 : Nat))]) ∈ lw_all := lw_g (lw_at lw_m7 116 rfl) rfl
theorem q1680 : (Jvm.Cond.methodLink "RulehearthLaw" (79 : Nat) ({ cls := "Rulehearth", name := "dropDeed", desc := "(I)I" } : Jvm.MethodName)) ∈ lw_all := lw_g (lw_at lw_m7 117 rfl) rfl
theorem q1684 : (Jvm.Cond.methodLink "RulehearthLaw" (230 : Nat) ({ cls := "RulehearthLaw", name := "stratum", desc := "(LRulehearth;I[J)I" } : Jvm.MethodName)) ∈ lw_all := lw_g (lw_at lw_m7 121 rfl) rfl
theorem q1685 : (Jvm.Cond.static ({ cls := "RulehearthLaw", name := "stratum", desc := "(LRulehearth;I[J)I" } : Jvm.MethodName)) ∈ lw_all := lw_g (lw_at lw_m7 122 rfl) rfl
theorem q1686 : (Jvm.Cond.codeWith ({ cls := "RulehearthLaw", name := "stratum", desc := "(LRulehearth;I[J)I" } : Jvm.MethodName) method_23_code (4 : Nat) (Option.some Jvm.ClassFile.FieldType.int) [((0 : Nat), (9 : Nat), (12 : Nat), (21 : Nat))]) ∈ lw_all := lw_g (lw_at lw_m7 123 rfl) rfl
theorem q1687 : (Jvm.Cond.methodLink "RulehearthLaw" (82 : Nat) ({ cls := "Rulehearth", name := "stratum", desc := "(I)I" } : Jvm.MethodName)) ∈ lw_all := lw_g (lw_at lw_m7 124 rfl) rfl
theorem q1691 : (Jvm.Cond.methodLink "RulehearthLaw" (233 : Nat) ({ cls := "RulehearthLaw", name := "depth", desc := "(LRulehearth;I[J)I" } : Jvm.MethodName)) ∈ lw_all := lw_g (lw_at lw_m7 128 rfl) rfl
theorem q1692 : (Jvm.Cond.static ({ cls := "RulehearthLaw", name := "depth", desc := "(LRulehearth;I[J)I" } : Jvm.MethodName)) ∈ lw_all := lw_g (lw_at lw_m7 129 rfl) rfl
theorem q1693 : (Jvm.Cond.codeWith ({ cls := "RulehearthLaw", name := "depth", desc := "(LRulehearth;I[J)I" } : Jvm.MethodName) method_24_code (4 : Nat) (Option.some Jvm.ClassFile.FieldType.int) [((0 : Nat), (9 : Nat), (12 : Nat), (21 : Nat)), ((0 : Nat), (9 : Nat), (15 : Nat), (13 : Nat))]) ∈ lw_all := lw_g (lw_at lw_m7 130 rfl) rfl
theorem q1694 : (Jvm.Cond.methodLink "RulehearthLaw" (85 : Nat) ({ cls := "Rulehearth", name := "depth", desc := "(I)I" } : Jvm.MethodName)) ∈ lw_all := lw_g (lw_at lw_m7 131 rfl) rfl
theorem q1820 : (Jvm.Cond.methodLink "RulehearthLaw" (236 : Nat) ({ cls := "RulehearthLaw", name := "why", desc := "(LRulehearth;I[J)I" } : Jvm.MethodName)) ∈ lw_all := lw_g (lw_at lw_m8 17 rfl) rfl
theorem q1821 : (Jvm.Cond.static ({ cls := "RulehearthLaw", name := "why", desc := "(LRulehearth;I[J)I" } : Jvm.MethodName)) ∈ lw_all := lw_g (lw_at lw_m8 18 rfl) rfl
theorem q1822 : (Jvm.Cond.codeWith ({ cls := "RulehearthLaw", name := "why", desc := "(LRulehearth;I[J)I" } : Jvm.MethodName) method_25_code (4 : Nat) (Option.some Jvm.ClassFile.FieldType.int) [((0 : Nat), (9 : Nat), (12 : Nat), (21 : Nat)), ((0 : Nat), (9 : Nat), (15 : Nat), (13 : Nat))]) ∈ lw_all := lw_g (lw_at lw_m8 19 rfl) rfl
theorem q1823 : (Jvm.Cond.methodLink "RulehearthLaw" (88 : Nat) ({ cls := "Rulehearth", name := "why", desc := "(I)I" } : Jvm.MethodName)) ∈ lw_all := lw_g (lw_at lw_m8 20 rfl) rfl
theorem q1881 : (Jvm.Cond.methodLink "RulehearthLaw" (239 : Nat) ({ cls := "RulehearthLaw", name := "reasons", desc := "(LRulehearth;I[J)I" } : Jvm.MethodName)) ∈ lw_all := lw_g (lw_at lw_m8 78 rfl) rfl
theorem q1882 : (Jvm.Cond.static ({ cls := "RulehearthLaw", name := "reasons", desc := "(LRulehearth;I[J)I" } : Jvm.MethodName)) ∈ lw_all := lw_g (lw_at lw_m8 79 rfl) rfl
theorem q1883 : (Jvm.Cond.codeWith ({ cls := "RulehearthLaw", name := "reasons", desc := "(LRulehearth;I[J)I" } : Jvm.MethodName) method_26_code (4 : Nat) (Option.some Jvm.ClassFile.FieldType.int) [((0 : Nat), (9 : Nat), (12 : Nat), (21 : Nat)), ((0 : Nat), (9 : Nat), (15 : Nat), (13 : Nat))]) ∈ lw_all := lw_g (lw_at lw_m8 80 rfl) rfl
theorem q1884 : (Jvm.Cond.methodLink "RulehearthLaw" (91 : Nat) ({ cls := "Rulehearth", name := "reasons", desc := "(I)I" } : Jvm.MethodName)) ∈ lw_all := lw_g (lw_at lw_m8 81 rfl) rfl
theorem q1888 : (Jvm.Cond.methodLink "RulehearthLaw" (242 : Nat) ({ cls := "RulehearthLaw", name := "reasonAt", desc := "(LRulehearth;II[J)I" } : Jvm.MethodName)) ∈ lw_all := lw_g (lw_at lw_m8 85 rfl) rfl
theorem q1889 : (Jvm.Cond.static ({ cls := "RulehearthLaw", name := "reasonAt", desc := "(LRulehearth;II[J)I" } : Jvm.MethodName)) ∈ lw_all := lw_g (lw_at lw_m8 86 rfl) rfl
theorem q1890 : (Jvm.Cond.codeWith ({ cls := "RulehearthLaw", name := "reasonAt", desc := "(LRulehearth;II[J)I" } : Jvm.MethodName) method_27_code (5 : Nat) (Option.some Jvm.ClassFile.FieldType.int) [((0 : Nat), (10 : Nat), (13 : Nat), (21 : Nat)), ((0 : Nat), (10 : Nat), (17 : Nat), (13 : Nat))]) ∈ lw_all := lw_g (lw_at lw_m8 87 rfl) rfl
theorem q1891 : (Jvm.Cond.methodLink "RulehearthLaw" (94 : Nat) ({ cls := "Rulehearth", name := "reasonAt", desc := "(II)I" } : Jvm.MethodName)) ∈ lw_all := lw_g (lw_at lw_m8 88 rfl) rfl
theorem q1895 : (Jvm.Cond.methodLink "RulehearthLaw" (245 : Nat) ({ cls := "RulehearthLaw", name := "dependsOn", desc := "(LRulehearth;II[J)I" } : Jvm.MethodName)) ∈ lw_all := lw_g (lw_at lw_m8 92 rfl) rfl
theorem q1896 : (Jvm.Cond.static ({ cls := "RulehearthLaw", name := "dependsOn", desc := "(LRulehearth;II[J)I" } : Jvm.MethodName)) ∈ lw_all := lw_g (lw_at lw_m8 93 rfl) rfl
theorem q1897 : (Jvm.Cond.codeWith ({ cls := "RulehearthLaw", name := "dependsOn", desc := "(LRulehearth;II[J)I" } : Jvm.MethodName) method_28_code (5 : Nat) (Option.some Jvm.ClassFile.FieldType.int) [((0 : Nat), (17 : Nat), (20 : Nat), (21 : Nat)), ((0 : Nat), (17 : Nat), (24 : Nat), (13 : Nat))]) ∈ lw_all := lw_g (lw_at lw_m8 94 rfl) rfl
theorem q1898 : (Jvm.Cond.methodLink "RulehearthLaw" (97 : Nat) ({ cls := "Rulehearth", name := "dependsOn", desc := "(II)Z" } : Jvm.MethodName)) ∈ lw_all := lw_g (lw_at lw_m8 95 rfl) rfl
theorem q1903 : (Jvm.Cond.methodLink "RulehearthLaw" (248 : Nat) ({ cls := "RulehearthLaw", name := "whyNot", desc := "(LRulehearth;II[J)I" } : Jvm.MethodName)) ∈ lw_all := lw_g (lw_at lw_m8 100 rfl) rfl
theorem q1904 : (Jvm.Cond.static ({ cls := "RulehearthLaw", name := "whyNot", desc := "(LRulehearth;II[J)I" } : Jvm.MethodName)) ∈ lw_all := lw_g (lw_at lw_m8 101 rfl) rfl
theorem q1905 : (Jvm.Cond.codeWith ({ cls := "RulehearthLaw", name := "whyNot", desc := "(LRulehearth;II[J)I" } : Jvm.MethodName) method_29_code (5 : Nat) (Option.some Jvm.ClassFile.FieldType.int) [((0 : Nat), (10 : Nat), (13 : Nat), (21 : Nat)), ((0 : Nat), (10 : Nat), (17 : Nat), (13 : Nat))]) ∈ lw_all := lw_g (lw_at lw_m8 102 rfl) rfl
theorem q1906 : (Jvm.Cond.methodLink "RulehearthLaw" (101 : Nat) ({ cls := "Rulehearth", name := "whyNot", desc := "(II)I" } : Jvm.MethodName)) ∈ lw_all := lw_g (lw_at lw_m8 103 rfl) rfl
theorem q1912 : (Jvm.Cond.methodLink "RulehearthLaw" (251 : Nat) ({ cls := "RulehearthLaw", name := "answers", desc := "(LRulehearth;IIII[J)I" } : Jvm.MethodName)) ∈ lw_all := lw_g (lw_at lw_m8 109 rfl) rfl
theorem q1913 : (Jvm.Cond.static ({ cls := "RulehearthLaw", name := "answers", desc := "(LRulehearth;IIII[J)I" } : Jvm.MethodName)) ∈ lw_all := lw_g (lw_at lw_m8 110 rfl) rfl
theorem q1914 : (Jvm.Cond.codeWith ({ cls := "RulehearthLaw", name := "answers", desc := "(LRulehearth;IIII[J)I" } : Jvm.MethodName) method_30_code (7 : Nat) (Option.some Jvm.ClassFile.FieldType.int) [((0 : Nat), (14 : Nat), (17 : Nat), (21 : Nat)), ((0 : Nat), (14 : Nat), (21 : Nat), (13 : Nat))]) ∈ lw_all := lw_g (lw_at lw_m8 111 rfl) rfl
theorem q1915 : (Jvm.Cond.methodLink "RulehearthLaw" (104 : Nat) ({ cls := "Rulehearth", name := "answers", desc := "(IIII)I" } : Jvm.MethodName)) ∈ lw_all := lw_g (lw_at lw_m8 112 rfl) rfl
theorem q1923 : (Jvm.Cond.methodLink "RulehearthLaw" (255 : Nat) ({ cls := "RulehearthLaw", name := "goals", desc := "(LRulehearth;IIII[J)I" } : Jvm.MethodName)) ∈ lw_all := lw_g (lw_at lw_m8 120 rfl) rfl
theorem q1924 : (Jvm.Cond.static ({ cls := "RulehearthLaw", name := "goals", desc := "(LRulehearth;IIII[J)I" } : Jvm.MethodName)) ∈ lw_all := lw_g (lw_at lw_m8 121 rfl) rfl
theorem q1925 : (Jvm.Cond.codeWith ({ cls := "RulehearthLaw", name := "goals", desc := "(LRulehearth;IIII[J)I" } : Jvm.MethodName) method_31_code (7 : Nat) (Option.some Jvm.ClassFile.FieldType.int) [((0 : Nat), (14 : Nat), (17 : Nat), (21 : Nat)), ((0 : Nat), (14 : Nat), (21 : Nat), (13 : Nat))]) ∈ lw_all := lw_g (lw_at lw_m8 122 rfl) rfl
theorem q1926 : (Jvm.Cond.methodLink "RulehearthLaw" (108 : Nat) ({ cls := "Rulehearth", name := "goals", desc := "(IIII)I" } : Jvm.MethodName)) ∈ lw_all := lw_g (lw_at lw_m8 123 rfl) rfl
theorem q1989 : (Jvm.Cond.methodLink "RulehearthLaw" (262 : Nat) ({ cls := "RulehearthLaw", name := "matches", desc := "(LRulehearth;II[J)I" } : Jvm.MethodName)) ∈ lw_all := lw_g (lw_at lw_m8 186 rfl) rfl
theorem q1990 : (Jvm.Cond.static ({ cls := "RulehearthLaw", name := "matches", desc := "(LRulehearth;II[J)I" } : Jvm.MethodName)) ∈ lw_all := lw_g (lw_at lw_m8 187 rfl) rfl
theorem q1991 : (Jvm.Cond.codeWith ({ cls := "RulehearthLaw", name := "matches", desc := "(LRulehearth;II[J)I" } : Jvm.MethodName) method_32_code (5 : Nat) (Option.some Jvm.ClassFile.FieldType.int) [((0 : Nat), (10 : Nat), (13 : Nat), (21 : Nat)), ((0 : Nat), (10 : Nat), (17 : Nat), (13 : Nat))]) ∈ lw_all := lw_g (lw_at lw_m8 188 rfl) rfl
theorem q1992 : (Jvm.Cond.methodLink "RulehearthLaw" (111 : Nat) ({ cls := "Rulehearth", name := "matches", desc := "(II)I" } : Jvm.MethodName)) ∈ lw_all := lw_g (lw_at lw_m8 189 rfl) rfl
theorem q2002 : (Jvm.Cond.methodLink "RulehearthLaw" (265 : Nat) ({ cls := "RulehearthLaw", name := "planAt", desc := "(LRulehearth;II[J)I" } : Jvm.MethodName)) ∈ lw_all := lw_g (lw_at lw_m8 199 rfl) rfl
theorem q2003 : (Jvm.Cond.static ({ cls := "RulehearthLaw", name := "planAt", desc := "(LRulehearth;II[J)I" } : Jvm.MethodName)) ∈ lw_all := lw_g (lw_at lw_m8 200 rfl) rfl
theorem q2004 : (Jvm.Cond.codeWith ({ cls := "RulehearthLaw", name := "planAt", desc := "(LRulehearth;II[J)I" } : Jvm.MethodName) method_33_code (5 : Nat) (Option.some Jvm.ClassFile.FieldType.int) [((0 : Nat), (10 : Nat), (13 : Nat), (21 : Nat))]) ∈ lw_all := lw_g (lw_at lw_m8 201 rfl) rfl
theorem q2005 : (Jvm.Cond.methodLink "RulehearthLaw" (114 : Nat) ({ cls := "Rulehearth", name := "planAt", desc := "(II)I" } : Jvm.MethodName)) ∈ lw_all := lw_g (lw_at lw_m8 202 rfl) rfl
theorem q2029 : (Jvm.Cond.methodLink "RulehearthLaw" (268 : Nat) ({ cls := "RulehearthLaw", name := "work", desc := "(LRulehearth;IZ[J)I" } : Jvm.MethodName)) ∈ lw_all := lw_g (lw_at lw_m8 226 rfl) rfl
theorem q2030 : (Jvm.Cond.static ({ cls := "RulehearthLaw", name := "work", desc := "(LRulehearth;IZ[J)I" } : Jvm.MethodName)) ∈ lw_all := lw_g (lw_at lw_m8 227 rfl) rfl
theorem q2031 : (Jvm.Cond.codeWith ({ cls := "RulehearthLaw", name := "work", desc := "(LRulehearth;IZ[J)I" } : Jvm.MethodName) method_34_code (5 : Nat) (Option.some Jvm.ClassFile.FieldType.int) [((0 : Nat), (10 : Nat), (13 : Nat), (21 : Nat))]) ∈ lw_all := lw_g (lw_at lw_m8 228 rfl) rfl
theorem q2032 : (Jvm.Cond.methodLink "RulehearthLaw" (117 : Nat) ({ cls := "Rulehearth", name := "work", desc := "(IZ)I" } : Jvm.MethodName)) ∈ lw_all := lw_g (lw_at lw_m8 229 rfl) rfl
theorem q2036 : (Jvm.Cond.methodLink "RulehearthLaw" (272 : Nat) ({ cls := "RulehearthLaw", name := "agenda", desc := "(LRulehearth;I[J)I" } : Jvm.MethodName)) ∈ lw_all := lw_g (lw_at lw_m8 233 rfl) rfl
theorem q2037 : (Jvm.Cond.static ({ cls := "RulehearthLaw", name := "agenda", desc := "(LRulehearth;I[J)I" } : Jvm.MethodName)) ∈ lw_all := lw_g (lw_at lw_m8 234 rfl) rfl
theorem q2038 : (Jvm.Cond.codeWith ({ cls := "RulehearthLaw", name := "agenda", desc := "(LRulehearth;I[J)I" } : Jvm.MethodName) method_35_code (4 : Nat) (Option.some Jvm.ClassFile.FieldType.int) [((0 : Nat), (9 : Nat), (12 : Nat), (13 : Nat))]) ∈ lw_all := lw_g (lw_at lw_m8 235 rfl) rfl
theorem q2039 : (Jvm.Cond.methodLink "RulehearthLaw" (121 : Nat) ({ cls := "Rulehearth", name := "agenda", desc := "(I)I" } : Jvm.MethodName)) ∈ lw_all := lw_g (lw_at lw_m8 236 rfl) rfl
theorem q2043 : (Jvm.Cond.methodLink "RulehearthLaw" (283 : Nat) ({ cls := "RulehearthLaw", name := "fire", desc := "(LRulehearth;[J)I" } : Jvm.MethodName)) ∈ lw_all := lw_g (lw_at lw_m9 0 rfl) rfl
theorem q2044 : (Jvm.Cond.static ({ cls := "RulehearthLaw", name := "fire", desc := "(LRulehearth;[J)I" } : Jvm.MethodName)) ∈ lw_all := lw_g (lw_at lw_m9 1 rfl) rfl
theorem q2045 : (Jvm.Cond.codeWith ({ cls := "RulehearthLaw", name := "fire", desc := "(LRulehearth;[J)I" } : Jvm.MethodName) method_36_code (3 : Nat) (Option.some Jvm.ClassFile.FieldType.int) [((0 : Nat), (8 : Nat), (11 : Nat), (15 : Nat))]) ∈ lw_all := lw_g (lw_at lw_m9 2 rfl) rfl
theorem q2046 : (Jvm.Cond.methodLink "RulehearthLaw" (124 : Nat) ({ cls := "Rulehearth", name := "fire", desc := "()I" } : Jvm.MethodName)) ∈ lw_all := lw_g (lw_at lw_m9 3 rfl) rfl
theorem q2050 : (Jvm.Cond.methodLink "RulehearthLaw" (286 : Nat) ({ cls := "RulehearthLaw", name := "run", desc := "(LRulehearth;I[J)I" } : Jvm.MethodName)) ∈ lw_all := lw_g (lw_at lw_m9 7 rfl) rfl
theorem q2051 : (Jvm.Cond.static ({ cls := "RulehearthLaw", name := "run", desc := "(LRulehearth;I[J)I" } : Jvm.MethodName)) ∈ lw_all := lw_g (lw_at lw_m9 8 rfl) rfl
theorem q2052 : (Jvm.Cond.codeWith ({ cls := "RulehearthLaw", name := "run", desc := "(LRulehearth;I[J)I" } : Jvm.MethodName) method_37_code (4 : Nat) (Option.some Jvm.ClassFile.FieldType.int) [((0 : Nat), (9 : Nat), (12 : Nat), (13 : Nat))]) ∈ lw_all := lw_g (lw_at lw_m9 9 rfl) rfl
theorem q2053 : (Jvm.Cond.methodLink "RulehearthLaw" (127 : Nat) ({ cls := "Rulehearth", name := "run", desc := "(I)I" } : Jvm.MethodName)) ∈ lw_all := lw_g (lw_at lw_m9 10 rfl) rfl
theorem q2058 : (Jvm.Cond.methodLink "RulehearthLaw" (289 : Nat) ({ cls := "RulehearthLaw", name := "focus", desc := "(LRulehearth;I[J)I" } : Jvm.MethodName)) ∈ lw_all := lw_g (lw_at lw_m9 15 rfl) rfl
theorem q2059 : (Jvm.Cond.static ({ cls := "RulehearthLaw", name := "focus", desc := "(LRulehearth;I[J)I" } : Jvm.MethodName)) ∈ lw_all := lw_g (lw_at lw_m9 16 rfl) rfl
theorem q2060 : (Jvm.Cond.codeWith ({ cls := "RulehearthLaw", name := "focus", desc := "(LRulehearth;I[J)I" } : Jvm.MethodName) method_38_code (4 : Nat) (Option.some Jvm.ClassFile.FieldType.int) [((0 : Nat), (9 : Nat), (12 : Nat), (13 : Nat)), ((0 : Nat), (9 : Nat), (15 : Nat), (15 : Nat))]) ∈ lw_all := lw_g (lw_at lw_m9 17 rfl) rfl
theorem q2061 : (Jvm.Cond.methodLink "RulehearthLaw" (130 : Nat) ({ cls := "Rulehearth", name := "focus", desc := "(I)I" } : Jvm.MethodName)) ∈ lw_all := lw_g (lw_at lw_m9 18 rfl) rfl
theorem q2065 : (Jvm.Cond.methodLink "RulehearthLaw" (296 : Nat) ({ cls := "RulehearthLaw", name := "tick", desc := "(LRulehearth;I[J)I" } : Jvm.MethodName)) ∈ lw_all := lw_g (lw_at lw_m9 22 rfl) rfl
theorem q2066 : (Jvm.Cond.static ({ cls := "RulehearthLaw", name := "tick", desc := "(LRulehearth;I[J)I" } : Jvm.MethodName)) ∈ lw_all := lw_g (lw_at lw_m9 23 rfl) rfl
theorem q2067 : (Jvm.Cond.codeWith ({ cls := "RulehearthLaw", name := "tick", desc := "(LRulehearth;I[J)I" } : Jvm.MethodName) method_39_code (4 : Nat) (Option.some Jvm.ClassFile.FieldType.int) [((0 : Nat), (9 : Nat), (12 : Nat), (13 : Nat)), ((0 : Nat), (9 : Nat), (15 : Nat), (15 : Nat))]) ∈ lw_all := lw_g (lw_at lw_m9 24 rfl) rfl
theorem q2068 : (Jvm.Cond.methodLink "RulehearthLaw" (133 : Nat) ({ cls := "Rulehearth", name := "tick", desc := "(I)I" } : Jvm.MethodName)) ∈ lw_all := lw_g (lw_at lw_m9 25 rfl) rfl
theorem q2072 : (Jvm.Cond.methodLink "RulehearthLaw" (303 : Nat) ({ cls := "RulehearthLaw", name := "begin", desc := "(LRulehearth;[J)I" } : Jvm.MethodName)) ∈ lw_all := lw_g (lw_at lw_m9 29 rfl) rfl
theorem q2073 : (Jvm.Cond.static ({ cls := "RulehearthLaw", name := "begin", desc := "(LRulehearth;[J)I" } : Jvm.MethodName)) ∈ lw_all := lw_g (lw_at lw_m9 30 rfl) rfl
theorem q2074 : (Jvm.Cond.codeWith ({ cls := "RulehearthLaw", name := "begin", desc := "(LRulehearth;[J)I" } : Jvm.MethodName) method_40_code (3 : Nat) (Option.some Jvm.ClassFile.FieldType.int) [((0 : Nat), (8 : Nat), (11 : Nat), (15 : Nat))]) ∈ lw_all := lw_g (lw_at lw_m9 31 rfl) rfl
theorem q2075 : (Jvm.Cond.methodLink "RulehearthLaw" (136 : Nat) ({ cls := "Rulehearth", name := "begin", desc := "()I" } : Jvm.MethodName)) ∈ lw_all := lw_g (lw_at lw_m9 32 rfl) rfl
theorem q2079 : (Jvm.Cond.methodLink "RulehearthLaw" (306 : Nat) ({ cls := "RulehearthLaw", name := "commit", desc := "(LRulehearth;[J)I" } : Jvm.MethodName)) ∈ lw_all := lw_g (lw_at lw_m9 36 rfl) rfl
theorem q2080 : (Jvm.Cond.static ({ cls := "RulehearthLaw", name := "commit", desc := "(LRulehearth;[J)I" } : Jvm.MethodName)) ∈ lw_all := lw_g (lw_at lw_m9 37 rfl) rfl
theorem q2081 : (Jvm.Cond.codeWith ({ cls := "RulehearthLaw", name := "commit", desc := "(LRulehearth;[J)I" } : Jvm.MethodName) method_41_code (3 : Nat) (Option.some Jvm.ClassFile.FieldType.int) [((0 : Nat), (8 : Nat), (11 : Nat), (15 : Nat))]) ∈ lw_all := lw_g (lw_at lw_m9 38 rfl) rfl
theorem q2082 : (Jvm.Cond.methodLink "RulehearthLaw" (139 : Nat) ({ cls := "Rulehearth", name := "commit", desc := "()I" } : Jvm.MethodName)) ∈ lw_all := lw_g (lw_at lw_m9 39 rfl) rfl
theorem q2086 : (Jvm.Cond.methodLink "RulehearthLaw" (309 : Nat) ({ cls := "RulehearthLaw", name := "rollBack", desc := "(LRulehearth;[J)I" } : Jvm.MethodName)) ∈ lw_all := lw_g (lw_at lw_m9 43 rfl) rfl
theorem q2087 : (Jvm.Cond.static ({ cls := "RulehearthLaw", name := "rollBack", desc := "(LRulehearth;[J)I" } : Jvm.MethodName)) ∈ lw_all := lw_g (lw_at lw_m9 44 rfl) rfl
theorem q2088 : (Jvm.Cond.codeWith ({ cls := "RulehearthLaw", name := "rollBack", desc := "(LRulehearth;[J)I" } : Jvm.MethodName) method_42_code (3 : Nat) (Option.some Jvm.ClassFile.FieldType.int) [((0 : Nat), (8 : Nat), (11 : Nat), (15 : Nat))]) ∈ lw_all := lw_g (lw_at lw_m9 45 rfl) rfl
theorem q2089 : (Jvm.Cond.methodLink "RulehearthLaw" (142 : Nat) ({ cls := "Rulehearth", name := "rollBack", desc := "()I" } : Jvm.MethodName)) ∈ lw_all := lw_g (lw_at lw_m9 46 rfl) rfl
theorem q2093 : (Jvm.Cond.classLink "RulehearthLaw" (146 : Nat) "RulehearthModel") ∈ lw_all := lw_g (lw_at lw_m9 50 rfl) rfl
theorem q2095 : (Jvm.Cond.methodLink "RulehearthLaw" (148 : Nat) ({ cls := "RulehearthModel", name := "<init>", desc := "()V" } : Jvm.MethodName)) ∈ lw_all := lw_g (lw_at lw_m9 52 rfl) rfl
theorem q2268 : (Jvm.Cond.methodLink "RulehearthLaw" (155 : Nat) ({ cls := "RulehearthModel", name := "thrown", desc := "()I" } : Jvm.MethodName)) ∈ lw_all := lw_g (lw_at lw_m9 225 rfl) rfl
theorem q2272 : (Jvm.Cond.methodLink "RulehearthLaw" (154 : Nat) ({ cls := "RulehearthModel", name := "relation", desc := "(I)I" } : Jvm.MethodName)) ∈ lw_all := lw_g (lw_at lw_m9 229 rfl) rfl
theorem q2283 : (Jvm.Cond.methodLink "RulehearthLaw" (161 : Nat) ({ cls := "RulehearthModel", name := "tell", desc := "(II)I" } : Jvm.MethodName)) ∈ lw_all := lw_g (lw_at lw_m10 0 rfl) rfl
theorem q2437 : (Jvm.Cond.methodLink "RulehearthLaw" (164 : Nat) ({ cls := "RulehearthModel", name := "take", desc := "(I)I" } : Jvm.MethodName)) ∈ lw_all := lw_g (lw_at lw_m10 154 rfl) rfl
theorem q2445 : (Jvm.Cond.methodLink "RulehearthLaw" (167 : Nat) ({ cls := "RulehearthModel", name := "stands", desc := "(I)Z" } : Jvm.MethodName)) ∈ lw_all := lw_g (lw_at lw_m10 162 rfl) rfl
theorem q2453 : (Jvm.Cond.methodLink "RulehearthLaw" (170 : Nat) ({ cls := "RulehearthModel", name := "standsByRounds", desc := "(I)Z" } : Jvm.MethodName)) ∈ lw_all := lw_g (lw_at lw_m10 170 rfl) rfl
theorem q2454 : (Jvm.Cond.methodLink "RulehearthLaw" (173 : Nat) ({ cls := "RulehearthModel", name := "endOf", desc := "(I)I" } : Jvm.MethodName)) ∈ lw_all := lw_g (lw_at lw_m10 171 rfl) rfl
theorem q2458 : (Jvm.Cond.methodLink "RulehearthLaw" (176 : Nat) ({ cls := "RulehearthModel", name := "tag", desc := "(I)I" } : Jvm.MethodName)) ∈ lw_all := lw_g (lw_at lw_m10 175 rfl) rfl
theorem q2462 : (Jvm.Cond.methodLink "RulehearthLaw" (180 : Nat) ({ cls := "RulehearthModel", name := "standing", desc := "()I" } : Jvm.MethodName)) ∈ lw_all := lw_g (lw_at lw_m10 179 rfl) rfl
theorem q2466 : (Jvm.Cond.methodLink "RulehearthLaw" (183 : Nat) ({ cls := "RulehearthModel", name := "standingAt", desc := "(I)I" } : Jvm.MethodName)) ∈ lw_all := lw_g (lw_at lw_m10 183 rfl) rfl
theorem q2470 : (Jvm.Cond.methodLink "RulehearthLaw" (187 : Nat) ({ cls := "RulehearthModel", name := "rule", desc := "(I)V" } : Jvm.MethodName)) ∈ lw_all := lw_g (lw_at lw_m10 187 rfl) rfl
theorem q2478 : (Jvm.Cond.methodLink "RulehearthLaw" (191 : Nat) ({ cls := "RulehearthModel", name := "deed", desc := "(IIZI)V" } : Jvm.MethodName)) ∈ lw_all := lw_g (lw_at lw_m10 195 rfl) rfl
theorem q2482 : (Jvm.Cond.methodLink "RulehearthLaw" (194 : Nat) ({ cls := "RulehearthModel", name := "variable", desc := "(I)V" } : Jvm.MethodName)) ∈ lw_all := lw_g (lw_at lw_m10 199 rfl) rfl
theorem q2498 : (Jvm.Cond.methodLink "RulehearthLaw" (197 : Nat) ({ cls := "RulehearthModel", name := "value", desc := "(I)V" } : Jvm.MethodName)) ∈ lw_all := lw_g (lw_at lw_m10 215 rfl) rfl
theorem q2502 : (Jvm.Cond.methodLink "RulehearthLaw" (201 : Nat) ({ cls := "RulehearthModel", name := "gather", desc := "(II)V" } : Jvm.MethodName)) ∈ lw_all := lw_g (lw_at lw_m10 219 rfl) rfl
theorem q2506 : (Jvm.Cond.methodLink "RulehearthLaw" (204 : Nat) ({ cls := "RulehearthModel", name := "atom", desc := "(I)V" } : Jvm.MethodName)) ∈ lw_all := lw_g (lw_at lw_m10 223 rfl) rfl
theorem q2522 : (Jvm.Cond.methodLink "RulehearthLaw" (207 : Nat) ({ cls := "RulehearthModel", name := "not", desc := "(I)V" } : Jvm.MethodName)) ∈ lw_all := lw_g (lw_at lw_m10 239 rfl) rfl
theorem q2526 : (Jvm.Cond.methodLink "RulehearthLaw" (210 : Nat) ({ cls := "RulehearthModel", name := "test", desc := "(I)V" } : Jvm.MethodName)) ∈ lw_all := lw_g (lw_at lw_m11 3 rfl) rfl
theorem q2530 : (Jvm.Cond.methodLink "RulehearthLaw" (214 : Nat) ({ cls := "RulehearthModel", name := "plus", desc := "()V" } : Jvm.MethodName)) ∈ lw_all := lw_g (lw_at lw_m11 7 rfl) rfl
theorem q2534 : (Jvm.Cond.methodLink "RulehearthLaw" (218 : Nat) ({ cls := "RulehearthModel", name := "done", desc := "()I" } : Jvm.MethodName)) ∈ lw_all := lw_g (lw_at lw_m11 11 rfl) rfl
theorem q2546 : (Jvm.Cond.methodLink "RulehearthLaw" (223 : Nat) ({ cls := "RulehearthModel", name := "cancel", desc := "()Z" } : Jvm.MethodName)) ∈ lw_all := lw_g (lw_at lw_m11 23 rfl) rfl
theorem q2550 : (Jvm.Cond.methodLink "RulehearthLaw" (226 : Nat) ({ cls := "RulehearthModel", name := "drop", desc := "(I)I" } : Jvm.MethodName)) ∈ lw_all := lw_g (lw_at lw_m11 27 rfl) rfl
theorem q2562 : (Jvm.Cond.methodLink "RulehearthLaw" (229 : Nat) ({ cls := "RulehearthModel", name := "dropDeed", desc := "(I)I" } : Jvm.MethodName)) ∈ lw_all := lw_g (lw_at lw_m11 39 rfl) rfl
theorem q2566 : (Jvm.Cond.methodLink "RulehearthLaw" (232 : Nat) ({ cls := "RulehearthModel", name := "stratum", desc := "(I)I" } : Jvm.MethodName)) ∈ lw_all := lw_g (lw_at lw_m11 43 rfl) rfl
theorem q2570 : (Jvm.Cond.methodLink "RulehearthLaw" (235 : Nat) ({ cls := "RulehearthModel", name := "depth", desc := "(I)I" } : Jvm.MethodName)) ∈ lw_all := lw_g (lw_at lw_m11 47 rfl) rfl
theorem q2586 : (Jvm.Cond.methodLink "RulehearthLaw" (238 : Nat) ({ cls := "RulehearthModel", name := "why", desc := "(I)I" } : Jvm.MethodName)) ∈ lw_all := lw_g (lw_at lw_m11 63 rfl) rfl
theorem q2602 : (Jvm.Cond.methodLink "RulehearthLaw" (241 : Nat) ({ cls := "RulehearthModel", name := "reasons", desc := "(I)I" } : Jvm.MethodName)) ∈ lw_all := lw_g (lw_at lw_m11 79 rfl) rfl
theorem q2606 : (Jvm.Cond.methodLink "RulehearthLaw" (244 : Nat) ({ cls := "RulehearthModel", name := "reasonAt", desc := "(II)I" } : Jvm.MethodName)) ∈ lw_all := lw_g (lw_at lw_m11 83 rfl) rfl
theorem q2610 : (Jvm.Cond.methodLink "RulehearthLaw" (247 : Nat) ({ cls := "RulehearthModel", name := "dependsOn", desc := "(II)Z" } : Jvm.MethodName)) ∈ lw_all := lw_g (lw_at lw_m11 87 rfl) rfl
theorem q2618 : (Jvm.Cond.methodLink "RulehearthLaw" (250 : Nat) ({ cls := "RulehearthModel", name := "whyNot", desc := "(II)I" } : Jvm.MethodName)) ∈ lw_all := lw_g (lw_at lw_m11 95 rfl) rfl
theorem q2626 : (Jvm.Cond.methodLink "RulehearthLaw" (254 : Nat) ({ cls := "RulehearthModel", name := "answers", desc := "(IIII)I" } : Jvm.MethodName)) ∈ lw_all := lw_g (lw_at lw_m11 103 rfl) rfl
theorem q2634 : (Jvm.Cond.methodLink "RulehearthLaw" (257 : Nat) ({ cls := "RulehearthModel", name := "goals", desc := "(IIII)I" } : Jvm.MethodName)) ∈ lw_all := lw_g (lw_at lw_m11 111 rfl) rfl
theorem q2654 : (Jvm.Cond.methodLink "RulehearthLaw" (261 : Nat) ({ cls := "RulehearthModel", name := "beginnings", desc := "()I" } : Jvm.MethodName)) ∈ lw_all := lw_g (lw_at lw_m11 131 rfl) rfl
theorem q2670 : (Jvm.Cond.methodLink "RulehearthLaw" (264 : Nat) ({ cls := "RulehearthModel", name := "matches", desc := "(II)I" } : Jvm.MethodName)) ∈ lw_all := lw_g (lw_at lw_m11 147 rfl) rfl
theorem q2678 : (Jvm.Cond.methodLink "RulehearthLaw" (267 : Nat) ({ cls := "RulehearthModel", name := "planAt", desc := "(II)I" } : Jvm.MethodName)) ∈ lw_all := lw_g (lw_at lw_m11 155 rfl) rfl
theorem q2698 : (Jvm.Cond.methodLink "RulehearthLaw" (271 : Nat) ({ cls := "RulehearthModel", name := "work", desc := "(IZ)I" } : Jvm.MethodName)) ∈ lw_all := lw_g (lw_at lw_m11 175 rfl) rfl
theorem q2702 : (Jvm.Cond.methodLink "RulehearthLaw" (274 : Nat) ({ cls := "RulehearthModel", name := "agenda", desc := "(I)I" } : Jvm.MethodName)) ∈ lw_all := lw_g (lw_at lw_m11 179 rfl) rfl
theorem q2726 : (Jvm.Cond.methodLink "RulehearthLaw" (278 : Nat) ({ cls := "RulehearthModel", name := "next", desc := "()I" } : Jvm.MethodName)) ∈ lw_all := lw_g (lw_at lw_m11 203 rfl) rfl
theorem q2734 : (Jvm.Cond.methodLink "RulehearthLaw" (282 : Nat) ({ cls := "RulehearthModel", name := "nextFact", desc := "()I" } : Jvm.MethodName)) ∈ lw_all := lw_g (lw_at lw_m11 211 rfl) rfl
theorem q2738 : (Jvm.Cond.methodLink "RulehearthLaw" (285 : Nat) ({ cls := "RulehearthModel", name := "fire", desc := "()I" } : Jvm.MethodName)) ∈ lw_all := lw_g (lw_at lw_m11 215 rfl) rfl
theorem q2746 : (Jvm.Cond.methodLink "RulehearthLaw" (288 : Nat) ({ cls := "RulehearthModel", name := "run", desc := "(I)I" } : Jvm.MethodName)) ∈ lw_all := lw_g (lw_at lw_m11 223 rfl) rfl
theorem q2750 : (Jvm.Cond.methodLink "RulehearthLaw" (291 : Nat) ({ cls := "RulehearthModel", name := "focus", desc := "(I)I" } : Jvm.MethodName)) ∈ lw_all := lw_g (lw_at lw_m11 227 rfl) rfl
theorem q2754 : (Jvm.Cond.methodLink "RulehearthLaw" (295 : Nat) ({ cls := "RulehearthModel", name := "focused", desc := "()I" } : Jvm.MethodName)) ∈ lw_all := lw_g (lw_at lw_m11 231 rfl) rfl
theorem q2758 : (Jvm.Cond.methodLink "RulehearthLaw" (298 : Nat) ({ cls := "RulehearthModel", name := "tick", desc := "(I)I" } : Jvm.MethodName)) ∈ lw_all := lw_g (lw_at lw_m11 235 rfl) rfl
theorem q2766 : (Jvm.Cond.methodLink "RulehearthLaw" (302 : Nat) ({ cls := "RulehearthModel", name := "now", desc := "()I" } : Jvm.MethodName)) ∈ lw_all := lw_g (lw_at lw_m12 3 rfl) rfl
theorem q2770 : (Jvm.Cond.methodLink "RulehearthLaw" (305 : Nat) ({ cls := "RulehearthModel", name := "begin", desc := "()I" } : Jvm.MethodName)) ∈ lw_all := lw_g (lw_at lw_m12 7 rfl) rfl
theorem q2774 : (Jvm.Cond.methodLink "RulehearthLaw" (308 : Nat) ({ cls := "RulehearthModel", name := "commit", desc := "()I" } : Jvm.MethodName)) ∈ lw_all := lw_g (lw_at lw_m12 11 rfl) rfl
theorem q2778 : (Jvm.Cond.methodLink "RulehearthLaw" (311 : Nat) ({ cls := "RulehearthModel", name := "rollBack", desc := "()I" } : Jvm.MethodName)) ∈ lw_all := lw_g (lw_at lw_m12 15 rfl) rfl
def RX1 : String := "Rulehearth"
def TX1 : u_T := fun k => match k with
  | 0 => ("Rulehearth", "world", "LRulehearth$World;", false)
  | 1 => ("Rulehearth", "draft", "LRulehearth$Clause;", false)
  | 2 => ("Rulehearth", "begun", "Ljava/util/ArrayList;", true)
  | 3 => ("Rulehearth", "reasons", "LRulehearth$Reasons;", false)
  | 4 => ("Rulehearth", "reasonsOf", "LRulehearth$World;", false)
  | 5 => ("Rulehearth", "latest", "LRulehearth$Why;", false)
  | _ => ("Rulehearth", "latestFact", "I", false)
def tyX1 : Nat → FieldType := fun k => match k with
  | 0 => .object "Rulehearth$World"
  | 1 => .object "Rulehearth$Clause"
  | 2 => .object "java/util/ArrayList"
  | 3 => .object "Rulehearth$Reasons"
  | 4 => .object "Rulehearth$World"
  | 5 => .object "Rulehearth$Why"
  | _ => .int
abbrev wsX10 : List Cond := u_ws RX1 TX1 7
theorem nmX1 : ∀ a, a < 7 → ∀ b, b < 7 → a ≠ b → (TX1 a).2.1 ≠ (TX1 b).2.1 := by decide +kernel
theorem tyX1_ok : ∀ k, k < 7 → parseFieldDescriptor (TX1 k).2.2.1 = some (tyX1 k) := by decide +kernel
theorem q124 : (Jvm.Cond.initialized "Rulehearth") ∈ lw_all := lw_g (lw_at lw_m1 1 rfl) rfl
theorem q166 : (Jvm.Cond.instantiable "Rulehearth" (7 : Nat)) ∈ lw_all := lw_g (lw_at lw_m1 43 rfl) rfl
theorem q168 : (Jvm.Cond.instanceMethod ({ cls := "Rulehearth", name := "<init>", desc := "()V" } : Jvm.MethodName)) ∈ lw_all := lw_g (lw_at lw_m1 45 rfl) rfl
theorem q169 : (Jvm.Cond.code ({ cls := "Rulehearth", name := "<init>", desc := "()V" } : Jvm.MethodName) prog_1_method_7_code (1 : Nat) (Option.none : Option Jvm.ClassFile.FieldType)) ∈ lw_all := lw_g (lw_at lw_m1 46 rfl) rfl
theorem q170 : (Jvm.Cond.methodLink "Rulehearth" (12 : Nat) ({ cls := "java/lang/Object", name := "<init>", desc := "()V" } : Jvm.MethodName)) ∈ lw_all := lw_g (lw_at lw_m1 47 rfl) rfl
theorem q173 : (Jvm.Cond.classLink "Rulehearth" (18 : Nat) "Rulehearth$World") ∈ lw_all := lw_g (lw_at lw_m1 50 rfl) rfl
theorem q175 : (Jvm.Cond.methodLinkNest "Rulehearth" (20 : Nat) ({ cls := "Rulehearth$World", name := "<init>", desc := "()V" } : Jvm.MethodName) "Rulehearth") ∈ lw_tbl := lw_at lw_m1 52 rfl
theorem q533 : (Jvm.Cond.fieldLink "Rulehearth" (159 : Nat) "Rulehearth$Facts" "numbers" "[I") ∈ lw_all := lw_g (lw_at lw_m2 170 rfl) rfl
theorem q540 : (Jvm.Cond.fieldLink "Rulehearth" (109 : Nat) "Rulehearth$Facts" "count" "I") ∈ lw_all := lw_g (lw_at lw_m2 177 rfl) rfl
theorem q555 : (Jvm.Cond.fieldLink "Rulehearth" (55 : Nat) "Rulehearth$World" "relations" "Ljava/util/ArrayList;") ∈ lw_all := lw_g (lw_at lw_m2 192 rfl) rfl
theorem q557 : (Jvm.Cond.fieldLink "Rulehearth" (137 : Nat) "Rulehearth$World" "told" "Ljava/util/ArrayList;") ∈ lw_all := lw_g (lw_at lw_m2 194 rfl) rfl
theorem q562 : (Jvm.Cond.fieldLink "Rulehearth" (105 : Nat) "Rulehearth$World" "standing" "LRulehearth$Facts;") ∈ lw_all := lw_g (lw_at lw_m2 199 rfl) rfl
theorem q568 : (Jvm.Cond.fieldLink "Rulehearth" (274 : Nat) "Rulehearth$World" "rules" "Ljava/util/ArrayList;") ∈ lw_all := lw_g (lw_at lw_m2 205 rfl) rfl
theorem q571 : (Jvm.Cond.fieldLink "Rulehearth" (268 : Nat) "Rulehearth$World" "deeds" "Ljava/util/ArrayList;") ∈ lw_all := lw_g (lw_at lw_m2 208 rfl) rfl
theorem q573 : (Jvm.Cond.fieldLink "Rulehearth" (277 : Nat) "Rulehearth$World" "ruleNumbers" "I") ∈ lw_all := lw_g (lw_at lw_m2 210 rfl) rfl
theorem q575 : (Jvm.Cond.fieldLink "Rulehearth" (271 : Nat) "Rulehearth$World" "deedNumbers" "I") ∈ lw_all := lw_g (lw_at lw_m2 212 rfl) rfl
theorem q577 : (Jvm.Cond.fieldLink "Rulehearth" (469 : Nat) "Rulehearth$World" "fired" "Ljava/util/ArrayList;") ∈ lw_all := lw_g (lw_at lw_m2 214 rfl) rfl
theorem q579 : (Jvm.Cond.fieldLink "Rulehearth" (34 : Nat) "Rulehearth$World" "stack" "Ljava/util/ArrayList;") ∈ lw_all := lw_g (lw_at lw_m2 216 rfl) rfl
theorem q581 : (Jvm.Cond.fieldLink "Rulehearth" (124 : Nat) "Rulehearth$World" "now" "I") ∈ lw_all := lw_g (lw_at lw_m2 218 rfl) rfl
theorem q607 : (Jvm.Cond.classLink "Rulehearth" (25 : Nat) "java/util/ArrayList") ∈ lw_all := lw_g (lw_at lw_m3 4 rfl) rfl
theorem q608 : (Jvm.Cond.methodLink "Rulehearth" (27 : Nat) ({ cls := "java/util/ArrayList", name := "<init>", desc := "(I)V" } : Jvm.MethodName)) ∈ lw_all := lw_g (lw_at lw_m3 5 rfl) rfl
theorem q609 : (Jvm.Cond.methodLink "Rulehearth" (37 : Nat) ({ cls := "java/lang/Integer", name := "valueOf", desc := "(I)Ljava/lang/Integer;" } : Jvm.MethodName)) ∈ lw_all := lw_g (lw_at lw_m3 6 rfl) rfl
theorem q629 : (Jvm.Cond.methodLink "Rulehearth" (42 : Nat) ({ cls := "java/util/ArrayList", name := "add", desc := "(Ljava/lang/Object;)Z" } : Jvm.MethodName)) ∈ lw_all := lw_g (lw_at lw_m3 26 rfl) rfl
theorem q652 : (Jvm.Cond.selects "Rulehearth" ({ cls := "java/lang/Object", name := "getClass", desc := "()Ljava/lang/Class;" } : Jvm.MethodName) ({ cls := "java/lang/Object", name := "getClass", desc := "()Ljava/lang/Class;" } : Jvm.MethodName)) ∈ lw_all := lw_g (lw_at lw_m3 49 rfl) rfl
theorem q686 : (Jvm.Cond.fieldLink "Rulehearth" (21 : Nat) "Rulehearth" "world" "LRulehearth$World;") ∈ lw_all := lw_g (lw_at lw_m3 83 rfl) rfl
theorem q687 : (Jvm.Cond.fieldLink "Rulehearth" (162 : Nat) "Rulehearth" "draft" "LRulehearth$Clause;") ∈ lw_all := lw_g (lw_at lw_m3 84 rfl) rfl
theorem q688 : (Jvm.Cond.fieldLink "Rulehearth" (30 : Nat) "Rulehearth" "begun" "Ljava/util/ArrayList;") ∈ lw_all := lw_g (lw_at lw_m3 85 rfl) rfl
theorem q689 : (Jvm.Cond.fieldLink "Rulehearth" (312 : Nat) "Rulehearth" "reasons" "LRulehearth$Reasons;") ∈ lw_all := lw_g (lw_at lw_m3 86 rfl) rfl
theorem q690 : (Jvm.Cond.fieldLink "Rulehearth" (300 : Nat) "Rulehearth" "reasonsOf" "LRulehearth$World;") ∈ lw_all := lw_g (lw_at lw_m3 87 rfl) rfl
theorem q691 : (Jvm.Cond.fieldLink "Rulehearth" (316 : Nat) "Rulehearth" "latest" "LRulehearth$Why;") ∈ lw_all := lw_g (lw_at lw_m3 88 rfl) rfl
theorem q692 : (Jvm.Cond.fieldLink "Rulehearth" (325 : Nat) "Rulehearth" "latestFact" "I") ∈ lw_all := lw_g (lw_at lw_m3 89 rfl) rfl
theorem q693 : (Jvm.Cond.lays "Rulehearth" "Rulehearth" "world" "LRulehearth$World;") ∈ lw_all := lw_g (lw_at lw_m3 90 rfl) rfl
theorem q694 : (Jvm.Cond.soleField "Rulehearth" "world") ∈ lw_all := lw_g (lw_at lw_m3 91 rfl) rfl
theorem q695 : (Jvm.Cond.lays "Rulehearth" "Rulehearth" "draft" "LRulehearth$Clause;") ∈ lw_all := lw_g (lw_at lw_m3 92 rfl) rfl
theorem q696 : (Jvm.Cond.soleField "Rulehearth" "draft") ∈ lw_all := lw_g (lw_at lw_m3 93 rfl) rfl
theorem q697 : (Jvm.Cond.laysFinal "Rulehearth" "Rulehearth" "begun" "Ljava/util/ArrayList;") ∈ lw_all := lw_g (lw_at lw_m3 94 rfl) rfl
theorem q698 : (Jvm.Cond.soleField "Rulehearth" "begun") ∈ lw_all := lw_g (lw_at lw_m3 95 rfl) rfl
theorem q699 : (Jvm.Cond.lays "Rulehearth" "Rulehearth" "reasons" "LRulehearth$Reasons;") ∈ lw_all := lw_g (lw_at lw_m3 96 rfl) rfl
theorem q700 : (Jvm.Cond.soleField "Rulehearth" "reasons") ∈ lw_all := lw_g (lw_at lw_m3 97 rfl) rfl
theorem q701 : (Jvm.Cond.lays "Rulehearth" "Rulehearth" "reasonsOf" "LRulehearth$World;") ∈ lw_all := lw_g (lw_at lw_m3 98 rfl) rfl
theorem q702 : (Jvm.Cond.soleField "Rulehearth" "reasonsOf") ∈ lw_all := lw_g (lw_at lw_m3 99 rfl) rfl
theorem q703 : (Jvm.Cond.lays "Rulehearth" "Rulehearth" "latest" "LRulehearth$Why;") ∈ lw_all := lw_g (lw_at lw_m3 100 rfl) rfl
theorem q704 : (Jvm.Cond.soleField "Rulehearth" "latest") ∈ lw_all := lw_g (lw_at lw_m3 101 rfl) rfl
theorem q705 : (Jvm.Cond.lays "Rulehearth" "Rulehearth" "latestFact" "I") ∈ lw_all := lw_g (lw_at lw_m3 102 rfl) rfl
theorem q706 : (Jvm.Cond.soleField "Rulehearth" "latestFact") ∈ lw_all := lw_g (lw_at lw_m3 103 rfl) rfl
theorem q707 : (Jvm.Cond.superclass "Rulehearth" "java/lang/Object") ∈ lw_all := lw_g (lw_at lw_m3 104 rfl) rfl
theorem q709 : (Jvm.Cond.instanceMethod ({ cls := "Rulehearth", name := "standing", desc := "()I" } : Jvm.MethodName)) ∈ lw_all := lw_g (lw_at lw_m3 106 rfl) rfl
theorem q710 : (Jvm.Cond.selects "Rulehearth" ({ cls := "Rulehearth", name := "standing", desc := "()I" } : Jvm.MethodName) ({ cls := "Rulehearth", name := "standing", desc := "()I" } : Jvm.MethodName)) ∈ lw_all := lw_g (lw_at lw_m3 107 rfl) rfl
theorem q711 : (Jvm.Cond.code ({ cls := "Rulehearth", name := "standing", desc := "()I" } : Jvm.MethodName) prog_1_method_23_code (1 : Nat) (Option.some Jvm.ClassFile.FieldType.int)) ∈ lw_all := lw_g (lw_at lw_m3 108 rfl) rfl
theorem q713 : (Jvm.Cond.instanceMethod ({ cls := "Rulehearth", name := "cancel", desc := "()Z" } : Jvm.MethodName)) ∈ lw_all := lw_g (lw_at lw_m3 110 rfl) rfl
theorem q714 : (Jvm.Cond.selects "Rulehearth" ({ cls := "Rulehearth", name := "cancel", desc := "()Z" } : Jvm.MethodName) ({ cls := "Rulehearth", name := "cancel", desc := "()Z" } : Jvm.MethodName)) ∈ lw_all := lw_g (lw_at lw_m3 111 rfl) rfl
theorem q715 : (Jvm.Cond.code ({ cls := "Rulehearth", name := "cancel", desc := "()Z" } : Jvm.MethodName) prog_1_method_43_code (2 : Nat) (Option.some Jvm.ClassFile.FieldType.boolean)) ∈ lw_all := lw_g (lw_at lw_m3 112 rfl) rfl
theorem q717 : (Jvm.Cond.instanceMethod ({ cls := "Rulehearth", name := "beginnings", desc := "()I" } : Jvm.MethodName)) ∈ lw_all := lw_g (lw_at lw_m3 114 rfl) rfl
theorem q718 : (Jvm.Cond.selects "Rulehearth" ({ cls := "Rulehearth", name := "beginnings", desc := "()I" } : Jvm.MethodName) ({ cls := "Rulehearth", name := "beginnings", desc := "()I" } : Jvm.MethodName)) ∈ lw_all := lw_g (lw_at lw_m3 115 rfl) rfl
theorem q719 : (Jvm.Cond.code ({ cls := "Rulehearth", name := "beginnings", desc := "()I" } : Jvm.MethodName) prog_1_method_64_code (2 : Nat) (Option.some Jvm.ClassFile.FieldType.int)) ∈ lw_all := lw_g (lw_at lw_m3 116 rfl) rfl
theorem q720 : (Jvm.Cond.methodLink "Rulehearth" (415 : Nat) ({ cls := "java/util/ArrayList", name := "<init>", desc := "()V" } : Jvm.MethodName)) ∈ lw_all := lw_g (lw_at lw_m3 117 rfl) rfl
theorem q721 : (Jvm.Cond.methodLink "Rulehearth" (416 : Nat) ({ cls := "Rulehearth", name := "addBeginnings", desc := "(Ljava/util/ArrayList;Ljava/util/ArrayList;)V" } : Jvm.MethodName)) ∈ lw_all := lw_g (lw_at lw_m3 118 rfl) rfl
theorem q722 : (Jvm.Cond.static ({ cls := "Rulehearth", name := "addBeginnings", desc := "(Ljava/util/ArrayList;Ljava/util/ArrayList;)V" } : Jvm.MethodName)) ∈ lw_all := lw_g (lw_at lw_m3 119 rfl) rfl
theorem q723 : (Jvm.Cond.code ({ cls := "Rulehearth", name := "addBeginnings", desc := "(Ljava/util/ArrayList;Ljava/util/ArrayList;)V" } : Jvm.MethodName) prog_1_method_63_code (5 : Nat) (Option.none : Option Jvm.ClassFile.FieldType)) ∈ lw_all := lw_g (lw_at lw_m3 120 rfl) rfl
theorem q724 : (Jvm.Cond.methodLink "Rulehearth" (58 : Nat) ({ cls := "java/util/ArrayList", name := "size", desc := "()I" } : Jvm.MethodName)) ∈ lw_all := lw_g (lw_at lw_m3 121 rfl) rfl
theorem q728 : (Jvm.Cond.methodLink "Rulehearth" (70 : Nat) ({ cls := "java/util/ArrayList", name := "get", desc := "(I)Ljava/lang/Object;" } : Jvm.MethodName)) ∈ lw_all := lw_g (lw_at lw_m3 125 rfl) rfl
theorem q742 : (Jvm.Cond.classLink "Rulehearth" (89 : Nat) "Rulehearth$Clause") ∈ lw_all := lw_g (lw_at lw_m3 139 rfl) rfl
theorem q743 : (Jvm.Cond.methodLink "Rulehearth" (408 : Nat) ({ cls := "Rulehearth", name := "beginning", desc := "(LRulehearth$Clause;I)Ljava/lang/String;" } : Jvm.MethodName)) ∈ lw_all := lw_g (lw_at lw_m3 140 rfl) rfl
theorem q744 : (Jvm.Cond.static ({ cls := "Rulehearth", name := "beginning", desc := "(LRulehearth$Clause;I)Ljava/lang/String;" } : Jvm.MethodName)) ∈ lw_all := lw_g (lw_at lw_m3 141 rfl) rfl
theorem q745 : (Jvm.Cond.code ({ cls := "Rulehearth", name := "beginning", desc := "(LRulehearth$Clause;I)Ljava/lang/String;" } : Jvm.MethodName) prog_1_method_62_code (9 : Nat) (Option.some (Jvm.ClassFile.FieldType.object "java/lang/String"))) ∈ lw_all := lw_g (lw_at lw_m3 142 rfl) rfl
theorem q746 : (Jvm.Cond.classLink "Rulehearth" (242 : Nat) "java/lang/StringBuilder") ∈ lw_all := lw_g (lw_at lw_m3 143 rfl) rfl
theorem q747 : (Jvm.Cond.methodLink "Rulehearth" (244 : Nat) ({ cls := "java/lang/StringBuilder", name := "<init>", desc := "()V" } : Jvm.MethodName)) ∈ lw_all := lw_g (lw_at lw_m3 144 rfl) rfl
theorem q748 : (Jvm.Cond.methodLink "Rulehearth" (352 : Nat) ({ cls := "Rulehearth", name := "unknown", desc := "()[I" } : Jvm.MethodName)) ∈ lw_all := lw_g (lw_at lw_m3 145 rfl) rfl
theorem q749 : (Jvm.Cond.static ({ cls := "Rulehearth", name := "unknown", desc := "()[I" } : Jvm.MethodName)) ∈ lw_all := lw_g (lw_at lw_m3 146 rfl) rfl
theorem q750 : (Jvm.Cond.code ({ cls := "Rulehearth", name := "unknown", desc := "()[I" } : Jvm.MethodName) prog_1_method_5_code (1 : Nat) (Option.some (Jvm.ClassFile.FieldType.array Jvm.ClassFile.FieldType.int))) ∈ lw_all := lw_g (lw_at lw_m3 147 rfl) rfl
theorem q751 : (Jvm.Cond.methodLink "Rulehearth" (8 : Nat) ({ cls := "Rulehearth", name := "forget", desc := "([I)V" } : Jvm.MethodName)) ∈ lw_all := lw_g (lw_at lw_m3 148 rfl) rfl
theorem q752 : (Jvm.Cond.static ({ cls := "Rulehearth", name := "forget", desc := "([I)V" } : Jvm.MethodName)) ∈ lw_all := lw_g (lw_at lw_m3 149 rfl) rfl
theorem q753 : (Jvm.Cond.code ({ cls := "Rulehearth", name := "forget", desc := "([I)V" } : Jvm.MethodName) prog_1_method_6_code (2 : Nat) (Option.none : Option Jvm.ClassFile.FieldType)) ∈ lw_all := lw_g (lw_at lw_m3 150 rfl) rfl
theorem q754 : (Jvm.Cond.classLink "Rulehearth" (169 : Nat) "Rulehearth$Item") ∈ lw_all := lw_g (lw_at lw_m3 151 rfl) rfl
theorem q755 : (Jvm.Cond.methodLink "Rulehearth" (251 : Nat) ({ cls := "java/lang/StringBuilder", name := "append", desc := "(I)Ljava/lang/StringBuilder;" } : Jvm.MethodName)) ∈ lw_all := lw_g (lw_at lw_m3 152 rfl) rfl
theorem q756 : (Jvm.Cond.methodLink "Rulehearth" (402 : Nat) ({ cls := "java/lang/StringBuilder", name := "append", desc := "(C)Ljava/lang/StringBuilder;" } : Jvm.MethodName)) ∈ lw_all := lw_g (lw_at lw_m3 153 rfl) rfl
theorem q776 : (Jvm.Cond.methodLink "Rulehearth" (254 : Nat) ({ cls := "java/lang/StringBuilder", name := "toString", desc := "()Ljava/lang/String;" } : Jvm.MethodName)) ∈ lw_all := lw_g (lw_at lw_m3 173 rfl) rfl
theorem q777 : (Jvm.Cond.methodLink "Rulehearth" (412 : Nat) ({ cls := "java/util/ArrayList", name := "contains", desc := "(Ljava/lang/Object;)Z" } : Jvm.MethodName)) ∈ lw_all := lw_g (lw_at lw_m3 174 rfl) rfl
theorem q793 : (Jvm.Cond.selects "Rulehearth" ({ cls := "java/lang/Object", name := "equals", desc := "(Ljava/lang/Object;)Z" } : Jvm.MethodName) ({ cls := "java/lang/Object", name := "equals", desc := "(Ljava/lang/Object;)Z" } : Jvm.MethodName)) ∈ lw_all := lw_g (lw_at lw_m3 190 rfl) rfl
theorem q831 : (Jvm.Cond.instanceMethod ({ cls := "Rulehearth", name := "next", desc := "()I" } : Jvm.MethodName)) ∈ lw_all := lw_g (lw_at lw_m3 228 rfl) rfl
theorem q832 : (Jvm.Cond.selects "Rulehearth" ({ cls := "Rulehearth", name := "next", desc := "()I" } : Jvm.MethodName) ({ cls := "Rulehearth", name := "next", desc := "()I" } : Jvm.MethodName)) ∈ lw_all := lw_g (lw_at lw_m3 229 rfl) rfl
theorem q833 : (Jvm.Cond.code ({ cls := "Rulehearth", name := "next", desc := "()I" } : Jvm.MethodName) prog_1_method_74_code (2 : Nat) (Option.some Jvm.ClassFile.FieldType.int)) ∈ lw_all := lw_g (lw_at lw_m3 230 rfl) rfl
theorem q834 : (Jvm.Cond.methodLink "Rulehearth" (458 : Nat) ({ cls := "Rulehearth", name := "ahead", desc := "(LRulehearth$World;I)LRulehearth$Agenda;" } : Jvm.MethodName)) ∈ lw_all := lw_g (lw_at lw_m3 231 rfl) rfl
theorem q835 : (Jvm.Cond.static ({ cls := "Rulehearth", name := "ahead", desc := "(LRulehearth$World;I)LRulehearth$Agenda;" } : Jvm.MethodName)) ∈ lw_all := lw_g (lw_at lw_m3 232 rfl) rfl
theorem q836 : (Jvm.Cond.code ({ cls := "Rulehearth", name := "ahead", desc := "(LRulehearth$World;I)LRulehearth$Agenda;" } : Jvm.MethodName) prog_1_method_73_code (3 : Nat) (Option.some (Jvm.ClassFile.FieldType.object "Rulehearth$Agenda"))) ∈ lw_all := lw_g (lw_at lw_m3 233 rfl) rfl
theorem q837 : (Jvm.Cond.classLink "Rulehearth" (446 : Nat) "Rulehearth$Agenda") ∈ lw_all := lw_g (lw_at lw_m3 234 rfl) rfl
theorem q839 : (Jvm.Cond.classLink "Rulehearth" (38 : Nat) "java/lang/Integer") ∈ lw_all := lw_g (lw_at lw_m3 236 rfl) rfl
theorem q840 : (Jvm.Cond.methodLink "Rulehearth" (74 : Nat) ({ cls := "java/lang/Integer", name := "intValue", desc := "()I" } : Jvm.MethodName)) ∈ lw_all := lw_g (lw_at lw_m3 237 rfl) rfl
theorem q841 : (Jvm.Cond.methodLink "Rulehearth" (448 : Nat) ({ cls := "Rulehearth$Agenda", name := "<init>", desc := "(LRulehearth$World;I)V" } : Jvm.MethodName)) ∈ lw_all := lw_g (lw_at lw_m3 238 rfl) rfl
theorem q849 : (Jvm.Cond.fieldLinkNest "Rulehearth" (455 : Nat) "Rulehearth$Agenda" "many" "I" "Rulehearth") ∈ lw_tbl := lw_at lw_m4 6 rfl
theorem q851 : (Jvm.Cond.fieldLinkNest "Rulehearth" (462 : Nat) "Rulehearth$Agenda" "best" "LRulehearth$Clause;" "Rulehearth") ∈ lw_tbl := lw_at lw_m4 8 rfl
theorem q854 : (Jvm.Cond.fieldLinkNest "Rulehearth" (465 : Nat) "Rulehearth$Agenda" "bestFact" "I" "Rulehearth") ∈ lw_tbl := lw_at lw_m4 11 rfl
theorem q856 : (Jvm.Cond.fieldLinkNest "Rulehearth" (468 : Nat) "Rulehearth$Agenda" "facts" "[I" "Rulehearth") ∈ lw_tbl := lw_at lw_m4 13 rfl
theorem q874 : (Jvm.Cond.methodLink "Rulehearth" (451 : Nat) ({ cls := "Rulehearth$Agenda", name := "look", desc := "()LRulehearth$Agenda;" } : Jvm.MethodName)) ∈ lw_all := lw_g (lw_at lw_m4 31 rfl) rfl
theorem q898 : (Jvm.Cond.fieldLink "Rulehearth" (291 : Nat) "Rulehearth$Matcher" "reached" "I") ∈ lw_all := lw_g (lw_at lw_m4 55 rfl) rfl
theorem q921 : (Jvm.Cond.static ({ cls := "Rulehearth", name := "runs", desc := "(LRulehearth$Matcher;)I" } : Jvm.MethodName)) ∈ lw_all := lw_g (lw_at lw_m4 78 rfl) rfl
theorem q922 : (Jvm.Cond.codeWith ({ cls := "Rulehearth", name := "runs", desc := "(LRulehearth$Matcher;)I" } : Jvm.MethodName) prog_1_method_47_code (2 : Nat) (Option.some Jvm.ClassFile.FieldType.int) [((0 : Nat), (4 : Nat), (7 : Nat), (98 : Nat))]) ∈ lw_all := lw_g (lw_at lw_m4 79 rfl) rfl
theorem q923 : (Jvm.Cond.classLink "Rulehearth" (98 : Nat) "Rulehearth$CrowdException") ∈ lw_all := lw_g (lw_at lw_m4 80 rfl) rfl
theorem q924 : (Jvm.Cond.methodLink "Rulehearth" (286 : Nat) ({ cls := "Rulehearth$Matcher", name := "run", desc := "()V" } : Jvm.MethodName)) ∈ lw_all := lw_g (lw_at lw_m4 81 rfl) rfl
theorem q984 : (Jvm.Cond.static ({ cls := "Rulehearth", name := "valueOf", desc := "(I[I)I" } : Jvm.MethodName)) ∈ lw_all := lw_g (lw_at lw_m4 141 rfl) rfl
theorem q985 : (Jvm.Cond.code ({ cls := "Rulehearth", name := "valueOf", desc := "(I[I)I" } : Jvm.MethodName) prog_1_method_3_code (2 : Nat) (Option.some Jvm.ClassFile.FieldType.int)) ∈ lw_all := lw_g (lw_at lw_m4 142 rfl) rfl
theorem q1019 : (Jvm.Cond.privateMethod ({ cls := "Rulehearth", name := "maskOf", desc := "([II)J" } : Jvm.MethodName)) ∈ lw_tbl := lw_at lw_m4 176 rfl
theorem q1020 : (Jvm.Cond.instanceMethod ({ cls := "Rulehearth", name := "maskOf", desc := "([II)J" } : Jvm.MethodName)) ∈ lw_all := lw_g (lw_at lw_m4 177 rfl) rfl
theorem q1021 : (Jvm.Cond.code ({ cls := "Rulehearth", name := "maskOf", desc := "([II)J" } : Jvm.MethodName) prog_1_method_49_code (6 : Nat) (Option.some Jvm.ClassFile.FieldType.long)) ∈ lw_all := lw_g (lw_at lw_m4 178 rfl) rfl
theorem q1022 : (Jvm.Cond.methodLink "Rulehearth" (297 : Nat) ({ cls := "Rulehearth$Facts", name := "indexOf", desc := "(I)I" } : Jvm.MethodName)) ∈ lw_all := lw_g (lw_at lw_m4 179 rfl) rfl
theorem q1042 : (Jvm.Cond.static ({ cls := "Rulehearth", name := "slotOf", desc := "(II)I" } : Jvm.MethodName)) ∈ lw_all := lw_g (lw_at lw_m4 199 rfl) rfl
theorem q1043 : (Jvm.Cond.code ({ cls := "Rulehearth", name := "slotOf", desc := "(II)I" } : Jvm.MethodName) prog_1_method_2_code (2 : Nat) (Option.some Jvm.ClassFile.FieldType.int)) ∈ lw_all := lw_g (lw_at lw_m4 200 rfl) rfl
theorem q1045 : (Jvm.Cond.static ({ cls := "Rulehearth", name := "bind", desc := "(II[I)Z" } : Jvm.MethodName)) ∈ lw_all := lw_g (lw_at lw_m4 202 rfl) rfl
theorem q1046 : (Jvm.Cond.code ({ cls := "Rulehearth", name := "bind", desc := "(II[I)Z" } : Jvm.MethodName) prog_1_method_4_code (4 : Nat) (Option.some Jvm.ClassFile.FieldType.boolean)) ∈ lw_all := lw_g (lw_at lw_m4 203 rfl) rfl
theorem q1047 : (Jvm.Cond.methodLink "Rulehearth" (4 : Nat) ({ cls := "Rulehearth", name := "valueOf", desc := "(I[I)I" } : Jvm.MethodName)) ∈ lw_all := lw_g (lw_at lw_m4 204 rfl) rfl
theorem q1066 : (Jvm.Cond.classLink "Rulehearth" (49 : Nat) "java/lang/IllegalStateException") ∈ lw_all := lw_g (lw_at lw_m4 223 rfl) rfl
theorem q1075 : (Jvm.Cond.methodLink "Rulehearth" (102 : Nat) ({ cls := "java/lang/IllegalStateException", name := "<init>", desc := "(Ljava/lang/String;Ljava/lang/Throwable;)V" } : Jvm.MethodName)) ∈ lw_all := lw_g (lw_at lw_m4 232 rfl) rfl
theorem q1090 : (Jvm.Cond.instanceMethod ({ cls := "Rulehearth", name := "nextFact", desc := "()I" } : Jvm.MethodName)) ∈ lw_all := lw_g (lw_at lw_m5 7 rfl) rfl
theorem q1091 : (Jvm.Cond.selects "Rulehearth" ({ cls := "Rulehearth", name := "nextFact", desc := "()I" } : Jvm.MethodName) ({ cls := "Rulehearth", name := "nextFact", desc := "()I" } : Jvm.MethodName)) ∈ lw_all := lw_g (lw_at lw_m5 8 rfl) rfl
theorem q1092 : (Jvm.Cond.code ({ cls := "Rulehearth", name := "nextFact", desc := "()I" } : Jvm.MethodName) prog_1_method_75_code (2 : Nat) (Option.some Jvm.ClassFile.FieldType.int)) ∈ lw_all := lw_g (lw_at lw_m5 9 rfl) rfl
theorem q1094 : (Jvm.Cond.instanceMethod ({ cls := "Rulehearth", name := "focused", desc := "()I" } : Jvm.MethodName)) ∈ lw_all := lw_g (lw_at lw_m5 11 rfl) rfl
theorem q1095 : (Jvm.Cond.selects "Rulehearth" ({ cls := "Rulehearth", name := "focused", desc := "()I" } : Jvm.MethodName) ({ cls := "Rulehearth", name := "focused", desc := "()I" } : Jvm.MethodName)) ∈ lw_all := lw_g (lw_at lw_m5 12 rfl) rfl
theorem q1096 : (Jvm.Cond.code ({ cls := "Rulehearth", name := "focused", desc := "()I" } : Jvm.MethodName) prog_1_method_79_code (1 : Nat) (Option.some Jvm.ClassFile.FieldType.int)) ∈ lw_all := lw_g (lw_at lw_m5 13 rfl) rfl
theorem q1098 : (Jvm.Cond.instanceMethod ({ cls := "Rulehearth", name := "now", desc := "()I" } : Jvm.MethodName)) ∈ lw_all := lw_g (lw_at lw_m5 15 rfl) rfl
theorem q1099 : (Jvm.Cond.selects "Rulehearth" ({ cls := "Rulehearth", name := "now", desc := "()I" } : Jvm.MethodName) ({ cls := "Rulehearth", name := "now", desc := "()I" } : Jvm.MethodName)) ∈ lw_all := lw_g (lw_at lw_m5 16 rfl) rfl
theorem q1100 : (Jvm.Cond.code ({ cls := "Rulehearth", name := "now", desc := "()I" } : Jvm.MethodName) prog_1_method_81_code (1 : Nat) (Option.some Jvm.ClassFile.FieldType.int)) ∈ lw_all := lw_g (lw_at lw_m5 17 rfl) rfl
theorem q1107 : (Jvm.Cond.instanceMethod ({ cls := "Rulehearth", name := "relation", desc := "(I)I" } : Jvm.MethodName)) ∈ lw_all := lw_g (lw_at lw_m5 24 rfl) rfl
theorem q1108 : (Jvm.Cond.selects "Rulehearth" ({ cls := "Rulehearth", name := "relation", desc := "(I)I" } : Jvm.MethodName) ({ cls := "Rulehearth", name := "relation", desc := "(I)I" } : Jvm.MethodName)) ∈ lw_all := lw_g (lw_at lw_m5 25 rfl) rfl
theorem q1109 : (Jvm.Cond.code ({ cls := "Rulehearth", name := "relation", desc := "(I)I" } : Jvm.MethodName) prog_1_method_16_code (3 : Nat) (Option.some Jvm.ClassFile.FieldType.int)) ∈ lw_all := lw_g (lw_at lw_m5 26 rfl) rfl
theorem q1110 : (Jvm.Cond.methodLink "Rulehearth" (85 : Nat) ({ cls := "Rulehearth", name := "checkArgument", desc := "(Z)V" } : Jvm.MethodName)) ∈ lw_all := lw_g (lw_at lw_m5 27 rfl) rfl
theorem q1111 : (Jvm.Cond.static ({ cls := "Rulehearth", name := "checkArgument", desc := "(Z)V" } : Jvm.MethodName)) ∈ lw_all := lw_g (lw_at lw_m5 28 rfl) rfl
theorem q1112 : (Jvm.Cond.code ({ cls := "Rulehearth", name := "checkArgument", desc := "(Z)V" } : Jvm.MethodName) prog_1_method_8_code (1 : Nat) (Option.none : Option Jvm.ClassFile.FieldType)) ∈ lw_all := lw_g (lw_at lw_m5 29 rfl) rfl
theorem q1113 : (Jvm.Cond.classLink "Rulehearth" (46 : Nat) "java/lang/IllegalArgumentException") ∈ lw_all := lw_g (lw_at lw_m5 30 rfl) rfl
theorem q1114 : (Jvm.Cond.methodLink "Rulehearth" (48 : Nat) ({ cls := "java/lang/IllegalArgumentException", name := "<init>", desc := "()V" } : Jvm.MethodName)) ∈ lw_all := lw_g (lw_at lw_m5 31 rfl) rfl
theorem q1124 : (Jvm.Cond.methodLink "Rulehearth" (114 : Nat) ({ cls := "Rulehearth", name := "checkState", desc := "(Z)V" } : Jvm.MethodName)) ∈ lw_all := lw_g (lw_at lw_m5 41 rfl) rfl
theorem q1125 : (Jvm.Cond.static ({ cls := "Rulehearth", name := "checkState", desc := "(Z)V" } : Jvm.MethodName)) ∈ lw_all := lw_g (lw_at lw_m5 42 rfl) rfl
theorem q1126 : (Jvm.Cond.code ({ cls := "Rulehearth", name := "checkState", desc := "(Z)V" } : Jvm.MethodName) prog_1_method_9_code (1 : Nat) (Option.none : Option Jvm.ClassFile.FieldType)) ∈ lw_all := lw_g (lw_at lw_m5 43 rfl) rfl
theorem q1127 : (Jvm.Cond.methodLink "Rulehearth" (51 : Nat) ({ cls := "java/lang/IllegalStateException", name := "<init>", desc := "()V" } : Jvm.MethodName)) ∈ lw_all := lw_g (lw_at lw_m5 44 rfl) rfl
theorem q1131 : (Jvm.Cond.methodLink "Rulehearth" (117 : Nat) ({ cls := "Rulehearth$World", name := "copy", desc := "()LRulehearth$World;" } : Jvm.MethodName)) ∈ lw_all := lw_g (lw_at lw_m5 48 rfl) rfl
theorem q1175 : (Jvm.Cond.instanceMethod ({ cls := "Rulehearth", name := "tell", desc := "(II)I" } : Jvm.MethodName)) ∈ lw_all := lw_g (lw_at lw_m5 92 rfl) rfl
theorem q1176 : (Jvm.Cond.selects "Rulehearth" ({ cls := "Rulehearth", name := "tell", desc := "(II)I" } : Jvm.MethodName) ({ cls := "Rulehearth", name := "tell", desc := "(II)I" } : Jvm.MethodName)) ∈ lw_all := lw_g (lw_at lw_m5 93 rfl) rfl
theorem q1177 : (Jvm.Cond.code ({ cls := "Rulehearth", name := "tell", desc := "(II)I" } : Jvm.MethodName) prog_1_method_17_code (4 : Nat) (Option.some Jvm.ClassFile.FieldType.int)) ∈ lw_all := lw_g (lw_at lw_m5 94 rfl) rfl
theorem q1178 : (Jvm.Cond.methodLink "Rulehearth" (121 : Nat) ({ cls := "Rulehearth", name := "checkFact", desc := "(I)V" } : Jvm.MethodName)) ∈ lw_all := lw_g (lw_at lw_m5 95 rfl) rfl
theorem q1179 : (Jvm.Cond.privateMethod ({ cls := "Rulehearth", name := "checkFact", desc := "(I)V" } : Jvm.MethodName)) ∈ lw_tbl := lw_at lw_m5 96 rfl
theorem q1180 : (Jvm.Cond.instanceMethod ({ cls := "Rulehearth", name := "checkFact", desc := "(I)V" } : Jvm.MethodName)) ∈ lw_all := lw_g (lw_at lw_m5 97 rfl) rfl
theorem q1181 : (Jvm.Cond.code ({ cls := "Rulehearth", name := "checkFact", desc := "(I)V" } : Jvm.MethodName) prog_1_method_13_code (2 : Nat) (Option.none : Option Jvm.ClassFile.FieldType)) ∈ lw_all := lw_g (lw_at lw_m5 98 rfl) rfl
theorem q1182 : (Jvm.Cond.constant "Rulehearth" (3 : Nat) (1000000 : Int32)) ∈ lw_all := lw_g (lw_at lw_m5 99 rfl) rfl
theorem q1183 : (Jvm.Cond.methodLink "Rulehearth" (62 : Nat) ({ cls := "Rulehearth", name := "checkIndex", desc := "(II)V" } : Jvm.MethodName)) ∈ lw_all := lw_g (lw_at lw_m5 100 rfl) rfl
theorem q1184 : (Jvm.Cond.static ({ cls := "Rulehearth", name := "checkIndex", desc := "(II)V" } : Jvm.MethodName)) ∈ lw_all := lw_g (lw_at lw_m5 101 rfl) rfl
theorem q1185 : (Jvm.Cond.code ({ cls := "Rulehearth", name := "checkIndex", desc := "(II)V" } : Jvm.MethodName) prog_1_method_10_code (2 : Nat) (Option.none : Option Jvm.ClassFile.FieldType)) ∈ lw_all := lw_g (lw_at lw_m5 102 rfl) rfl
theorem q1186 : (Jvm.Cond.classLink "Rulehearth" (52 : Nat) "java/lang/IndexOutOfBoundsException") ∈ lw_all := lw_g (lw_at lw_m5 103 rfl) rfl
theorem q1195 : (Jvm.Cond.methodLink "Rulehearth" (54 : Nat) ({ cls := "java/lang/IndexOutOfBoundsException", name := "<init>", desc := "()V" } : Jvm.MethodName)) ∈ lw_all := lw_g (lw_at lw_m5 112 rfl) rfl
theorem q1201 : (Jvm.Cond.methodLink "Rulehearth" (81 : Nat) ({ cls := "Rulehearth", name := "isProper", desc := "(I)Z" } : Jvm.MethodName)) ∈ lw_all := lw_g (lw_at lw_m5 118 rfl) rfl
theorem q1202 : (Jvm.Cond.privateMethod ({ cls := "Rulehearth", name := "isProper", desc := "(I)Z" } : Jvm.MethodName)) ∈ lw_tbl := lw_at lw_m5 119 rfl
theorem q1203 : (Jvm.Cond.instanceMethod ({ cls := "Rulehearth", name := "isProper", desc := "(I)Z" } : Jvm.MethodName)) ∈ lw_all := lw_g (lw_at lw_m5 120 rfl) rfl
theorem q1204 : (Jvm.Cond.code ({ cls := "Rulehearth", name := "isProper", desc := "(I)Z" } : Jvm.MethodName) prog_1_method_12_code (3 : Nat) (Option.some Jvm.ClassFile.FieldType.boolean)) ∈ lw_all := lw_g (lw_at lw_m5 121 rfl) rfl
theorem q1205 : (Jvm.Cond.methodLink "Rulehearth" (66 : Nat) ({ cls := "Rulehearth", name := "relationOf", desc := "(I)I" } : Jvm.MethodName)) ∈ lw_all := lw_g (lw_at lw_m5 122 rfl) rfl
theorem q1206 : (Jvm.Cond.static ({ cls := "Rulehearth", name := "relationOf", desc := "(I)I" } : Jvm.MethodName)) ∈ lw_all := lw_g (lw_at lw_m5 123 rfl) rfl
theorem q1207 : (Jvm.Cond.code ({ cls := "Rulehearth", name := "relationOf", desc := "(I)I" } : Jvm.MethodName) prog_1_method_1_code (1 : Nat) (Option.some Jvm.ClassFile.FieldType.int)) ∈ lw_all := lw_g (lw_at lw_m5 124 rfl) rfl
theorem q1208 : (Jvm.Cond.methodLink "Rulehearth" (77 : Nat) ({ cls := "Rulehearth", name := "slotOf", desc := "(II)I" } : Jvm.MethodName)) ∈ lw_all := lw_g (lw_at lw_m5 125 rfl) rfl
theorem q1209 : (Jvm.Cond.methodLink "Rulehearth" (127 : Nat) ({ cls := "Rulehearth$World", name := "tell", desc := "(II)V" } : Jvm.MethodName)) ∈ lw_all := lw_g (lw_at lw_m5 126 rfl) rfl
theorem q1223 : (Jvm.Cond.methodLink "Rulehearth" (130 : Nat) ({ cls := "Rulehearth", name := "become", desc := "(LRulehearth$World;)I" } : Jvm.MethodName)) ∈ lw_all := lw_g (lw_at lw_m5 140 rfl) rfl
theorem q1224 : (Jvm.Cond.privateMethod ({ cls := "Rulehearth", name := "become", desc := "(LRulehearth$World;)I" } : Jvm.MethodName)) ∈ lw_tbl := lw_at lw_m5 141 rfl
theorem q1225 : (Jvm.Cond.instanceMethod ({ cls := "Rulehearth", name := "become", desc := "(LRulehearth$World;)I" } : Jvm.MethodName)) ∈ lw_all := lw_g (lw_at lw_m5 142 rfl) rfl
theorem q1226 : (Jvm.Cond.codeWith ({ cls := "Rulehearth", name := "become", desc := "(LRulehearth$World;)I" } : Jvm.MethodName) prog_1_method_15_code (3 : Nat) (Option.some Jvm.ClassFile.FieldType.int) [((0 : Nat), (4 : Nat), (7 : Nat), (98 : Nat)), ((0 : Nat), (4 : Nat), (7 : Nat), (100 : Nat))]) ∈ lw_all := lw_g (lw_at lw_m5 143 rfl) rfl
theorem q1227 : (Jvm.Cond.classLink "Rulehearth" (100 : Nat) "Rulehearth$DraftException") ∈ lw_all := lw_g (lw_at lw_m5 144 rfl) rfl
theorem q1228 : (Jvm.Cond.methodLink "Rulehearth" (95 : Nat) ({ cls := "Rulehearth$World", name := "settle", desc := "()V" } : Jvm.MethodName)) ∈ lw_all := lw_g (lw_at lw_m5 145 rfl) rfl
theorem q1403 : (Jvm.Cond.instanceMethod ({ cls := "Rulehearth", name := "take", desc := "(I)I" } : Jvm.MethodName)) ∈ lw_all := lw_g (lw_at lw_m6 80 rfl) rfl
theorem q1404 : (Jvm.Cond.selects "Rulehearth" ({ cls := "Rulehearth", name := "take", desc := "(I)I" } : Jvm.MethodName) ({ cls := "Rulehearth", name := "take", desc := "(I)I" } : Jvm.MethodName)) ∈ lw_all := lw_g (lw_at lw_m6 81 rfl) rfl
theorem q1405 : (Jvm.Cond.code ({ cls := "Rulehearth", name := "take", desc := "(I)I" } : Jvm.MethodName) prog_1_method_18_code (4 : Nat) (Option.some Jvm.ClassFile.FieldType.int)) ∈ lw_all := lw_g (lw_at lw_m6 82 rfl) rfl
theorem q1406 : (Jvm.Cond.methodLink "Rulehearth" (134 : Nat) ({ cls := "Rulehearth$World", name := "toldAt", desc := "(I)I" } : Jvm.MethodName)) ∈ lw_all := lw_g (lw_at lw_m6 83 rfl) rfl
theorem q1407 : (Jvm.Cond.methodLink "Rulehearth" (140 : Nat) ({ cls := "java/util/ArrayList", name := "remove", desc := "(I)Ljava/lang/Object;" } : Jvm.MethodName)) ∈ lw_all := lw_g (lw_at lw_m6 84 rfl) rfl
theorem q1412 : (Jvm.Cond.instanceMethod ({ cls := "Rulehearth", name := "stands", desc := "(I)Z" } : Jvm.MethodName)) ∈ lw_all := lw_g (lw_at lw_m6 89 rfl) rfl
theorem q1413 : (Jvm.Cond.selects "Rulehearth" ({ cls := "Rulehearth", name := "stands", desc := "(I)Z" } : Jvm.MethodName) ({ cls := "Rulehearth", name := "stands", desc := "(I)Z" } : Jvm.MethodName)) ∈ lw_all := lw_g (lw_at lw_m6 90 rfl) rfl
theorem q1414 : (Jvm.Cond.code ({ cls := "Rulehearth", name := "stands", desc := "(I)Z" } : Jvm.MethodName) prog_1_method_19_code (2 : Nat) (Option.some Jvm.ClassFile.FieldType.boolean)) ∈ lw_all := lw_g (lw_at lw_m6 91 rfl) rfl
theorem q1415 : (Jvm.Cond.methodLink "Rulehearth" (143 : Nat) ({ cls := "Rulehearth$Facts", name := "has", desc := "(I)Z" } : Jvm.MethodName)) ∈ lw_all := lw_g (lw_at lw_m6 92 rfl) rfl
theorem q1420 : (Jvm.Cond.instanceMethod ({ cls := "Rulehearth", name := "standsByRounds", desc := "(I)Z" } : Jvm.MethodName)) ∈ lw_all := lw_g (lw_at lw_m6 97 rfl) rfl
theorem q1421 : (Jvm.Cond.selects "Rulehearth" ({ cls := "Rulehearth", name := "standsByRounds", desc := "(I)Z" } : Jvm.MethodName) ({ cls := "Rulehearth", name := "standsByRounds", desc := "(I)Z" } : Jvm.MethodName)) ∈ lw_all := lw_g (lw_at lw_m6 98 rfl) rfl
theorem q1422 : (Jvm.Cond.codeWith ({ cls := "Rulehearth", name := "standsByRounds", desc := "(I)Z" } : Jvm.MethodName) prog_1_method_20_code (3 : Nat) (Option.some Jvm.ClassFile.FieldType.boolean) [((5 : Nat), (23 : Nat), (24 : Nat), (98 : Nat)), ((5 : Nat), (23 : Nat), (24 : Nat), (100 : Nat))]) ∈ lw_all := lw_g (lw_at lw_m6 99 rfl) rfl
theorem q1423 : (Jvm.Cond.methodLink "Rulehearth" (146 : Nat) ({ cls := "Rulehearth$World", name := "strata", desc := "()[I" } : Jvm.MethodName)) ∈ lw_all := lw_g (lw_at lw_m6 100 rfl) rfl
theorem q1424 : (Jvm.Cond.methodLink "Rulehearth" (150 : Nat) ({ cls := "Rulehearth$World", name := "foundByRounds", desc := "([I)LRulehearth$Facts;" } : Jvm.MethodName)) ∈ lw_all := lw_g (lw_at lw_m6 101 rfl) rfl
theorem q1432 : (Jvm.Cond.instanceMethod ({ cls := "Rulehearth", name := "endOf", desc := "(I)I" } : Jvm.MethodName)) ∈ lw_all := lw_g (lw_at lw_m6 109 rfl) rfl
theorem q1433 : (Jvm.Cond.selects "Rulehearth" ({ cls := "Rulehearth", name := "endOf", desc := "(I)I" } : Jvm.MethodName) ({ cls := "Rulehearth", name := "endOf", desc := "(I)I" } : Jvm.MethodName)) ∈ lw_all := lw_g (lw_at lw_m6 110 rfl) rfl
theorem q1434 : (Jvm.Cond.code ({ cls := "Rulehearth", name := "endOf", desc := "(I)I" } : Jvm.MethodName) prog_1_method_21_code (3 : Nat) (Option.some Jvm.ClassFile.FieldType.int)) ∈ lw_all := lw_g (lw_at lw_m6 111 rfl) rfl
theorem q1435 : (Jvm.Cond.classLink "Rulehearth" (154 : Nat) "[I") ∈ lw_all := lw_g (lw_at lw_m6 112 rfl) rfl
theorem q1440 : (Jvm.Cond.instanceMethod ({ cls := "Rulehearth", name := "tag", desc := "(I)I" } : Jvm.MethodName)) ∈ lw_all := lw_g (lw_at lw_m6 117 rfl) rfl
theorem q1441 : (Jvm.Cond.selects "Rulehearth" ({ cls := "Rulehearth", name := "tag", desc := "(I)I" } : Jvm.MethodName) ({ cls := "Rulehearth", name := "tag", desc := "(I)I" } : Jvm.MethodName)) ∈ lw_all := lw_g (lw_at lw_m6 118 rfl) rfl
theorem q1442 : (Jvm.Cond.code ({ cls := "Rulehearth", name := "tag", desc := "(I)I" } : Jvm.MethodName) prog_1_method_22_code (2 : Nat) (Option.some Jvm.ClassFile.FieldType.int)) ∈ lw_all := lw_g (lw_at lw_m6 119 rfl) rfl
theorem q1443 : (Jvm.Cond.methodLink "Rulehearth" (156 : Nat) ({ cls := "Rulehearth$World", name := "tagOf", desc := "(I)I" } : Jvm.MethodName)) ∈ lw_all := lw_g (lw_at lw_m6 120 rfl) rfl
theorem q1448 : (Jvm.Cond.instanceMethod ({ cls := "Rulehearth", name := "standingAt", desc := "(I)I" } : Jvm.MethodName)) ∈ lw_all := lw_g (lw_at lw_m6 125 rfl) rfl
theorem q1449 : (Jvm.Cond.selects "Rulehearth" ({ cls := "Rulehearth", name := "standingAt", desc := "(I)I" } : Jvm.MethodName) ({ cls := "Rulehearth", name := "standingAt", desc := "(I)I" } : Jvm.MethodName)) ∈ lw_all := lw_g (lw_at lw_m6 126 rfl) rfl
theorem q1450 : (Jvm.Cond.code ({ cls := "Rulehearth", name := "standingAt", desc := "(I)I" } : Jvm.MethodName) prog_1_method_24_code (2 : Nat) (Option.some Jvm.ClassFile.FieldType.int)) ∈ lw_all := lw_g (lw_at lw_m6 127 rfl) rfl
theorem q1455 : (Jvm.Cond.instanceMethod ({ cls := "Rulehearth", name := "rule", desc := "(I)V" } : Jvm.MethodName)) ∈ lw_all := lw_g (lw_at lw_m6 132 rfl) rfl
theorem q1456 : (Jvm.Cond.selects "Rulehearth" ({ cls := "Rulehearth", name := "rule", desc := "(I)V" } : Jvm.MethodName) ({ cls := "Rulehearth", name := "rule", desc := "(I)V" } : Jvm.MethodName)) ∈ lw_all := lw_g (lw_at lw_m6 133 rfl) rfl
theorem q1457 : (Jvm.Cond.code ({ cls := "Rulehearth", name := "rule", desc := "(I)V" } : Jvm.MethodName) prog_1_method_27_code (2 : Nat) (Option.none : Option Jvm.ClassFile.FieldType)) ∈ lw_all := lw_g (lw_at lw_m6 134 rfl) rfl
theorem q1459 : (Jvm.Cond.methodLink "Rulehearth" (174 : Nat) ({ cls := "Rulehearth", name := "head", desc := "(I)LRulehearth$Item;" } : Jvm.MethodName)) ∈ lw_all := lw_g (lw_at lw_m6 136 rfl) rfl
theorem q1460 : (Jvm.Cond.privateMethod ({ cls := "Rulehearth", name := "head", desc := "(I)LRulehearth$Item;" } : Jvm.MethodName)) ∈ lw_tbl := lw_at lw_m6 137 rfl
theorem q1461 : (Jvm.Cond.instanceMethod ({ cls := "Rulehearth", name := "head", desc := "(I)LRulehearth$Item;" } : Jvm.MethodName)) ∈ lw_all := lw_g (lw_at lw_m6 138 rfl) rfl
theorem q1462 : (Jvm.Cond.code ({ cls := "Rulehearth", name := "head", desc := "(I)LRulehearth$Item;" } : Jvm.MethodName) prog_1_method_26_code (2 : Nat) (Option.some (Jvm.ClassFile.FieldType.object "Rulehearth$Item"))) ∈ lw_all := lw_g (lw_at lw_m6 139 rfl) rfl
theorem q1463 : (Jvm.Cond.methodLink "Rulehearth" (166 : Nat) ({ cls := "Rulehearth", name := "checkRelation", desc := "(I)V" } : Jvm.MethodName)) ∈ lw_all := lw_g (lw_at lw_m6 140 rfl) rfl
theorem q1464 : (Jvm.Cond.privateMethod ({ cls := "Rulehearth", name := "checkRelation", desc := "(I)V" } : Jvm.MethodName)) ∈ lw_tbl := lw_at lw_m6 141 rfl
theorem q1465 : (Jvm.Cond.instanceMethod ({ cls := "Rulehearth", name := "checkRelation", desc := "(I)V" } : Jvm.MethodName)) ∈ lw_all := lw_g (lw_at lw_m6 142 rfl) rfl
theorem q1466 : (Jvm.Cond.code ({ cls := "Rulehearth", name := "checkRelation", desc := "(I)V" } : Jvm.MethodName) prog_1_method_11_code (2 : Nat) (Option.none : Option Jvm.ClassFile.FieldType)) ∈ lw_all := lw_g (lw_at lw_m6 143 rfl) rfl
theorem q1468 : (Jvm.Cond.methodLink "Rulehearth" (171 : Nat) ({ cls := "Rulehearth$Item", name := "<init>", desc := "(III)V" } : Jvm.MethodName)) ∈ lw_all := lw_g (lw_at lw_m6 145 rfl) rfl
theorem q1477 : (Jvm.Cond.fieldLink "Rulehearth" (220 : Nat) "Rulehearth$Item" "kind" "I") ∈ lw_all := lw_g (lw_at lw_m6 154 rfl) rfl
theorem q1483 : (Jvm.Cond.fieldLink "Rulehearth" (405 : Nat) "Rulehearth$Item" "what" "I") ∈ lw_all := lw_g (lw_at lw_m6 160 rfl) rfl
theorem q1489 : (Jvm.Cond.fieldLink "Rulehearth" (193 : Nat) "Rulehearth$Item" "terms" "[I") ∈ lw_all := lw_g (lw_at lw_m6 166 rfl) rfl
theorem q1491 : (Jvm.Cond.fieldLink "Rulehearth" (196 : Nat) "Rulehearth$Item" "filled" "I") ∈ lw_all := lw_g (lw_at lw_m6 168 rfl) rfl
theorem q1501 : (Jvm.Cond.methodLink "Rulehearth" (178 : Nat) ({ cls := "Rulehearth$Clause", name := "<init>", desc := "(LRulehearth$Item;ZIIZ)V" } : Jvm.MethodName)) ∈ lw_all := lw_g (lw_at lw_m6 178 rfl) rfl
theorem q1508 : (Jvm.Cond.fieldLink "Rulehearth" (91 : Nat) "Rulehearth$Clause" "number" "I") ∈ lw_all := lw_g (lw_at lw_m6 185 rfl) rfl
theorem q1513 : (Jvm.Cond.fieldLink "Rulehearth" (211 : Nat) "Rulehearth$Clause" "head" "LRulehearth$Item;") ∈ lw_all := lw_g (lw_at lw_m6 190 rfl) rfl
theorem q1520 : (Jvm.Cond.fieldLink "Rulehearth" (208 : Nat) "Rulehearth$Clause" "gathered" "I") ∈ lw_all := lw_g (lw_at lw_m6 197 rfl) rfl
theorem q1522 : (Jvm.Cond.fieldLink "Rulehearth" (214 : Nat) "Rulehearth$Clause" "gathering" "I") ∈ lw_all := lw_g (lw_at lw_m6 199 rfl) rfl
theorem q1528 : (Jvm.Cond.fieldLink "Rulehearth" (217 : Nat) "Rulehearth$Clause" "body" "Ljava/util/ArrayList;") ∈ lw_all := lw_g (lw_at lw_m6 205 rfl) rfl
theorem q1530 : (Jvm.Cond.fieldLink "Rulehearth" (204 : Nat) "Rulehearth$Clause" "isDeed" "Z") ∈ lw_all := lw_g (lw_at lw_m6 207 rfl) rfl
theorem q1536 : (Jvm.Cond.fieldLink "Rulehearth" (472 : Nat) "Rulehearth$Clause" "tells" "Z") ∈ lw_all := lw_g (lw_at lw_m6 213 rfl) rfl
theorem q1556 : (Jvm.Cond.methodLink "Rulehearth" (181 : Nat) ({ cls := "Rulehearth", name := "begin", desc := "(LRulehearth$Clause;)V" } : Jvm.MethodName)) ∈ lw_all := lw_g (lw_at lw_m6 233 rfl) rfl
theorem q1557 : (Jvm.Cond.privateMethod ({ cls := "Rulehearth", name := "begin", desc := "(LRulehearth$Clause;)V" } : Jvm.MethodName)) ∈ lw_tbl := lw_at lw_m6 234 rfl
theorem q1558 : (Jvm.Cond.instanceMethod ({ cls := "Rulehearth", name := "begin", desc := "(LRulehearth$Clause;)V" } : Jvm.MethodName)) ∈ lw_all := lw_g (lw_at lw_m6 235 rfl) rfl
theorem q1559 : (Jvm.Cond.code ({ cls := "Rulehearth", name := "begin", desc := "(LRulehearth$Clause;)V" } : Jvm.MethodName) prog_1_method_25_code (2 : Nat) (Option.none : Option Jvm.ClassFile.FieldType)) ∈ lw_all := lw_g (lw_at lw_m6 236 rfl) rfl
theorem q1564 : (Jvm.Cond.instanceMethod ({ cls := "Rulehearth", name := "deed", desc := "(IIZI)V" } : Jvm.MethodName)) ∈ lw_all := lw_g (lw_at lw_m7 1 rfl) rfl
theorem q1565 : (Jvm.Cond.selects "Rulehearth" ({ cls := "Rulehearth", name := "deed", desc := "(IIZI)V" } : Jvm.MethodName) ({ cls := "Rulehearth", name := "deed", desc := "(IIZI)V" } : Jvm.MethodName)) ∈ lw_all := lw_g (lw_at lw_m7 2 rfl) rfl
theorem q1566 : (Jvm.Cond.code ({ cls := "Rulehearth", name := "deed", desc := "(IIZI)V" } : Jvm.MethodName) prog_1_method_28_code (6 : Nat) (Option.none : Option Jvm.ClassFile.FieldType)) ∈ lw_all := lw_g (lw_at lw_m7 3 rfl) rfl
theorem q1571 : (Jvm.Cond.instanceMethod ({ cls := "Rulehearth", name := "variable", desc := "(I)V" } : Jvm.MethodName)) ∈ lw_all := lw_g (lw_at lw_m7 8 rfl) rfl
theorem q1572 : (Jvm.Cond.selects "Rulehearth" ({ cls := "Rulehearth", name := "variable", desc := "(I)V" } : Jvm.MethodName) ({ cls := "Rulehearth", name := "variable", desc := "(I)V" } : Jvm.MethodName)) ∈ lw_all := lw_g (lw_at lw_m7 9 rfl) rfl
theorem q1573 : (Jvm.Cond.code ({ cls := "Rulehearth", name := "variable", desc := "(I)V" } : Jvm.MethodName) prog_1_method_31_code (2 : Nat) (Option.none : Option Jvm.ClassFile.FieldType)) ∈ lw_all := lw_g (lw_at lw_m7 10 rfl) rfl
theorem q1574 : (Jvm.Cond.methodLink "Rulehearth" (199 : Nat) ({ cls := "Rulehearth", name := "checkVariable", desc := "(I)V" } : Jvm.MethodName)) ∈ lw_all := lw_g (lw_at lw_m7 11 rfl) rfl
theorem q1575 : (Jvm.Cond.static ({ cls := "Rulehearth", name := "checkVariable", desc := "(I)V" } : Jvm.MethodName)) ∈ lw_all := lw_g (lw_at lw_m7 12 rfl) rfl
theorem q1576 : (Jvm.Cond.code ({ cls := "Rulehearth", name := "checkVariable", desc := "(I)V" } : Jvm.MethodName) prog_1_method_30_code (1 : Nat) (Option.none : Option Jvm.ClassFile.FieldType)) ∈ lw_all := lw_g (lw_at lw_m7 13 rfl) rfl
theorem q1577 : (Jvm.Cond.methodLink "Rulehearth" (202 : Nat) ({ cls := "Rulehearth", name := "add", desc := "(I)V" } : Jvm.MethodName)) ∈ lw_all := lw_g (lw_at lw_m7 14 rfl) rfl
theorem q1578 : (Jvm.Cond.privateMethod ({ cls := "Rulehearth", name := "add", desc := "(I)V" } : Jvm.MethodName)) ∈ lw_tbl := lw_at lw_m7 15 rfl
theorem q1579 : (Jvm.Cond.instanceMethod ({ cls := "Rulehearth", name := "add", desc := "(I)V" } : Jvm.MethodName)) ∈ lw_all := lw_g (lw_at lw_m7 16 rfl) rfl
theorem q1580 : (Jvm.Cond.code ({ cls := "Rulehearth", name := "add", desc := "(I)V" } : Jvm.MethodName) prog_1_method_29_code (3 : Nat) (Option.none : Option Jvm.ClassFile.FieldType)) ∈ lw_all := lw_g (lw_at lw_m7 17 rfl) rfl
theorem q1581 : (Jvm.Cond.methodLink "Rulehearth" (185 : Nat) ({ cls := "Rulehearth$Clause", name := "latest", desc := "()LRulehearth$Item;" } : Jvm.MethodName)) ∈ lw_all := lw_g (lw_at lw_m7 18 rfl) rfl
theorem q1589 : (Jvm.Cond.methodLink "Rulehearth" (189 : Nat) ({ cls := "Rulehearth$Item", name := "isWhole", desc := "()Z" } : Jvm.MethodName)) ∈ lw_all := lw_g (lw_at lw_m7 26 rfl) rfl
theorem q1597 : (Jvm.Cond.instanceMethod ({ cls := "Rulehearth", name := "value", desc := "(I)V" } : Jvm.MethodName)) ∈ lw_all := lw_g (lw_at lw_m7 34 rfl) rfl
theorem q1598 : (Jvm.Cond.selects "Rulehearth" ({ cls := "Rulehearth", name := "value", desc := "(I)V" } : Jvm.MethodName) ({ cls := "Rulehearth", name := "value", desc := "(I)V" } : Jvm.MethodName)) ∈ lw_all := lw_g (lw_at lw_m7 35 rfl) rfl
theorem q1599 : (Jvm.Cond.code ({ cls := "Rulehearth", name := "value", desc := "(I)V" } : Jvm.MethodName) prog_1_method_32_code (2 : Nat) (Option.none : Option Jvm.ClassFile.FieldType)) ∈ lw_all := lw_g (lw_at lw_m7 36 rfl) rfl
theorem q1604 : (Jvm.Cond.instanceMethod ({ cls := "Rulehearth", name := "gather", desc := "(II)V" } : Jvm.MethodName)) ∈ lw_all := lw_g (lw_at lw_m7 41 rfl) rfl
theorem q1605 : (Jvm.Cond.selects "Rulehearth" ({ cls := "Rulehearth", name := "gather", desc := "(II)V" } : Jvm.MethodName) ({ cls := "Rulehearth", name := "gather", desc := "(II)V" } : Jvm.MethodName)) ∈ lw_all := lw_g (lw_at lw_m7 42 rfl) rfl
theorem q1606 : (Jvm.Cond.code ({ cls := "Rulehearth", name := "gather", desc := "(II)V" } : Jvm.MethodName) prog_1_method_33_code (3 : Nat) (Option.none : Option Jvm.ClassFile.FieldType)) ∈ lw_all := lw_g (lw_at lw_m7 43 rfl) rfl
theorem q1611 : (Jvm.Cond.instanceMethod ({ cls := "Rulehearth", name := "atom", desc := "(I)V" } : Jvm.MethodName)) ∈ lw_all := lw_g (lw_at lw_m7 48 rfl) rfl
theorem q1612 : (Jvm.Cond.selects "Rulehearth" ({ cls := "Rulehearth", name := "atom", desc := "(I)V" } : Jvm.MethodName) ({ cls := "Rulehearth", name := "atom", desc := "(I)V" } : Jvm.MethodName)) ∈ lw_all := lw_g (lw_at lw_m7 49 rfl) rfl
theorem q1613 : (Jvm.Cond.code ({ cls := "Rulehearth", name := "atom", desc := "(I)V" } : Jvm.MethodName) prog_1_method_35_code (2 : Nat) (Option.none : Option Jvm.ClassFile.FieldType)) ∈ lw_all := lw_g (lw_at lw_m7 50 rfl) rfl
theorem q1614 : (Jvm.Cond.methodLink "Rulehearth" (226 : Nat) ({ cls := "Rulehearth", name := "addItem", desc := "(LRulehearth$Item;)V" } : Jvm.MethodName)) ∈ lw_all := lw_g (lw_at lw_m7 51 rfl) rfl
theorem q1615 : (Jvm.Cond.privateMethod ({ cls := "Rulehearth", name := "addItem", desc := "(LRulehearth$Item;)V" } : Jvm.MethodName)) ∈ lw_tbl := lw_at lw_m7 52 rfl
theorem q1616 : (Jvm.Cond.instanceMethod ({ cls := "Rulehearth", name := "addItem", desc := "(LRulehearth$Item;)V" } : Jvm.MethodName)) ∈ lw_all := lw_g (lw_at lw_m7 53 rfl) rfl
theorem q1617 : (Jvm.Cond.code ({ cls := "Rulehearth", name := "addItem", desc := "(LRulehearth$Item;)V" } : Jvm.MethodName) prog_1_method_34_code (2 : Nat) (Option.none : Option Jvm.ClassFile.FieldType)) ∈ lw_all := lw_g (lw_at lw_m7 54 rfl) rfl
theorem q1618 : (Jvm.Cond.methodLink "Rulehearth" (223 : Nat) ({ cls := "Rulehearth$Clause", name := "atoms", desc := "()I" } : Jvm.MethodName)) ∈ lw_all := lw_g (lw_at lw_m7 55 rfl) rfl
theorem q1623 : (Jvm.Cond.instanceMethod ({ cls := "Rulehearth", name := "not", desc := "(I)V" } : Jvm.MethodName)) ∈ lw_all := lw_g (lw_at lw_m7 60 rfl) rfl
theorem q1624 : (Jvm.Cond.selects "Rulehearth" ({ cls := "Rulehearth", name := "not", desc := "(I)V" } : Jvm.MethodName) ({ cls := "Rulehearth", name := "not", desc := "(I)V" } : Jvm.MethodName)) ∈ lw_all := lw_g (lw_at lw_m7 61 rfl) rfl
theorem q1625 : (Jvm.Cond.code ({ cls := "Rulehearth", name := "not", desc := "(I)V" } : Jvm.MethodName) prog_1_method_36_code (2 : Nat) (Option.none : Option Jvm.ClassFile.FieldType)) ∈ lw_all := lw_g (lw_at lw_m7 62 rfl) rfl
theorem q1630 : (Jvm.Cond.instanceMethod ({ cls := "Rulehearth", name := "test", desc := "(I)V" } : Jvm.MethodName)) ∈ lw_all := lw_g (lw_at lw_m7 67 rfl) rfl
theorem q1631 : (Jvm.Cond.selects "Rulehearth" ({ cls := "Rulehearth", name := "test", desc := "(I)V" } : Jvm.MethodName) ({ cls := "Rulehearth", name := "test", desc := "(I)V" } : Jvm.MethodName)) ∈ lw_all := lw_g (lw_at lw_m7 68 rfl) rfl
theorem q1632 : (Jvm.Cond.code ({ cls := "Rulehearth", name := "test", desc := "(I)V" } : Jvm.MethodName) prog_1_method_37_code (2 : Nat) (Option.none : Option Jvm.ClassFile.FieldType)) ∈ lw_all := lw_g (lw_at lw_m7 69 rfl) rfl
theorem q1637 : (Jvm.Cond.instanceMethod ({ cls := "Rulehearth", name := "plus", desc := "()V" } : Jvm.MethodName)) ∈ lw_all := lw_g (lw_at lw_m7 74 rfl) rfl
theorem q1638 : (Jvm.Cond.selects "Rulehearth" ({ cls := "Rulehearth", name := "plus", desc := "()V" } : Jvm.MethodName) ({ cls := "Rulehearth", name := "plus", desc := "()V" } : Jvm.MethodName)) ∈ lw_all := lw_g (lw_at lw_m7 75 rfl) rfl
theorem q1639 : (Jvm.Cond.code ({ cls := "Rulehearth", name := "plus", desc := "()V" } : Jvm.MethodName) prog_1_method_38_code (1 : Nat) (Option.none : Option Jvm.ClassFile.FieldType)) ∈ lw_all := lw_g (lw_at lw_m7 76 rfl) rfl
theorem q1644 : (Jvm.Cond.instanceMethod ({ cls := "Rulehearth", name := "done", desc := "()I" } : Jvm.MethodName)) ∈ lw_all := lw_g (lw_at lw_m7 81 rfl) rfl
theorem q1645 : (Jvm.Cond.selects "Rulehearth" ({ cls := "Rulehearth", name := "done", desc := "()I" } : Jvm.MethodName) ({ cls := "Rulehearth", name := "done", desc := "()I" } : Jvm.MethodName)) ∈ lw_all := lw_g (lw_at lw_m7 82 rfl) rfl
theorem q1646 : (Jvm.Cond.codeWith ({ cls := "Rulehearth", name := "done", desc := "()I" } : Jvm.MethodName) prog_1_method_42_code (3 : Nat) (Option.some Jvm.ClassFile.FieldType.int) [((15 : Nat), (22 : Nat), (25 : Nat), (100 : Nat))]) ∈ lw_all := lw_g (lw_at lw_m7 83 rfl) rfl
theorem q1647 : (Jvm.Cond.methodLink "Rulehearth" (263 : Nat) ({ cls := "Rulehearth", name := "checkSound", desc := "(LRulehearth$Clause;)V" } : Jvm.MethodName)) ∈ lw_all := lw_g (lw_at lw_m7 84 rfl) rfl
theorem q1648 : (Jvm.Cond.static ({ cls := "Rulehearth", name := "checkSound", desc := "(LRulehearth$Clause;)V" } : Jvm.MethodName)) ∈ lw_all := lw_g (lw_at lw_m7 85 rfl) rfl
theorem q1649 : (Jvm.Cond.code ({ cls := "Rulehearth", name := "checkSound", desc := "(LRulehearth$Clause;)V" } : Jvm.MethodName) prog_1_method_41_code (3 : Nat) (Option.none : Option Jvm.ClassFile.FieldType)) ∈ lw_all := lw_g (lw_at lw_m7 86 rfl) rfl
theorem q1650 : (Jvm.Cond.methodLink "Rulehearth" (230 : Nat) ({ cls := "java/util/ArrayList", name := "isEmpty", desc := "()Z" } : Jvm.MethodName)) ∈ lw_all := lw_g (lw_at lw_m7 87 rfl) rfl
theorem q1651 : (Jvm.Cond.stringRef "Rulehearth" (233 : Nat) "not whole") ∈ lw_tbl := lw_at lw_m7 88 rfl
theorem q1652 : (Jvm.Cond.methodLink "Rulehearth" (235 : Nat) ({ cls := "Rulehearth$DraftException", name := "<init>", desc := "(Ljava/lang/String;)V" } : Jvm.MethodName)) ∈ lw_all := lw_g (lw_at lw_m7 89 rfl) rfl
theorem q1653 : (Jvm.Cond.methodLink "Rulehearth" (238 : Nat) ({ cls := "Rulehearth", name := "needed", desc := "(LRulehearth$Item;)I" } : Jvm.MethodName)) ∈ lw_all := lw_g (lw_at lw_m7 90 rfl) rfl
theorem q1654 : (Jvm.Cond.static ({ cls := "Rulehearth", name := "needed", desc := "(LRulehearth$Item;)I" } : Jvm.MethodName)) ∈ lw_all := lw_g (lw_at lw_m7 91 rfl) rfl
theorem q1655 : (Jvm.Cond.code ({ cls := "Rulehearth", name := "needed", desc := "(LRulehearth$Item;)I" } : Jvm.MethodName) prog_1_method_40_code (3 : Nat) (Option.some Jvm.ClassFile.FieldType.int)) ∈ lw_all := lw_g (lw_at lw_m7 92 rfl) rfl
theorem q1656 : (Jvm.Cond.stringRef "Rulehearth" (245 : Nat) "unknown in the item ") ∈ lw_tbl := lw_at lw_m7 93 rfl
theorem q1657 : (Jvm.Cond.methodLink "Rulehearth" (247 : Nat) ({ cls := "java/lang/StringBuilder", name := "append", desc := "(Ljava/lang/String;)Ljava/lang/StringBuilder;" } : Jvm.MethodName)) ∈ lw_all := lw_g (lw_at lw_m7 94 rfl) rfl
theorem q1658 : (Jvm.Cond.methodLink "Rulehearth" (258 : Nat) ({ cls := "Rulehearth", name := "known", desc := "(LRulehearth$Item;)I" } : Jvm.MethodName)) ∈ lw_all := lw_g (lw_at lw_m7 95 rfl) rfl
theorem q1659 : (Jvm.Cond.static ({ cls := "Rulehearth", name := "known", desc := "(LRulehearth$Item;)I" } : Jvm.MethodName)) ∈ lw_all := lw_g (lw_at lw_m7 96 rfl) rfl
theorem q1660 : (Jvm.Cond.code ({ cls := "Rulehearth", name := "known", desc := "(LRulehearth$Item;)I" } : Jvm.MethodName) prog_1_method_39_code (3 : Nat) (Option.some Jvm.ClassFile.FieldType.int)) ∈ lw_all := lw_g (lw_at lw_m7 97 rfl) rfl
theorem q1661 : (Jvm.Cond.stringRef "Rulehearth" (261 : Nat) "unknown in the head") ∈ lw_tbl := lw_at lw_m7 98 rfl
theorem q1662 : (Jvm.Cond.stringRef "Rulehearth" (266 : Nat) "no rule or deed") ∈ lw_tbl := lw_at lw_m7 99 rfl
theorem q1667 : (Jvm.Cond.instanceMethod ({ cls := "Rulehearth", name := "drop", desc := "(I)I" } : Jvm.MethodName)) ∈ lw_all := lw_g (lw_at lw_m7 104 rfl) rfl
theorem q1668 : (Jvm.Cond.selects "Rulehearth" ({ cls := "Rulehearth", name := "drop", desc := "(I)I" } : Jvm.MethodName) ({ cls := "Rulehearth", name := "drop", desc := "(I)I" } : Jvm.MethodName)) ∈ lw_all := lw_g (lw_at lw_m7 105 rfl) rfl
theorem q1669 : (Jvm.Cond.code ({ cls := "Rulehearth", name := "drop", desc := "(I)I" } : Jvm.MethodName) prog_1_method_44_code (4 : Nat) (Option.some Jvm.ClassFile.FieldType.int)) ∈ lw_all := lw_g (lw_at lw_m7 106 rfl) rfl
theorem q1670 : (Jvm.Cond.methodLink "Rulehearth" (280 : Nat) ({ cls := "Rulehearth", name := "find", desc := "(Ljava/util/ArrayList;I)LRulehearth$Clause;" } : Jvm.MethodName)) ∈ lw_all := lw_g (lw_at lw_m7 107 rfl) rfl
theorem q1671 : (Jvm.Cond.static ({ cls := "Rulehearth", name := "find", desc := "(Ljava/util/ArrayList;I)LRulehearth$Clause;" } : Jvm.MethodName)) ∈ lw_all := lw_g (lw_at lw_m7 108 rfl) rfl
theorem q1672 : (Jvm.Cond.code ({ cls := "Rulehearth", name := "find", desc := "(Ljava/util/ArrayList;I)LRulehearth$Clause;" } : Jvm.MethodName) prog_1_method_14_code (3 : Nat) (Option.some (Jvm.ClassFile.FieldType.object "Rulehearth$Clause"))) ∈ lw_all := lw_g (lw_at lw_m7 109 rfl) rfl
theorem q1673 : (Jvm.Cond.methodLink "Rulehearth" (284 : Nat) ({ cls := "java/util/ArrayList", name := "remove", desc := "(Ljava/lang/Object;)Z" } : Jvm.MethodName)) ∈ lw_all := lw_g (lw_at lw_m7 110 rfl) rfl
theorem q1681 : (Jvm.Cond.instanceMethod ({ cls := "Rulehearth", name := "dropDeed", desc := "(I)I" } : Jvm.MethodName)) ∈ lw_all := lw_g (lw_at lw_m7 118 rfl) rfl
theorem q1682 : (Jvm.Cond.selects "Rulehearth" ({ cls := "Rulehearth", name := "dropDeed", desc := "(I)I" } : Jvm.MethodName) ({ cls := "Rulehearth", name := "dropDeed", desc := "(I)I" } : Jvm.MethodName)) ∈ lw_all := lw_g (lw_at lw_m7 119 rfl) rfl
theorem q1683 : (Jvm.Cond.code ({ cls := "Rulehearth", name := "dropDeed", desc := "(I)I" } : Jvm.MethodName) prog_1_method_45_code (4 : Nat) (Option.some Jvm.ClassFile.FieldType.int)) ∈ lw_all := lw_g (lw_at lw_m7 120 rfl) rfl
theorem q1688 : (Jvm.Cond.instanceMethod ({ cls := "Rulehearth", name := "stratum", desc := "(I)I" } : Jvm.MethodName)) ∈ lw_all := lw_g (lw_at lw_m7 125 rfl) rfl
theorem q1689 : (Jvm.Cond.selects "Rulehearth" ({ cls := "Rulehearth", name := "stratum", desc := "(I)I" } : Jvm.MethodName) ({ cls := "Rulehearth", name := "stratum", desc := "(I)I" } : Jvm.MethodName)) ∈ lw_all := lw_g (lw_at lw_m7 126 rfl) rfl
theorem q1690 : (Jvm.Cond.codeWith ({ cls := "Rulehearth", name := "stratum", desc := "(I)I" } : Jvm.MethodName) prog_1_method_46_code (3 : Nat) (Option.some Jvm.ClassFile.FieldType.int) [((5 : Nat), (14 : Nat), (15 : Nat), (100 : Nat))]) ∈ lw_all := lw_g (lw_at lw_m7 127 rfl) rfl
theorem q1695 : (Jvm.Cond.instanceMethod ({ cls := "Rulehearth", name := "depth", desc := "(I)I" } : Jvm.MethodName)) ∈ lw_all := lw_g (lw_at lw_m7 132 rfl) rfl
theorem q1696 : (Jvm.Cond.selects "Rulehearth" ({ cls := "Rulehearth", name := "depth", desc := "(I)I" } : Jvm.MethodName) ({ cls := "Rulehearth", name := "depth", desc := "(I)I" } : Jvm.MethodName)) ∈ lw_all := lw_g (lw_at lw_m7 133 rfl) rfl
theorem q1697 : (Jvm.Cond.code ({ cls := "Rulehearth", name := "depth", desc := "(I)I" } : Jvm.MethodName) prog_1_method_51_code (3 : Nat) (Option.some Jvm.ClassFile.FieldType.int)) ∈ lw_all := lw_g (lw_at lw_m7 134 rfl) rfl
theorem q1698 : (Jvm.Cond.methodLink "Rulehearth" (319 : Nat) ({ cls := "Rulehearth", name := "reasonsOfNow", desc := "()LRulehearth$Reasons;" } : Jvm.MethodName)) ∈ lw_all := lw_g (lw_at lw_m7 135 rfl) rfl
theorem q1699 : (Jvm.Cond.privateMethod ({ cls := "Rulehearth", name := "reasonsOfNow", desc := "()LRulehearth$Reasons;" } : Jvm.MethodName)) ∈ lw_tbl := lw_at lw_m7 136 rfl
theorem q1700 : (Jvm.Cond.instanceMethod ({ cls := "Rulehearth", name := "reasonsOfNow", desc := "()LRulehearth$Reasons;" } : Jvm.MethodName)) ∈ lw_all := lw_g (lw_at lw_m7 137 rfl) rfl
theorem q1701 : (Jvm.Cond.code ({ cls := "Rulehearth", name := "reasonsOfNow", desc := "()LRulehearth$Reasons;" } : Jvm.MethodName) prog_1_method_50_code (1 : Nat) (Option.some (Jvm.ClassFile.FieldType.object "Rulehearth$Reasons"))) ∈ lw_all := lw_g (lw_at lw_m7 138 rfl) rfl
theorem q1702 : (Jvm.Cond.classLink "Rulehearth" (303 : Nat) "Rulehearth$Reasons") ∈ lw_all := lw_g (lw_at lw_m7 139 rfl) rfl
theorem q1704 : (Jvm.Cond.methodLink "Rulehearth" (305 : Nat) ({ cls := "Rulehearth$Reasons", name := "<init>", desc := "(LRulehearth;)V" } : Jvm.MethodName)) ∈ lw_all := lw_g (lw_at lw_m7 141 rfl) rfl
theorem q1722 : (Jvm.Cond.privateMethod ({ cls := "Rulehearth", name := "matcher", desc := "(LRulehearth$Clause;[ILRulehearth$Taker;)LRulehearth$Matcher;" } : Jvm.MethodName)) ∈ lw_tbl := lw_at lw_m7 159 rfl
theorem q1723 : (Jvm.Cond.instanceMethod ({ cls := "Rulehearth", name := "matcher", desc := "(LRulehearth$Clause;[ILRulehearth$Taker;)LRulehearth$Matcher;" } : Jvm.MethodName)) ∈ lw_all := lw_g (lw_at lw_m7 160 rfl) rfl
theorem q1724 : (Jvm.Cond.code ({ cls := "Rulehearth", name := "matcher", desc := "(LRulehearth$Clause;[ILRulehearth$Taker;)LRulehearth$Matcher;" } : Jvm.MethodName) prog_1_method_48_code (4 : Nat) (Option.some (Jvm.ClassFile.FieldType.object "Rulehearth$Matcher"))) ∈ lw_all := lw_g (lw_at lw_m7 161 rfl) rfl
theorem q1725 : (Jvm.Cond.classLink "Rulehearth" (287 : Nat) "Rulehearth$Matcher") ∈ lw_all := lw_g (lw_at lw_m7 162 rfl) rfl
theorem q1726 : (Jvm.Cond.methodLink "Rulehearth" (294 : Nat) ({ cls := "Rulehearth$Matcher", name := "<init>", desc := "(Ljava/util/ArrayList;ILRulehearth$Facts;[ILRulehearth$Taker;)V" } : Jvm.MethodName)) ∈ lw_all := lw_g (lw_at lw_m7 163 rfl) rfl
theorem q1774 : (Jvm.Cond.fieldLinkNest "Rulehearth" (338 : Nat) "Rulehearth$Reasons" "together" "[[J" "Rulehearth") ∈ lw_tbl := lw_at lw_m7 211 rfl
theorem q1776 : (Jvm.Cond.fieldLinkNest "Rulehearth" (383 : Nat) "Rulehearth$Reasons" "direct" "[J" "Rulehearth") ∈ lw_tbl := lw_at lw_m7 213 rfl
theorem q1779 : (Jvm.Cond.fieldLinkNest "Rulehearth" (322 : Nat) "Rulehearth$Reasons" "depths" "[I" "Rulehearth") ∈ lw_tbl := lw_at lw_m7 216 rfl
theorem q1795 : (Jvm.Cond.methodLink "Rulehearth" (308 : Nat) ({ cls := "Rulehearth$Reasons", name := "measure", desc := "()LRulehearth$Reasons;" } : Jvm.MethodName)) ∈ lw_all := lw_g (lw_at lw_m7 232 rfl) rfl
theorem q1824 : (Jvm.Cond.instanceMethod ({ cls := "Rulehearth", name := "why", desc := "(I)I" } : Jvm.MethodName)) ∈ lw_all := lw_g (lw_at lw_m8 21 rfl) rfl
theorem q1825 : (Jvm.Cond.selects "Rulehearth" ({ cls := "Rulehearth", name := "why", desc := "(I)I" } : Jvm.MethodName) ({ cls := "Rulehearth", name := "why", desc := "(I)I" } : Jvm.MethodName)) ∈ lw_all := lw_g (lw_at lw_m8 22 rfl) rfl
theorem q1826 : (Jvm.Cond.code ({ cls := "Rulehearth", name := "why", desc := "(I)I" } : Jvm.MethodName) prog_1_method_54_code (3 : Nat) (Option.some Jvm.ClassFile.FieldType.int)) ∈ lw_all := lw_g (lw_at lw_m8 23 rfl) rfl
theorem q1827 : (Jvm.Cond.methodLink "Rulehearth" (379 : Nat) ({ cls := "Rulehearth", name := "whyOf", desc := "(I)LRulehearth$Why;" } : Jvm.MethodName)) ∈ lw_all := lw_g (lw_at lw_m8 24 rfl) rfl
theorem q1828 : (Jvm.Cond.privateMethod ({ cls := "Rulehearth", name := "whyOf", desc := "(I)LRulehearth$Why;" } : Jvm.MethodName)) ∈ lw_tbl := lw_at lw_m8 25 rfl
theorem q1829 : (Jvm.Cond.instanceMethod ({ cls := "Rulehearth", name := "whyOf", desc := "(I)LRulehearth$Why;" } : Jvm.MethodName)) ∈ lw_all := lw_g (lw_at lw_m8 26 rfl) rfl
theorem q1830 : (Jvm.Cond.code ({ cls := "Rulehearth", name := "whyOf", desc := "(I)LRulehearth$Why;" } : Jvm.MethodName) prog_1_method_52_code (10 : Nat) (Option.some (Jvm.ClassFile.FieldType.object "Rulehearth$Why"))) ∈ lw_all := lw_g (lw_at lw_m8 27 rfl) rfl
theorem q1831 : (Jvm.Cond.classLink "Rulehearth" (328 : Nat) "Rulehearth$Why") ∈ lw_all := lw_g (lw_at lw_m8 28 rfl) rfl
theorem q1833 : (Jvm.Cond.methodLinkNest "Rulehearth" (330 : Nat) ({ cls := "Rulehearth$Why", name := "<init>", desc := "()V" } : Jvm.MethodName) "Rulehearth") ∈ lw_tbl := lw_at lw_m8 30 rfl
theorem q1838 : (Jvm.Cond.fieldLink "Rulehearth" (331 : Nat) "Rulehearth$Why" "rule" "I") ∈ lw_all := lw_g (lw_at lw_m8 35 rfl) rfl
theorem q1839 : (Jvm.Cond.fieldLink "Rulehearth" (351 : Nat) "Rulehearth$Why" "count" "I") ∈ lw_all := lw_g (lw_at lw_m8 36 rfl) rfl
theorem q1841 : (Jvm.Cond.fieldLink "Rulehearth" (348 : Nat) "Rulehearth$Why" "facts" "[I") ∈ lw_all := lw_g (lw_at lw_m8 38 rfl) rfl
theorem q1849 : (Jvm.Cond.methodLink "Rulehearth" (334 : Nat) ({ cls := "Rulehearth", name := "firstOf", desc := "(LRulehearth$Clause;IILRulehearth$Reasons;LRulehearth$Why;)V" } : Jvm.MethodName)) ∈ lw_all := lw_g (lw_at lw_m8 46 rfl) rfl
theorem q1850 : (Jvm.Cond.privateMethod ({ cls := "Rulehearth", name := "firstOf", desc := "(LRulehearth$Clause;IILRulehearth$Reasons;LRulehearth$Why;)V" } : Jvm.MethodName)) ∈ lw_tbl := lw_at lw_m8 47 rfl
theorem q1851 : (Jvm.Cond.instanceMethod ({ cls := "Rulehearth", name := "firstOf", desc := "(LRulehearth$Clause;IILRulehearth$Reasons;LRulehearth$Why;)V" } : Jvm.MethodName)) ∈ lw_all := lw_g (lw_at lw_m8 48 rfl) rfl
theorem q1852 : (Jvm.Cond.code ({ cls := "Rulehearth", name := "firstOf", desc := "(LRulehearth$Clause;IILRulehearth$Reasons;LRulehearth$Why;)V" } : Jvm.MethodName) prog_1_method_53_code (8 : Nat) (Option.none : Option Jvm.ClassFile.FieldType)) ∈ lw_all := lw_g (lw_at lw_m8 49 rfl) rfl
theorem q1853 : (Jvm.Cond.classLink "Rulehearth" (355 : Nat) "Rulehearth$First") ∈ lw_all := lw_g (lw_at lw_m8 50 rfl) rfl
theorem q1854 : (Jvm.Cond.methodLink "Rulehearth" (357 : Nat) ({ cls := "Rulehearth$First", name := "<init>", desc := "(LRulehearth$Reasons;LRulehearth$Facts;II)V" } : Jvm.MethodName)) ∈ lw_all := lw_g (lw_at lw_m8 51 rfl) rfl
theorem q1863 : (Jvm.Cond.fieldLinkNest "Rulehearth" (372 : Nat) "Rulehearth$First" "facts" "[I" "Rulehearth") ∈ lw_tbl := lw_at lw_m8 60 rfl
theorem q1875 : (Jvm.Cond.methodLink "Rulehearth" (360 : Nat) ({ cls := "Rulehearth$Clause", name := "binds", desc := "(I[I)Z" } : Jvm.MethodName)) ∈ lw_all := lw_g (lw_at lw_m8 72 rfl) rfl
theorem q1876 : (Jvm.Cond.methodLink "Rulehearth" (364 : Nat) ({ cls := "Rulehearth", name := "matcher", desc := "(LRulehearth$Clause;[ILRulehearth$Taker;)LRulehearth$Matcher;" } : Jvm.MethodName)) ∈ lw_all := lw_g (lw_at lw_m8 73 rfl) rfl
theorem q1877 : (Jvm.Cond.methodLink "Rulehearth" (368 : Nat) ({ cls := "Rulehearth", name := "runs", desc := "(LRulehearth$Matcher;)I" } : Jvm.MethodName)) ∈ lw_all := lw_g (lw_at lw_m8 74 rfl) rfl
theorem q1878 : (Jvm.Cond.methodLink "Rulehearth" (373 : Nat) ({ cls := "java/lang/System", name := "arraycopy", desc := "(Ljava/lang/Object;ILjava/lang/Object;II)V" } : Jvm.MethodName)) ∈ lw_all := lw_g (lw_at lw_m8 75 rfl) rfl
theorem q1879 : (Jvm.Cond.constantLong "Rulehearth" (342 : Nat) (-4611686018427387905 : Int64)) ∈ lw_all := lw_g (lw_at lw_m8 76 rfl) rfl
theorem q1880 : (Jvm.Cond.methodLinkNest "Rulehearth" (344 : Nat) ({ cls := "Rulehearth$Reasons", name := "above", desc := "(J)I" } : Jvm.MethodName) "Rulehearth") ∈ lw_tbl := lw_at lw_m8 77 rfl
theorem q1885 : (Jvm.Cond.instanceMethod ({ cls := "Rulehearth", name := "reasons", desc := "(I)I" } : Jvm.MethodName)) ∈ lw_all := lw_g (lw_at lw_m8 82 rfl) rfl
theorem q1886 : (Jvm.Cond.selects "Rulehearth" ({ cls := "Rulehearth", name := "reasons", desc := "(I)I" } : Jvm.MethodName) ({ cls := "Rulehearth", name := "reasons", desc := "(I)I" } : Jvm.MethodName)) ∈ lw_all := lw_g (lw_at lw_m8 83 rfl) rfl
theorem q1887 : (Jvm.Cond.code ({ cls := "Rulehearth", name := "reasons", desc := "(I)I" } : Jvm.MethodName) prog_1_method_55_code (3 : Nat) (Option.some Jvm.ClassFile.FieldType.int)) ∈ lw_all := lw_g (lw_at lw_m8 84 rfl) rfl
theorem q1892 : (Jvm.Cond.instanceMethod ({ cls := "Rulehearth", name := "reasonAt", desc := "(II)I" } : Jvm.MethodName)) ∈ lw_all := lw_g (lw_at lw_m8 89 rfl) rfl
theorem q1893 : (Jvm.Cond.selects "Rulehearth" ({ cls := "Rulehearth", name := "reasonAt", desc := "(II)I" } : Jvm.MethodName) ({ cls := "Rulehearth", name := "reasonAt", desc := "(II)I" } : Jvm.MethodName)) ∈ lw_all := lw_g (lw_at lw_m8 90 rfl) rfl
theorem q1894 : (Jvm.Cond.code ({ cls := "Rulehearth", name := "reasonAt", desc := "(II)I" } : Jvm.MethodName) prog_1_method_56_code (4 : Nat) (Option.some Jvm.ClassFile.FieldType.int)) ∈ lw_all := lw_g (lw_at lw_m8 91 rfl) rfl
theorem q1899 : (Jvm.Cond.instanceMethod ({ cls := "Rulehearth", name := "dependsOn", desc := "(II)Z" } : Jvm.MethodName)) ∈ lw_all := lw_g (lw_at lw_m8 96 rfl) rfl
theorem q1900 : (Jvm.Cond.selects "Rulehearth" ({ cls := "Rulehearth", name := "dependsOn", desc := "(II)Z" } : Jvm.MethodName) ({ cls := "Rulehearth", name := "dependsOn", desc := "(II)Z" } : Jvm.MethodName)) ∈ lw_all := lw_g (lw_at lw_m8 97 rfl) rfl
theorem q1901 : (Jvm.Cond.code ({ cls := "Rulehearth", name := "dependsOn", desc := "(II)Z" } : Jvm.MethodName) prog_1_method_57_code (11 : Nat) (Option.some Jvm.ClassFile.FieldType.boolean)) ∈ lw_all := lw_g (lw_at lw_m8 98 rfl) rfl
theorem q1902 : (Jvm.Cond.constantLong "Rulehearth" (387 : Nat) (-1 : Int64)) ∈ lw_all := lw_g (lw_at lw_m8 99 rfl) rfl
theorem q1907 : (Jvm.Cond.instanceMethod ({ cls := "Rulehearth", name := "whyNot", desc := "(II)I" } : Jvm.MethodName)) ∈ lw_all := lw_g (lw_at lw_m8 104 rfl) rfl
theorem q1908 : (Jvm.Cond.selects "Rulehearth" ({ cls := "Rulehearth", name := "whyNot", desc := "(II)I" } : Jvm.MethodName) ({ cls := "Rulehearth", name := "whyNot", desc := "(II)I" } : Jvm.MethodName)) ∈ lw_all := lw_g (lw_at lw_m8 105 rfl) rfl
theorem q1909 : (Jvm.Cond.code ({ cls := "Rulehearth", name := "whyNot", desc := "(II)I" } : Jvm.MethodName) prog_1_method_58_code (6 : Nat) (Option.some Jvm.ClassFile.FieldType.int)) ∈ lw_all := lw_g (lw_at lw_m8 106 rfl) rfl
theorem q1910 : (Jvm.Cond.static ({ cls := "Rulehearth", name := "lambda$whyNot$0", desc := "([I[I)Z" } : Jvm.MethodName)) ∈ lw_all := lw_g (lw_at lw_m8 107 rfl) rfl
theorem q1911 : (Jvm.Cond.code ({ cls := "Rulehearth", name := "lambda$whyNot$0", desc := "([I[I)Z" } : Jvm.MethodName) prog_1_method_86_code (2 : Nat) (Option.some Jvm.ClassFile.FieldType.boolean)) ∈ lw_all := lw_g (lw_at lw_m8 108 rfl) rfl
theorem q1916 : (Jvm.Cond.instanceMethod ({ cls := "Rulehearth", name := "answers", desc := "(IIII)I" } : Jvm.MethodName)) ∈ lw_all := lw_g (lw_at lw_m8 113 rfl) rfl
theorem q1917 : (Jvm.Cond.selects "Rulehearth" ({ cls := "Rulehearth", name := "answers", desc := "(IIII)I" } : Jvm.MethodName) ({ cls := "Rulehearth", name := "answers", desc := "(IIII)I" } : Jvm.MethodName)) ∈ lw_all := lw_g (lw_at lw_m8 114 rfl) rfl
theorem q1918 : (Jvm.Cond.code ({ cls := "Rulehearth", name := "answers", desc := "(IIII)I" } : Jvm.MethodName) prog_1_method_60_code (9 : Nat) (Option.some Jvm.ClassFile.FieldType.int)) ∈ lw_all := lw_g (lw_at lw_m8 115 rfl) rfl
theorem q1919 : (Jvm.Cond.methodLink "Rulehearth" (393 : Nat) ({ cls := "Rulehearth", name := "checkGoal", desc := "(IIII)V" } : Jvm.MethodName)) ∈ lw_all := lw_g (lw_at lw_m8 116 rfl) rfl
theorem q1920 : (Jvm.Cond.privateMethod ({ cls := "Rulehearth", name := "checkGoal", desc := "(IIII)V" } : Jvm.MethodName)) ∈ lw_tbl := lw_at lw_m8 117 rfl
theorem q1921 : (Jvm.Cond.instanceMethod ({ cls := "Rulehearth", name := "checkGoal", desc := "(IIII)V" } : Jvm.MethodName)) ∈ lw_all := lw_g (lw_at lw_m8 118 rfl) rfl
theorem q1922 : (Jvm.Cond.code ({ cls := "Rulehearth", name := "checkGoal", desc := "(IIII)V" } : Jvm.MethodName) prog_1_method_59_code (6 : Nat) (Option.none : Option Jvm.ClassFile.FieldType)) ∈ lw_all := lw_g (lw_at lw_m8 119 rfl) rfl
theorem q1927 : (Jvm.Cond.instanceMethod ({ cls := "Rulehearth", name := "goals", desc := "(IIII)I" } : Jvm.MethodName)) ∈ lw_all := lw_g (lw_at lw_m8 124 rfl) rfl
theorem q1928 : (Jvm.Cond.selects "Rulehearth" ({ cls := "Rulehearth", name := "goals", desc := "(IIII)I" } : Jvm.MethodName) ({ cls := "Rulehearth", name := "goals", desc := "(IIII)I" } : Jvm.MethodName)) ∈ lw_all := lw_g (lw_at lw_m8 125 rfl) rfl
theorem q1929 : (Jvm.Cond.code ({ cls := "Rulehearth", name := "goals", desc := "(IIII)I" } : Jvm.MethodName) prog_1_method_61_code (6 : Nat) (Option.some Jvm.ClassFile.FieldType.int)) ∈ lw_all := lw_g (lw_at lw_m8 126 rfl) rfl
theorem q1930 : (Jvm.Cond.classLink "Rulehearth" (397 : Nat) "Rulehearth$Goals") ∈ lw_all := lw_g (lw_at lw_m8 127 rfl) rfl
theorem q1932 : (Jvm.Cond.methodLink "Rulehearth" (399 : Nat) ({ cls := "Rulehearth$Goals", name := "<init>", desc := "(LRulehearth;)V" } : Jvm.MethodName)) ∈ lw_all := lw_g (lw_at lw_m8 129 rfl) rfl
theorem q1974 : (Jvm.Cond.methodLink "Rulehearth" (400 : Nat) ({ cls := "Rulehearth$Goals", name := "count", desc := "(I)I" } : Jvm.MethodName)) ∈ lw_all := lw_g (lw_at lw_m8 171 rfl) rfl
theorem q1993 : (Jvm.Cond.instanceMethod ({ cls := "Rulehearth", name := "matches", desc := "(II)I" } : Jvm.MethodName)) ∈ lw_all := lw_g (lw_at lw_m8 190 rfl) rfl
theorem q1994 : (Jvm.Cond.selects "Rulehearth" ({ cls := "Rulehearth", name := "matches", desc := "(II)I" } : Jvm.MethodName) ({ cls := "Rulehearth", name := "matches", desc := "(II)I" } : Jvm.MethodName)) ∈ lw_all := lw_g (lw_at lw_m8 191 rfl) rfl
theorem q1995 : (Jvm.Cond.code ({ cls := "Rulehearth", name := "matches", desc := "(II)I" } : Jvm.MethodName) prog_1_method_66_code (4 : Nat) (Option.some Jvm.ClassFile.FieldType.int)) ∈ lw_all := lw_g (lw_at lw_m8 192 rfl) rfl
theorem q1996 : (Jvm.Cond.methodLink "Rulehearth" (423 : Nat) ({ cls := "Rulehearth", name := "count", desc := "(Ljava/util/ArrayList;I)I" } : Jvm.MethodName)) ∈ lw_all := lw_g (lw_at lw_m8 193 rfl) rfl
theorem q1997 : (Jvm.Cond.privateMethod ({ cls := "Rulehearth", name := "count", desc := "(Ljava/util/ArrayList;I)I" } : Jvm.MethodName)) ∈ lw_tbl := lw_at lw_m8 194 rfl
theorem q1998 : (Jvm.Cond.instanceMethod ({ cls := "Rulehearth", name := "count", desc := "(Ljava/util/ArrayList;I)I" } : Jvm.MethodName)) ∈ lw_all := lw_g (lw_at lw_m8 195 rfl) rfl
theorem q1999 : (Jvm.Cond.code ({ cls := "Rulehearth", name := "count", desc := "(Ljava/util/ArrayList;I)I" } : Jvm.MethodName) prog_1_method_65_code (5 : Nat) (Option.some Jvm.ClassFile.FieldType.int)) ∈ lw_all := lw_g (lw_at lw_m8 196 rfl) rfl
theorem q2000 : (Jvm.Cond.static ({ cls := "Rulehearth", name := "lambda$count$1", desc := "([I[I[I)Z" } : Jvm.MethodName)) ∈ lw_all := lw_g (lw_at lw_m8 197 rfl) rfl
theorem q2001 : (Jvm.Cond.code ({ cls := "Rulehearth", name := "lambda$count$1", desc := "([I[I[I)Z" } : Jvm.MethodName) prog_1_method_85_code (3 : Nat) (Option.some Jvm.ClassFile.FieldType.boolean)) ∈ lw_all := lw_g (lw_at lw_m8 198 rfl) rfl
theorem q2006 : (Jvm.Cond.instanceMethod ({ cls := "Rulehearth", name := "planAt", desc := "(II)I" } : Jvm.MethodName)) ∈ lw_all := lw_g (lw_at lw_m8 203 rfl) rfl
theorem q2007 : (Jvm.Cond.selects "Rulehearth" ({ cls := "Rulehearth", name := "planAt", desc := "(II)I" } : Jvm.MethodName) ({ cls := "Rulehearth", name := "planAt", desc := "(II)I" } : Jvm.MethodName)) ∈ lw_all := lw_g (lw_at lw_m8 204 rfl) rfl
theorem q2008 : (Jvm.Cond.code ({ cls := "Rulehearth", name := "planAt", desc := "(II)I" } : Jvm.MethodName) prog_1_method_70_code (4 : Nat) (Option.some Jvm.ClassFile.FieldType.int)) ∈ lw_all := lw_g (lw_at lw_m8 205 rfl) rfl
theorem q2009 : (Jvm.Cond.methodLink "Rulehearth" (440 : Nat) ({ cls := "Rulehearth", name := "plan", desc := "(LRulehearth$Clause;)Ljava/util/ArrayList;" } : Jvm.MethodName)) ∈ lw_all := lw_g (lw_at lw_m8 206 rfl) rfl
theorem q2010 : (Jvm.Cond.privateMethod ({ cls := "Rulehearth", name := "plan", desc := "(LRulehearth$Clause;)Ljava/util/ArrayList;" } : Jvm.MethodName)) ∈ lw_tbl := lw_at lw_m8 207 rfl
theorem q2011 : (Jvm.Cond.instanceMethod ({ cls := "Rulehearth", name := "plan", desc := "(LRulehearth$Clause;)Ljava/util/ArrayList;" } : Jvm.MethodName)) ∈ lw_all := lw_g (lw_at lw_m8 208 rfl) rfl
theorem q2012 : (Jvm.Cond.code ({ cls := "Rulehearth", name := "plan", desc := "(LRulehearth$Clause;)Ljava/util/ArrayList;" } : Jvm.MethodName) prog_1_method_69_code (10 : Nat) (Option.some (Jvm.ClassFile.FieldType.object "java/util/ArrayList"))) ∈ lw_all := lw_g (lw_at lw_m8 209 rfl) rfl
theorem q2013 : (Jvm.Cond.methodLink "Rulehearth" (429 : Nat) ({ cls := "Rulehearth", name := "atomsOf", desc := "(LRulehearth$Clause;)Ljava/util/ArrayList;" } : Jvm.MethodName)) ∈ lw_all := lw_g (lw_at lw_m8 210 rfl) rfl
theorem q2014 : (Jvm.Cond.static ({ cls := "Rulehearth", name := "atomsOf", desc := "(LRulehearth$Clause;)Ljava/util/ArrayList;" } : Jvm.MethodName)) ∈ lw_all := lw_g (lw_at lw_m8 211 rfl) rfl
theorem q2015 : (Jvm.Cond.code ({ cls := "Rulehearth", name := "atomsOf", desc := "(LRulehearth$Clause;)Ljava/util/ArrayList;" } : Jvm.MethodName) prog_1_method_68_code (3 : Nat) (Option.some (Jvm.ClassFile.FieldType.object "java/util/ArrayList"))) ∈ lw_all := lw_g (lw_at lw_m8 212 rfl) rfl
theorem q2016 : (Jvm.Cond.methodLink "Rulehearth" (433 : Nat) ({ cls := "Rulehearth", name := "haveCommon", desc := "(LRulehearth$Item;LRulehearth$Item;)Z" } : Jvm.MethodName)) ∈ lw_all := lw_g (lw_at lw_m8 213 rfl) rfl
theorem q2017 : (Jvm.Cond.static ({ cls := "Rulehearth", name := "haveCommon", desc := "(LRulehearth$Item;LRulehearth$Item;)Z" } : Jvm.MethodName)) ∈ lw_all := lw_g (lw_at lw_m8 214 rfl) rfl
theorem q2018 : (Jvm.Cond.code ({ cls := "Rulehearth", name := "haveCommon", desc := "(LRulehearth$Item;LRulehearth$Item;)Z" } : Jvm.MethodName) prog_1_method_67_code (4 : Nat) (Option.some Jvm.ClassFile.FieldType.boolean)) ∈ lw_all := lw_g (lw_at lw_m8 215 rfl) rfl
theorem q2019 : (Jvm.Cond.methodLink "Rulehearth" (426 : Nat) ({ cls := "Rulehearth$Item", name := "hasVariable", desc := "(I)Z" } : Jvm.MethodName)) ∈ lw_all := lw_g (lw_at lw_m8 216 rfl) rfl
theorem q2023 : (Jvm.Cond.methodLink "Rulehearth" (437 : Nat) ({ cls := "Rulehearth$Facts", name := "countOf", desc := "(I)I" } : Jvm.MethodName)) ∈ lw_all := lw_g (lw_at lw_m8 220 rfl) rfl
theorem q2028 : (Jvm.Cond.methodLink "Rulehearth" (443 : Nat) ({ cls := "java/util/ArrayList", name := "indexOf", desc := "(Ljava/lang/Object;)I" } : Jvm.MethodName)) ∈ lw_all := lw_g (lw_at lw_m8 225 rfl) rfl
theorem q2033 : (Jvm.Cond.instanceMethod ({ cls := "Rulehearth", name := "work", desc := "(IZ)I" } : Jvm.MethodName)) ∈ lw_all := lw_g (lw_at lw_m8 230 rfl) rfl
theorem q2034 : (Jvm.Cond.selects "Rulehearth" ({ cls := "Rulehearth", name := "work", desc := "(IZ)I" } : Jvm.MethodName) ({ cls := "Rulehearth", name := "work", desc := "(IZ)I" } : Jvm.MethodName)) ∈ lw_all := lw_g (lw_at lw_m8 231 rfl) rfl
theorem q2035 : (Jvm.Cond.code ({ cls := "Rulehearth", name := "work", desc := "(IZ)I" } : Jvm.MethodName) prog_1_method_71_code (7 : Nat) (Option.some Jvm.ClassFile.FieldType.int)) ∈ lw_all := lw_g (lw_at lw_m8 232 rfl) rfl
theorem q2040 : (Jvm.Cond.instanceMethod ({ cls := "Rulehearth", name := "agenda", desc := "(I)I" } : Jvm.MethodName)) ∈ lw_all := lw_g (lw_at lw_m8 237 rfl) rfl
theorem q2041 : (Jvm.Cond.selects "Rulehearth" ({ cls := "Rulehearth", name := "agenda", desc := "(I)I" } : Jvm.MethodName) ({ cls := "Rulehearth", name := "agenda", desc := "(I)I" } : Jvm.MethodName)) ∈ lw_all := lw_g (lw_at lw_m8 238 rfl) rfl
theorem q2042 : (Jvm.Cond.code ({ cls := "Rulehearth", name := "agenda", desc := "(I)I" } : Jvm.MethodName) prog_1_method_72_code (2 : Nat) (Option.some Jvm.ClassFile.FieldType.int)) ∈ lw_all := lw_g (lw_at lw_m8 239 rfl) rfl
theorem q2047 : (Jvm.Cond.instanceMethod ({ cls := "Rulehearth", name := "fire", desc := "()I" } : Jvm.MethodName)) ∈ lw_all := lw_g (lw_at lw_m9 4 rfl) rfl
theorem q2048 : (Jvm.Cond.selects "Rulehearth" ({ cls := "Rulehearth", name := "fire", desc := "()I" } : Jvm.MethodName) ({ cls := "Rulehearth", name := "fire", desc := "()I" } : Jvm.MethodName)) ∈ lw_all := lw_g (lw_at lw_m9 5 rfl) rfl
theorem q2049 : (Jvm.Cond.code ({ cls := "Rulehearth", name := "fire", desc := "()I" } : Jvm.MethodName) prog_1_method_76_code (6 : Nat) (Option.some Jvm.ClassFile.FieldType.int)) ∈ lw_all := lw_g (lw_at lw_m9 6 rfl) rfl
theorem q2054 : (Jvm.Cond.instanceMethod ({ cls := "Rulehearth", name := "run", desc := "(I)I" } : Jvm.MethodName)) ∈ lw_all := lw_g (lw_at lw_m9 11 rfl) rfl
theorem q2055 : (Jvm.Cond.selects "Rulehearth" ({ cls := "Rulehearth", name := "run", desc := "(I)I" } : Jvm.MethodName) ({ cls := "Rulehearth", name := "run", desc := "(I)I" } : Jvm.MethodName)) ∈ lw_all := lw_g (lw_at lw_m9 12 rfl) rfl
theorem q2056 : (Jvm.Cond.codeWith ({ cls := "Rulehearth", name := "run", desc := "(I)I" } : Jvm.MethodName) prog_1_method_77_code (4 : Nat) (Option.some Jvm.ClassFile.FieldType.int) [((21 : Nat), (40 : Nat), (43 : Nat), (49 : Nat))]) ∈ lw_all := lw_g (lw_at lw_m9 13 rfl) rfl
theorem q2057 : (Jvm.Cond.methodLink "Rulehearth" (475 : Nat) ({ cls := "Rulehearth", name := "fire", desc := "()I" } : Jvm.MethodName)) ∈ lw_all := lw_g (lw_at lw_m9 14 rfl) rfl
theorem q2062 : (Jvm.Cond.instanceMethod ({ cls := "Rulehearth", name := "focus", desc := "(I)I" } : Jvm.MethodName)) ∈ lw_all := lw_g (lw_at lw_m9 19 rfl) rfl
theorem q2063 : (Jvm.Cond.selects "Rulehearth" ({ cls := "Rulehearth", name := "focus", desc := "(I)I" } : Jvm.MethodName) ({ cls := "Rulehearth", name := "focus", desc := "(I)I" } : Jvm.MethodName)) ∈ lw_all := lw_g (lw_at lw_m9 20 rfl) rfl
theorem q2064 : (Jvm.Cond.code ({ cls := "Rulehearth", name := "focus", desc := "(I)I" } : Jvm.MethodName) prog_1_method_78_code (3 : Nat) (Option.some Jvm.ClassFile.FieldType.int)) ∈ lw_all := lw_g (lw_at lw_m9 21 rfl) rfl
theorem q2069 : (Jvm.Cond.instanceMethod ({ cls := "Rulehearth", name := "tick", desc := "(I)I" } : Jvm.MethodName)) ∈ lw_all := lw_g (lw_at lw_m9 26 rfl) rfl
theorem q2070 : (Jvm.Cond.selects "Rulehearth" ({ cls := "Rulehearth", name := "tick", desc := "(I)I" } : Jvm.MethodName) ({ cls := "Rulehearth", name := "tick", desc := "(I)I" } : Jvm.MethodName)) ∈ lw_all := lw_g (lw_at lw_m9 27 rfl) rfl
theorem q2071 : (Jvm.Cond.codeWith ({ cls := "Rulehearth", name := "tick", desc := "(I)I" } : Jvm.MethodName) prog_1_method_80_code (7 : Nat) (Option.some Jvm.ClassFile.FieldType.int) [((29 : Nat), (140 : Nat), (143 : Nat), (98 : Nat)), ((29 : Nat), (140 : Nat), (143 : Nat), (100 : Nat))]) ∈ lw_all := lw_g (lw_at lw_m9 28 rfl) rfl
theorem q2076 : (Jvm.Cond.instanceMethod ({ cls := "Rulehearth", name := "begin", desc := "()I" } : Jvm.MethodName)) ∈ lw_all := lw_g (lw_at lw_m9 33 rfl) rfl
theorem q2077 : (Jvm.Cond.selects "Rulehearth" ({ cls := "Rulehearth", name := "begin", desc := "()I" } : Jvm.MethodName) ({ cls := "Rulehearth", name := "begin", desc := "()I" } : Jvm.MethodName)) ∈ lw_all := lw_g (lw_at lw_m9 34 rfl) rfl
theorem q2078 : (Jvm.Cond.code ({ cls := "Rulehearth", name := "begin", desc := "()I" } : Jvm.MethodName) prog_1_method_82_code (1 : Nat) (Option.some Jvm.ClassFile.FieldType.int)) ∈ lw_all := lw_g (lw_at lw_m9 35 rfl) rfl
theorem q2083 : (Jvm.Cond.instanceMethod ({ cls := "Rulehearth", name := "commit", desc := "()I" } : Jvm.MethodName)) ∈ lw_all := lw_g (lw_at lw_m9 40 rfl) rfl
theorem q2084 : (Jvm.Cond.selects "Rulehearth" ({ cls := "Rulehearth", name := "commit", desc := "()I" } : Jvm.MethodName) ({ cls := "Rulehearth", name := "commit", desc := "()I" } : Jvm.MethodName)) ∈ lw_all := lw_g (lw_at lw_m9 41 rfl) rfl
theorem q2085 : (Jvm.Cond.code ({ cls := "Rulehearth", name := "commit", desc := "()I" } : Jvm.MethodName) prog_1_method_83_code (1 : Nat) (Option.some Jvm.ClassFile.FieldType.int)) ∈ lw_all := lw_g (lw_at lw_m9 42 rfl) rfl
theorem q2090 : (Jvm.Cond.instanceMethod ({ cls := "Rulehearth", name := "rollBack", desc := "()I" } : Jvm.MethodName)) ∈ lw_all := lw_g (lw_at lw_m9 47 rfl) rfl
theorem q2091 : (Jvm.Cond.selects "Rulehearth" ({ cls := "Rulehearth", name := "rollBack", desc := "()I" } : Jvm.MethodName) ({ cls := "Rulehearth", name := "rollBack", desc := "()I" } : Jvm.MethodName)) ∈ lw_all := lw_g (lw_at lw_m9 48 rfl) rfl
theorem q2092 : (Jvm.Cond.code ({ cls := "Rulehearth", name := "rollBack", desc := "()I" } : Jvm.MethodName) prog_1_method_84_code (1 : Nat) (Option.some Jvm.ClassFile.FieldType.int)) ∈ lw_all := lw_g (lw_at lw_m9 49 rfl) rfl
theorem q2795 : (Jvm.Cond.castable "Rulehearth" "java/lang/Object") ∈ lw_tbl := lw_at lw_m12 32 rfl
theorem in_X1 : ∀ w ∈ wsX10, w ∈ lw_all := lw_in wsX10 [693, 695, 697, 699, 701, 703, 705] (by decide +kernel) (by decide +kernel)
def RX2 : String := "Rulehearth$World"
def TX2 : u_T := fun k => match k with
  | 0 => ("Rulehearth$World", "relations", "Ljava/util/ArrayList;", true)
  | 1 => ("Rulehearth$World", "told", "Ljava/util/ArrayList;", true)
  | 2 => ("Rulehearth$World", "standing", "LRulehearth$Facts;", false)
  | 3 => ("Rulehearth$World", "tags", "[I", false)
  | 4 => ("Rulehearth$World", "tagged", "I", false)
  | 5 => ("Rulehearth$World", "rules", "Ljava/util/ArrayList;", true)
  | 6 => ("Rulehearth$World", "deeds", "Ljava/util/ArrayList;", true)
  | 7 => ("Rulehearth$World", "ruleNumbers", "I", false)
  | 8 => ("Rulehearth$World", "deedNumbers", "I", false)
  | 9 => ("Rulehearth$World", "fired", "Ljava/util/ArrayList;", true)
  | 10 => ("Rulehearth$World", "stack", "Ljava/util/ArrayList;", true)
  | _ => ("Rulehearth$World", "now", "I", false)
def tyX2 : Nat → FieldType := fun k => match k with
  | 0 => .object "java/util/ArrayList"
  | 1 => .object "java/util/ArrayList"
  | 2 => .object "Rulehearth$Facts"
  | 3 => .array .int
  | 4 => .int
  | 5 => .object "java/util/ArrayList"
  | 6 => .object "java/util/ArrayList"
  | 7 => .int
  | 8 => .int
  | 9 => .object "java/util/ArrayList"
  | 10 => .object "java/util/ArrayList"
  | _ => .int
abbrev wsX20 : List Cond := u_ws RX2 TX2 12
theorem nmX2 : ∀ a, a < 12 → ∀ b, b < 12 → a ≠ b → (TX2 a).2.1 ≠ (TX2 b).2.1 := by decide +kernel
theorem tyX2_ok : ∀ k, k < 12 → parseFieldDescriptor (TX2 k).2.2.1 = some (tyX2 k) := by decide +kernel
theorem q125 : (Jvm.Cond.initialized "Rulehearth$World") ∈ lw_all := lw_g (lw_at lw_m1 2 rfl) rfl
theorem q174 : (Jvm.Cond.instantiable "Rulehearth$World" (12 : Nat)) ∈ lw_all := lw_g (lw_at lw_m1 51 rfl) rfl
theorem q176 : (Jvm.Cond.instanceMethod ({ cls := "Rulehearth$World", name := "<init>", desc := "()V" } : Jvm.MethodName)) ∈ lw_all := lw_g (lw_at lw_m1 53 rfl) rfl
theorem q177 : (Jvm.Cond.code ({ cls := "Rulehearth$World", name := "<init>", desc := "()V" } : Jvm.MethodName) prog_17_method_1_code (1 : Nat) (Option.none : Option Jvm.ClassFile.FieldType)) ∈ lw_all := lw_g (lw_at lw_m1 54 rfl) rfl
theorem q178 : (Jvm.Cond.methodLink "Rulehearth$World" (3 : Nat) ({ cls := "java/lang/Object", name := "<init>", desc := "()V" } : Jvm.MethodName)) ∈ lw_all := lw_g (lw_at lw_m1 55 rfl) rfl
theorem q179 : (Jvm.Cond.classLink "Rulehearth$World" (9 : Nat) "java/util/ArrayList") ∈ lw_all := lw_g (lw_at lw_m1 56 rfl) rfl
theorem q181 : (Jvm.Cond.methodLink "Rulehearth$World" (11 : Nat) ({ cls := "java/util/ArrayList", name := "<init>", desc := "(I)V" } : Jvm.MethodName)) ∈ lw_all := lw_g (lw_at lw_m1 58 rfl) rfl
theorem q522 : (Jvm.Cond.classLink "Rulehearth$World" (23 : Nat) "Rulehearth$Facts") ∈ lw_all := lw_g (lw_at lw_m2 159 rfl) rfl
theorem q524 : (Jvm.Cond.methodLinkNest "Rulehearth$World" (25 : Nat) ({ cls := "Rulehearth$Facts", name := "<init>", desc := "()V" } : Jvm.MethodName) "Rulehearth") ∈ lw_tbl := lw_at lw_m2 161 rfl
theorem q532 : (Jvm.Cond.fieldLink "Rulehearth$World" (148 : Nat) "Rulehearth$Facts" "numbers" "[I") ∈ lw_all := lw_g (lw_at lw_m2 169 rfl) rfl
theorem q539 : (Jvm.Cond.fieldLink "Rulehearth$World" (135 : Nat) "Rulehearth$Facts" "count" "I") ∈ lw_all := lw_g (lw_at lw_m2 176 rfl) rfl
theorem q549 : (Jvm.Cond.methodLink "Rulehearth$World" (40 : Nat) ({ cls := "java/util/ArrayList", name := "<init>", desc := "()V" } : Jvm.MethodName)) ∈ lw_all := lw_g (lw_at lw_m2 186 rfl) rfl
theorem q554 : (Jvm.Cond.fieldLink "Rulehearth$World" (14 : Nat) "Rulehearth$World" "relations" "Ljava/util/ArrayList;") ∈ lw_all := lw_g (lw_at lw_m2 191 rfl) rfl
theorem q556 : (Jvm.Cond.fieldLink "Rulehearth$World" (20 : Nat) "Rulehearth$World" "told" "Ljava/util/ArrayList;") ∈ lw_all := lw_g (lw_at lw_m2 193 rfl) rfl
theorem q559 : (Jvm.Cond.fieldLink "Rulehearth$World" (26 : Nat) "Rulehearth$World" "standing" "LRulehearth$Facts;") ∈ lw_all := lw_g (lw_at lw_m2 196 rfl) rfl
theorem q563 : (Jvm.Cond.fieldLink "Rulehearth$World" (30 : Nat) "Rulehearth$World" "tags" "[I") ∈ lw_all := lw_g (lw_at lw_m2 200 rfl) rfl
theorem q564 : (Jvm.Cond.fieldLink "Rulehearth$World" (52 : Nat) "Rulehearth$World" "tagged" "I") ∈ lw_all := lw_g (lw_at lw_m2 201 rfl) rfl
theorem q566 : (Jvm.Cond.fieldLink "Rulehearth$World" (34 : Nat) "Rulehearth$World" "rules" "Ljava/util/ArrayList;") ∈ lw_all := lw_g (lw_at lw_m2 203 rfl) rfl
theorem q569 : (Jvm.Cond.fieldLink "Rulehearth$World" (37 : Nat) "Rulehearth$World" "deeds" "Ljava/util/ArrayList;") ∈ lw_all := lw_g (lw_at lw_m2 206 rfl) rfl
theorem q572 : (Jvm.Cond.fieldLink "Rulehearth$World" (56 : Nat) "Rulehearth$World" "ruleNumbers" "I") ∈ lw_all := lw_g (lw_at lw_m2 209 rfl) rfl
theorem q574 : (Jvm.Cond.fieldLink "Rulehearth$World" (59 : Nat) "Rulehearth$World" "deedNumbers" "I") ∈ lw_all := lw_g (lw_at lw_m2 211 rfl) rfl
theorem q576 : (Jvm.Cond.fieldLink "Rulehearth$World" (41 : Nat) "Rulehearth$World" "fired" "Ljava/util/ArrayList;") ∈ lw_all := lw_g (lw_at lw_m2 213 rfl) rfl
theorem q578 : (Jvm.Cond.fieldLink "Rulehearth$World" (44 : Nat) "Rulehearth$World" "stack" "Ljava/util/ArrayList;") ∈ lw_all := lw_g (lw_at lw_m2 215 rfl) rfl
theorem q580 : (Jvm.Cond.fieldLink "Rulehearth$World" (62 : Nat) "Rulehearth$World" "now" "I") ∈ lw_all := lw_g (lw_at lw_m2 217 rfl) rfl
theorem q582 : (Jvm.Cond.laysFinal "Rulehearth$World" "Rulehearth$World" "relations" "Ljava/util/ArrayList;") ∈ lw_all := lw_g (lw_at lw_m2 219 rfl) rfl
theorem q583 : (Jvm.Cond.soleField "Rulehearth$World" "relations") ∈ lw_all := lw_g (lw_at lw_m2 220 rfl) rfl
theorem q584 : (Jvm.Cond.laysFinal "Rulehearth$World" "Rulehearth$World" "told" "Ljava/util/ArrayList;") ∈ lw_all := lw_g (lw_at lw_m2 221 rfl) rfl
theorem q585 : (Jvm.Cond.soleField "Rulehearth$World" "told") ∈ lw_all := lw_g (lw_at lw_m2 222 rfl) rfl
theorem q586 : (Jvm.Cond.lays "Rulehearth$World" "Rulehearth$World" "standing" "LRulehearth$Facts;") ∈ lw_all := lw_g (lw_at lw_m2 223 rfl) rfl
theorem q587 : (Jvm.Cond.soleField "Rulehearth$World" "standing") ∈ lw_all := lw_g (lw_at lw_m2 224 rfl) rfl
theorem q588 : (Jvm.Cond.lays "Rulehearth$World" "Rulehearth$World" "tags" "[I") ∈ lw_all := lw_g (lw_at lw_m2 225 rfl) rfl
theorem q589 : (Jvm.Cond.soleField "Rulehearth$World" "tags") ∈ lw_all := lw_g (lw_at lw_m2 226 rfl) rfl
theorem q590 : (Jvm.Cond.lays "Rulehearth$World" "Rulehearth$World" "tagged" "I") ∈ lw_all := lw_g (lw_at lw_m2 227 rfl) rfl
theorem q591 : (Jvm.Cond.soleField "Rulehearth$World" "tagged") ∈ lw_all := lw_g (lw_at lw_m2 228 rfl) rfl
theorem q592 : (Jvm.Cond.laysFinal "Rulehearth$World" "Rulehearth$World" "rules" "Ljava/util/ArrayList;") ∈ lw_all := lw_g (lw_at lw_m2 229 rfl) rfl
theorem q593 : (Jvm.Cond.soleField "Rulehearth$World" "rules") ∈ lw_all := lw_g (lw_at lw_m2 230 rfl) rfl
theorem q594 : (Jvm.Cond.laysFinal "Rulehearth$World" "Rulehearth$World" "deeds" "Ljava/util/ArrayList;") ∈ lw_all := lw_g (lw_at lw_m2 231 rfl) rfl
theorem q595 : (Jvm.Cond.soleField "Rulehearth$World" "deeds") ∈ lw_all := lw_g (lw_at lw_m2 232 rfl) rfl
theorem q596 : (Jvm.Cond.lays "Rulehearth$World" "Rulehearth$World" "ruleNumbers" "I") ∈ lw_all := lw_g (lw_at lw_m2 233 rfl) rfl
theorem q597 : (Jvm.Cond.soleField "Rulehearth$World" "ruleNumbers") ∈ lw_all := lw_g (lw_at lw_m2 234 rfl) rfl
theorem q598 : (Jvm.Cond.lays "Rulehearth$World" "Rulehearth$World" "deedNumbers" "I") ∈ lw_all := lw_g (lw_at lw_m2 235 rfl) rfl
theorem q599 : (Jvm.Cond.soleField "Rulehearth$World" "deedNumbers") ∈ lw_all := lw_g (lw_at lw_m2 236 rfl) rfl
theorem q600 : (Jvm.Cond.laysFinal "Rulehearth$World" "Rulehearth$World" "fired" "Ljava/util/ArrayList;") ∈ lw_all := lw_g (lw_at lw_m2 237 rfl) rfl
theorem q601 : (Jvm.Cond.soleField "Rulehearth$World" "fired") ∈ lw_all := lw_g (lw_at lw_m2 238 rfl) rfl
theorem q602 : (Jvm.Cond.laysFinal "Rulehearth$World" "Rulehearth$World" "stack" "Ljava/util/ArrayList;") ∈ lw_all := lw_g (lw_at lw_m2 239 rfl) rfl
theorem q603 : (Jvm.Cond.soleField "Rulehearth$World" "stack") ∈ lw_all := lw_g (lw_at lw_m3 0 rfl) rfl
theorem q604 : (Jvm.Cond.lays "Rulehearth$World" "Rulehearth$World" "now" "I") ∈ lw_all := lw_g (lw_at lw_m3 1 rfl) rfl
theorem q605 : (Jvm.Cond.soleField "Rulehearth$World" "now") ∈ lw_all := lw_g (lw_at lw_m3 2 rfl) rfl
theorem q606 : (Jvm.Cond.superclass "Rulehearth$World" "java/lang/Object") ∈ lw_all := lw_g (lw_at lw_m3 3 rfl) rfl
theorem q667 : (Jvm.Cond.selects "Rulehearth$World" ({ cls := "java/lang/Object", name := "getClass", desc := "()Ljava/lang/Class;" } : Jvm.MethodName) ({ cls := "java/lang/Object", name := "getClass", desc := "()Ljava/lang/Class;" } : Jvm.MethodName)) ∈ lw_all := lw_g (lw_at lw_m3 64 rfl) rfl
theorem q808 : (Jvm.Cond.selects "Rulehearth$World" ({ cls := "java/lang/Object", name := "equals", desc := "(Ljava/lang/Object;)Z" } : Jvm.MethodName) ({ cls := "java/lang/Object", name := "equals", desc := "(Ljava/lang/Object;)Z" } : Jvm.MethodName)) ∈ lw_all := lw_g (lw_at lw_m3 205 rfl) rfl
theorem q951 : (Jvm.Cond.instanceMethod ({ cls := "Rulehearth$World", name := "hasFired", desc := "(I[II)Z" } : Jvm.MethodName)) ∈ lw_all := lw_g (lw_at lw_m4 108 rfl) rfl
theorem q952 : (Jvm.Cond.selects "Rulehearth$World" ({ cls := "Rulehearth$World", name := "hasFired", desc := "(I[II)Z" } : Jvm.MethodName) ({ cls := "Rulehearth$World", name := "hasFired", desc := "(I[II)Z" } : Jvm.MethodName)) ∈ lw_all := lw_g (lw_at lw_m4 109 rfl) rfl
theorem q953 : (Jvm.Cond.code ({ cls := "Rulehearth$World", name := "hasFired", desc := "(I[II)Z" } : Jvm.MethodName) prog_17_method_14_code (9 : Nat) (Option.some Jvm.ClassFile.FieldType.boolean)) ∈ lw_all := lw_g (lw_at lw_m4 110 rfl) rfl
theorem q954 : (Jvm.Cond.methodLink "Rulehearth$World" (65 : Nat) ({ cls := "java/util/ArrayList", name := "size", desc := "()I" } : Jvm.MethodName)) ∈ lw_all := lw_g (lw_at lw_m4 111 rfl) rfl
theorem q955 : (Jvm.Cond.methodLink "Rulehearth$World" (69 : Nat) ({ cls := "java/util/ArrayList", name := "get", desc := "(I)Ljava/lang/Object;" } : Jvm.MethodName)) ∈ lw_all := lw_g (lw_at lw_m4 112 rfl) rfl
theorem q956 : (Jvm.Cond.classLink "Rulehearth$World" (73 : Nat) "[I") ∈ lw_all := lw_g (lw_at lw_m4 113 rfl) rfl
theorem q957 : (Jvm.Cond.methodLink "Rulehearth$World" (169 : Nat) ({ cls := "Rulehearth$World", name := "tagOf", desc := "(I)I" } : Jvm.MethodName)) ∈ lw_all := lw_g (lw_at lw_m4 114 rfl) rfl
theorem q958 : (Jvm.Cond.instanceMethod ({ cls := "Rulehearth$World", name := "tagOf", desc := "(I)I" } : Jvm.MethodName)) ∈ lw_all := lw_g (lw_at lw_m4 115 rfl) rfl
theorem q959 : (Jvm.Cond.selects "Rulehearth$World" ({ cls := "Rulehearth$World", name := "tagOf", desc := "(I)I" } : Jvm.MethodName) ({ cls := "Rulehearth$World", name := "tagOf", desc := "(I)I" } : Jvm.MethodName)) ∈ lw_all := lw_g (lw_at lw_m4 116 rfl) rfl
theorem q960 : (Jvm.Cond.code ({ cls := "Rulehearth$World", name := "tagOf", desc := "(I)I" } : Jvm.MethodName) prog_17_method_13_code (3 : Nat) (Option.some Jvm.ClassFile.FieldType.int)) ∈ lw_all := lw_g (lw_at lw_m4 117 rfl) rfl
theorem q961 : (Jvm.Cond.methodLink "Rulehearth$World" (159 : Nat) ({ cls := "Rulehearth$Facts", name := "indexOf", desc := "(I)I" } : Jvm.MethodName)) ∈ lw_all := lw_g (lw_at lw_m4 118 rfl) rfl
theorem q1132 : (Jvm.Cond.instanceMethod ({ cls := "Rulehearth$World", name := "copy", desc := "()LRulehearth$World;" } : Jvm.MethodName)) ∈ lw_all := lw_g (lw_at lw_m5 49 rfl) rfl
theorem q1133 : (Jvm.Cond.selects "Rulehearth$World" ({ cls := "Rulehearth$World", name := "copy", desc := "()LRulehearth$World;" } : Jvm.MethodName) ({ cls := "Rulehearth$World", name := "copy", desc := "()LRulehearth$World;" } : Jvm.MethodName)) ∈ lw_all := lw_g (lw_at lw_m5 50 rfl) rfl
theorem q1134 : (Jvm.Cond.code ({ cls := "Rulehearth$World", name := "copy", desc := "()LRulehearth$World;" } : Jvm.MethodName) prog_17_method_2_code (2 : Nat) (Option.some (Jvm.ClassFile.FieldType.object "Rulehearth$World"))) ∈ lw_all := lw_g (lw_at lw_m5 51 rfl) rfl
theorem q1135 : (Jvm.Cond.classLink "Rulehearth$World" (15 : Nat) "Rulehearth$World") ∈ lw_all := lw_g (lw_at lw_m5 52 rfl) rfl
theorem q1136 : (Jvm.Cond.methodLink "Rulehearth$World" (47 : Nat) ({ cls := "Rulehearth$World", name := "<init>", desc := "()V" } : Jvm.MethodName)) ∈ lw_all := lw_g (lw_at lw_m5 53 rfl) rfl
theorem q1137 : (Jvm.Cond.methodLink "Rulehearth$World" (48 : Nat) ({ cls := "java/util/ArrayList", name := "addAll", desc := "(Ljava/util/Collection;)Z" } : Jvm.MethodName)) ∈ lw_all := lw_g (lw_at lw_m5 54 rfl) rfl
theorem q1210 : (Jvm.Cond.instanceMethod ({ cls := "Rulehearth$World", name := "tell", desc := "(II)V" } : Jvm.MethodName)) ∈ lw_all := lw_g (lw_at lw_m5 127 rfl) rfl
theorem q1211 : (Jvm.Cond.selects "Rulehearth$World" ({ cls := "Rulehearth$World", name := "tell", desc := "(II)V" } : Jvm.MethodName) ({ cls := "Rulehearth$World", name := "tell", desc := "(II)V" } : Jvm.MethodName)) ∈ lw_all := lw_g (lw_at lw_m5 128 rfl) rfl
theorem q1212 : (Jvm.Cond.code ({ cls := "Rulehearth$World", name := "tell", desc := "(II)V" } : Jvm.MethodName) prog_17_method_4_code (5 : Nat) (Option.none : Option Jvm.ClassFile.FieldType)) ∈ lw_all := lw_g (lw_at lw_m5 129 rfl) rfl
theorem q1213 : (Jvm.Cond.methodLink "Rulehearth$World" (74 : Nat) ({ cls := "Rulehearth$World", name := "toldAt", desc := "(I)I" } : Jvm.MethodName)) ∈ lw_all := lw_g (lw_at lw_m5 130 rfl) rfl
theorem q1214 : (Jvm.Cond.instanceMethod ({ cls := "Rulehearth$World", name := "toldAt", desc := "(I)I" } : Jvm.MethodName)) ∈ lw_all := lw_g (lw_at lw_m5 131 rfl) rfl
theorem q1215 : (Jvm.Cond.selects "Rulehearth$World" ({ cls := "Rulehearth$World", name := "toldAt", desc := "(I)I" } : Jvm.MethodName) ({ cls := "Rulehearth$World", name := "toldAt", desc := "(I)I" } : Jvm.MethodName)) ∈ lw_all := lw_g (lw_at lw_m5 132 rfl) rfl
theorem q1216 : (Jvm.Cond.code ({ cls := "Rulehearth$World", name := "toldAt", desc := "(I)I" } : Jvm.MethodName) prog_17_method_3_code (3 : Nat) (Option.some Jvm.ClassFile.FieldType.int)) ∈ lw_all := lw_g (lw_at lw_m5 133 rfl) rfl
theorem q1217 : (Jvm.Cond.methodLink "Rulehearth$World" (78 : Nat) ({ cls := "java/util/ArrayList", name := "add", desc := "(Ljava/lang/Object;)Z" } : Jvm.MethodName)) ∈ lw_all := lw_g (lw_at lw_m5 134 rfl) rfl
theorem q1218 : (Jvm.Cond.methodLink "Rulehearth$World" (82 : Nat) ({ cls := "java/lang/Math", name := "max", desc := "(II)I" } : Jvm.MethodName)) ∈ lw_all := lw_g (lw_at lw_m5 135 rfl) rfl
theorem q1219 : (Jvm.Cond.methodLink "Rulehearth$World" (88 : Nat) ({ cls := "java/util/ArrayList", name := "set", desc := "(ILjava/lang/Object;)Ljava/lang/Object;" } : Jvm.MethodName)) ∈ lw_all := lw_g (lw_at lw_m5 136 rfl) rfl
theorem q1229 : (Jvm.Cond.instanceMethod ({ cls := "Rulehearth$World", name := "settle", desc := "()V" } : Jvm.MethodName)) ∈ lw_all := lw_g (lw_at lw_m5 146 rfl) rfl
theorem q1230 : (Jvm.Cond.selects "Rulehearth$World" ({ cls := "Rulehearth$World", name := "settle", desc := "()V" } : Jvm.MethodName) ({ cls := "Rulehearth$World", name := "settle", desc := "()V" } : Jvm.MethodName)) ∈ lw_all := lw_g (lw_at lw_m5 147 rfl) rfl
theorem q1231 : (Jvm.Cond.code ({ cls := "Rulehearth$World", name := "settle", desc := "()V" } : Jvm.MethodName) prog_17_method_11_code (5 : Nat) (Option.none : Option Jvm.ClassFile.FieldType)) ∈ lw_all := lw_g (lw_at lw_m5 148 rfl) rfl
theorem q1232 : (Jvm.Cond.methodLink "Rulehearth$World" (151 : Nat) ({ cls := "Rulehearth$World", name := "strata", desc := "()[I" } : Jvm.MethodName)) ∈ lw_all := lw_g (lw_at lw_m5 149 rfl) rfl
theorem q1233 : (Jvm.Cond.instanceMethod ({ cls := "Rulehearth$World", name := "strata", desc := "()[I" } : Jvm.MethodName)) ∈ lw_all := lw_g (lw_at lw_m5 150 rfl) rfl
theorem q1234 : (Jvm.Cond.selects "Rulehearth$World" ({ cls := "Rulehearth$World", name := "strata", desc := "()[I" } : Jvm.MethodName) ({ cls := "Rulehearth$World", name := "strata", desc := "()[I" } : Jvm.MethodName)) ∈ lw_all := lw_g (lw_at lw_m5 151 rfl) rfl
theorem q1235 : (Jvm.Cond.code ({ cls := "Rulehearth$World", name := "strata", desc := "()[I" } : Jvm.MethodName) prog_17_method_5_code (9 : Nat) (Option.some (Jvm.ClassFile.FieldType.array Jvm.ClassFile.FieldType.int))) ∈ lw_all := lw_g (lw_at lw_m5 152 rfl) rfl
theorem q1236 : (Jvm.Cond.classLink "Rulehearth$World" (92 : Nat) "Rulehearth$Clause") ∈ lw_all := lw_g (lw_at lw_m5 153 rfl) rfl
theorem q1237 : (Jvm.Cond.classLink "Rulehearth$World" (97 : Nat) "Rulehearth$Item") ∈ lw_all := lw_g (lw_at lw_m5 154 rfl) rfl
theorem q1238 : (Jvm.Cond.classLink "Rulehearth$World" (112 : Nat) "Rulehearth$DraftException") ∈ lw_all := lw_g (lw_at lw_m5 155 rfl) rfl
theorem q1247 : (Jvm.Cond.stringRef "Rulehearth$World" (114 : Nat) "no strata") ∈ lw_tbl := lw_at lw_m5 164 rfl
theorem q1248 : (Jvm.Cond.methodLink "Rulehearth$World" (116 : Nat) ({ cls := "Rulehearth$DraftException", name := "<init>", desc := "(Ljava/lang/String;)V" } : Jvm.MethodName)) ∈ lw_all := lw_g (lw_at lw_m5 165 rfl) rfl
theorem q1254 : (Jvm.Cond.methodLink "Rulehearth$World" (155 : Nat) ({ cls := "Rulehearth$World", name := "found", desc := "([I)LRulehearth$Facts;" } : Jvm.MethodName)) ∈ lw_all := lw_g (lw_at lw_m5 171 rfl) rfl
theorem q1255 : (Jvm.Cond.privateMethod ({ cls := "Rulehearth$World", name := "found", desc := "([I)LRulehearth$Facts;" } : Jvm.MethodName)) ∈ lw_tbl := lw_at lw_m5 172 rfl
theorem q1256 : (Jvm.Cond.instanceMethod ({ cls := "Rulehearth$World", name := "found", desc := "([I)LRulehearth$Facts;" } : Jvm.MethodName)) ∈ lw_all := lw_g (lw_at lw_m5 173 rfl) rfl
theorem q1257 : (Jvm.Cond.code ({ cls := "Rulehearth$World", name := "found", desc := "([I)LRulehearth$Facts;" } : Jvm.MethodName) prog_17_method_8_code (10 : Nat) (Option.some (Jvm.ClassFile.FieldType.object "Rulehearth$Facts"))) ∈ lw_all := lw_g (lw_at lw_m5 174 rfl) rfl
theorem q1258 : (Jvm.Cond.methodLink "Rulehearth$World" (127 : Nat) ({ cls := "Rulehearth$World", name := "toldFacts", desc := "()LRulehearth$Facts;" } : Jvm.MethodName)) ∈ lw_all := lw_g (lw_at lw_m5 175 rfl) rfl
theorem q1259 : (Jvm.Cond.privateMethod ({ cls := "Rulehearth$World", name := "toldFacts", desc := "()LRulehearth$Facts;" } : Jvm.MethodName)) ∈ lw_tbl := lw_at lw_m5 176 rfl
theorem q1260 : (Jvm.Cond.instanceMethod ({ cls := "Rulehearth$World", name := "toldFacts", desc := "()LRulehearth$Facts;" } : Jvm.MethodName)) ∈ lw_all := lw_g (lw_at lw_m5 177 rfl) rfl
theorem q1261 : (Jvm.Cond.code ({ cls := "Rulehearth$World", name := "toldFacts", desc := "()LRulehearth$Facts;" } : Jvm.MethodName) prog_17_method_6_code (3 : Nat) (Option.some (Jvm.ClassFile.FieldType.object "Rulehearth$Facts"))) ∈ lw_all := lw_g (lw_at lw_m5 178 rfl) rfl
theorem q1262 : (Jvm.Cond.methodLink "Rulehearth$World" (119 : Nat) ({ cls := "Rulehearth$Facts", name := "add", desc := "(II)V" } : Jvm.MethodName)) ∈ lw_all := lw_g (lw_at lw_m5 179 rfl) rfl
theorem q1281 : (Jvm.Cond.methodLink "Rulehearth$World" (131 : Nat) ({ cls := "Rulehearth$World", name := "derivers", desc := "(LRulehearth$Facts;LRulehearth$Facts;)Ljava/util/ArrayList;" } : Jvm.MethodName)) ∈ lw_all := lw_g (lw_at lw_m5 198 rfl) rfl
theorem q1282 : (Jvm.Cond.privateMethod ({ cls := "Rulehearth$World", name := "derivers", desc := "(LRulehearth$Facts;LRulehearth$Facts;)Ljava/util/ArrayList;" } : Jvm.MethodName)) ∈ lw_tbl := lw_at lw_m5 199 rfl
theorem q1283 : (Jvm.Cond.instanceMethod ({ cls := "Rulehearth$World", name := "derivers", desc := "(LRulehearth$Facts;LRulehearth$Facts;)Ljava/util/ArrayList;" } : Jvm.MethodName)) ∈ lw_all := lw_g (lw_at lw_m5 200 rfl) rfl
theorem q1284 : (Jvm.Cond.code ({ cls := "Rulehearth$World", name := "derivers", desc := "(LRulehearth$Facts;LRulehearth$Facts;)Ljava/util/ArrayList;" } : Jvm.MethodName) prog_17_method_7_code (5 : Nat) (Option.some (Jvm.ClassFile.FieldType.object "java/util/ArrayList"))) ∈ lw_all := lw_g (lw_at lw_m5 201 rfl) rfl
theorem q1285 : (Jvm.Cond.classLink "Rulehearth$World" (122 : Nat) "Rulehearth$Deriver") ∈ lw_all := lw_g (lw_at lw_m5 202 rfl) rfl
theorem q1287 : (Jvm.Cond.methodLink "Rulehearth$World" (124 : Nat) ({ cls := "Rulehearth$Deriver", name := "<init>", desc := "(LRulehearth$Clause;LRulehearth$Facts;LRulehearth$Facts;)V" } : Jvm.MethodName)) ∈ lw_all := lw_g (lw_at lw_m5 204 rfl) rfl
theorem q1341 : (Jvm.Cond.methodLink "Rulehearth$World" (138 : Nat) ({ cls := "Rulehearth$Deriver", name := "deriveAll", desc := "()V" } : Jvm.MethodName)) ∈ lw_all := lw_g (lw_at lw_m6 18 rfl) rfl
theorem q1379 : (Jvm.Cond.methodLink "Rulehearth$World" (141 : Nat) ({ cls := "Rulehearth$Deriver", name := "deriveNew", desc := "(I)V" } : Jvm.MethodName)) ∈ lw_all := lw_g (lw_at lw_m6 56 rfl) rfl
theorem q1384 : (Jvm.Cond.methodLink "Rulehearth$World" (144 : Nat) ({ cls := "Rulehearth$World", name := "merge", desc := "(LRulehearth$Facts;LRulehearth$Facts;I)Z" } : Jvm.MethodName)) ∈ lw_all := lw_g (lw_at lw_m6 61 rfl) rfl
theorem q1385 : (Jvm.Cond.static ({ cls := "Rulehearth$World", name := "merge", desc := "(LRulehearth$Facts;LRulehearth$Facts;I)Z" } : Jvm.MethodName)) ∈ lw_all := lw_g (lw_at lw_m6 62 rfl) rfl
theorem q1386 : (Jvm.Cond.code ({ cls := "Rulehearth$World", name := "merge", desc := "(LRulehearth$Facts;LRulehearth$Facts;I)Z" } : Jvm.MethodName) prog_17_method_10_code (5 : Nat) (Option.some Jvm.ClassFile.FieldType.boolean)) ∈ lw_all := lw_g (lw_at lw_m6 63 rfl) rfl
theorem q1387 : (Jvm.Cond.methodLink "Rulehearth$World" (162 : Nat) ({ cls := "Rulehearth$World", name := "areTags", desc := "([I)Z" } : Jvm.MethodName)) ∈ lw_all := lw_g (lw_at lw_m6 64 rfl) rfl
theorem q1388 : (Jvm.Cond.privateMethod ({ cls := "Rulehearth$World", name := "areTags", desc := "([I)Z" } : Jvm.MethodName)) ∈ lw_tbl := lw_at lw_m6 65 rfl
theorem q1389 : (Jvm.Cond.instanceMethod ({ cls := "Rulehearth$World", name := "areTags", desc := "([I)Z" } : Jvm.MethodName)) ∈ lw_all := lw_g (lw_at lw_m6 66 rfl) rfl
theorem q1390 : (Jvm.Cond.code ({ cls := "Rulehearth$World", name := "areTags", desc := "([I)Z" } : Jvm.MethodName) prog_17_method_12_code (6 : Nat) (Option.some Jvm.ClassFile.FieldType.boolean)) ∈ lw_all := lw_g (lw_at lw_m6 67 rfl) rfl
theorem q1391 : (Jvm.Cond.methodLink "Rulehearth$World" (166 : Nat) ({ cls := "java/util/ArrayList", name := "remove", desc := "(I)Ljava/lang/Object;" } : Jvm.MethodName)) ∈ lw_all := lw_g (lw_at lw_m6 68 rfl) rfl
theorem q1425 : (Jvm.Cond.instanceMethod ({ cls := "Rulehearth$World", name := "foundByRounds", desc := "([I)LRulehearth$Facts;" } : Jvm.MethodName)) ∈ lw_all := lw_g (lw_at lw_m6 102 rfl) rfl
theorem q1426 : (Jvm.Cond.selects "Rulehearth$World" ({ cls := "Rulehearth$World", name := "foundByRounds", desc := "([I)LRulehearth$Facts;" } : Jvm.MethodName) ({ cls := "Rulehearth$World", name := "foundByRounds", desc := "([I)LRulehearth$Facts;" } : Jvm.MethodName)) ∈ lw_all := lw_g (lw_at lw_m6 103 rfl) rfl
theorem q1427 : (Jvm.Cond.code ({ cls := "Rulehearth$World", name := "foundByRounds", desc := "([I)LRulehearth$Facts;" } : Jvm.MethodName) prog_17_method_9_code (8 : Nat) (Option.some (Jvm.ClassFile.FieldType.object "Rulehearth$Facts"))) ∈ lw_all := lw_g (lw_at lw_m6 104 rfl) rfl
theorem q1476 : (Jvm.Cond.fieldLink "Rulehearth$World" (99 : Nat) "Rulehearth$Item" "kind" "I") ∈ lw_all := lw_g (lw_at lw_m6 153 rfl) rfl
theorem q1482 : (Jvm.Cond.fieldLink "Rulehearth$World" (105 : Nat) "Rulehearth$Item" "what" "I") ∈ lw_all := lw_g (lw_at lw_m6 159 rfl) rfl
theorem q1512 : (Jvm.Cond.fieldLink "Rulehearth$World" (108 : Nat) "Rulehearth$Clause" "head" "LRulehearth$Item;") ∈ lw_all := lw_g (lw_at lw_m6 189 rfl) rfl
theorem q1519 : (Jvm.Cond.fieldLink "Rulehearth$World" (102 : Nat) "Rulehearth$Clause" "gathered" "I") ∈ lw_all := lw_g (lw_at lw_m6 196 rfl) rfl
theorem q1527 : (Jvm.Cond.fieldLink "Rulehearth$World" (94 : Nat) "Rulehearth$Clause" "body" "Ljava/util/ArrayList;") ∈ lw_all := lw_g (lw_at lw_m6 204 rfl) rfl
theorem q2796 : (Jvm.Cond.castable "Rulehearth$World" "java/lang/Object") ∈ lw_tbl := lw_at lw_m12 33 rfl
theorem in_X2 : ∀ w ∈ wsX20, w ∈ lw_all := lw_in wsX20 [582, 584, 586, 588, 590, 592, 594, 596, 598, 600, 602, 604] (by decide +kernel) (by decide +kernel)
def RJ0 : String := "java/util/AbstractCollection"
theorem q126 : (Jvm.Cond.initialized "java/util/AbstractCollection") ∈ lw_all := lw_g (lw_at lw_m1 3 rfl) rfl
theorem q188 : (Jvm.Cond.instanceMethod ({ cls := "java/util/AbstractCollection", name := "<init>", desc := "()V" } : Jvm.MethodName)) ∈ lw_all := lw_g (lw_at lw_m1 65 rfl) rfl
theorem q189 : (Jvm.Cond.code ({ cls := "java/util/AbstractCollection", name := "<init>", desc := "()V" } : Jvm.MethodName) prog_45_method_1_code (1 : Nat) (Option.none : Option Jvm.ClassFile.FieldType)) ∈ lw_all := lw_g (lw_at lw_m1 66 rfl) rfl
theorem q190 : (Jvm.Cond.methodLink "java/util/AbstractCollection" (1 : Nat) ({ cls := "java/lang/Object", name := "<init>", desc := "()V" } : Jvm.MethodName)) ∈ lw_all := lw_g (lw_at lw_m1 67 rfl) rfl
def RJ1 : String := "java/util/AbstractList"
theorem q127 : (Jvm.Cond.initialized "java/util/AbstractList") ∈ lw_all := lw_g (lw_at lw_m1 4 rfl) rfl
theorem q185 : (Jvm.Cond.instanceMethod ({ cls := "java/util/AbstractList", name := "<init>", desc := "()V" } : Jvm.MethodName)) ∈ lw_all := lw_g (lw_at lw_m1 62 rfl) rfl
theorem q186 : (Jvm.Cond.code ({ cls := "java/util/AbstractList", name := "<init>", desc := "()V" } : Jvm.MethodName) prog_46_method_1_code (1 : Nat) (Option.none : Option Jvm.ClassFile.FieldType)) ∈ lw_all := lw_g (lw_at lw_m1 63 rfl) rfl
theorem q187 : (Jvm.Cond.methodLink "java/util/AbstractList" (1 : Nat) ({ cls := "java/util/AbstractCollection", name := "<init>", desc := "()V" } : Jvm.MethodName)) ∈ lw_all := lw_g (lw_at lw_m1 64 rfl) rfl
theorem q512 : (Jvm.Cond.fieldLink "java/util/AbstractList" (7 : Nat) "java/util/AbstractList" "modCount" "I") ∈ lw_all := lw_g (lw_at lw_m2 149 rfl) rfl
theorem q520 : (Jvm.Cond.soleField "java/util/AbstractList" "modCount") ∈ lw_all := lw_g (lw_at lw_m2 157 rfl) rfl
def RJ2 : String := "java/util/ArrayList"
def TJ2 : u_T := fun k => match k with
  | 0 => ("java/util/AbstractList", "modCount", "I", false)
  | 1 => ("java/util/ArrayList", "elementData", "[Ljava/lang/Object;", false)
  | _ => ("java/util/ArrayList", "size", "I", false)
def tyJ2 : Nat → FieldType := fun k => match k with
  | 0 => .int
  | 1 => .array (.object "java/lang/Object")
  | _ => .int
abbrev wsJ20 : List Cond := u_ws RJ2 TJ2 3
theorem nmJ2 : ∀ a, a < 3 → ∀ b, b < 3 → a ≠ b → (TJ2 a).2.1 ≠ (TJ2 b).2.1 := by decide +kernel
theorem tyJ2_ok : ∀ k, k < 3 → parseFieldDescriptor (TJ2 k).2.2.1 = some (tyJ2 k) := by decide +kernel
theorem q128 : (Jvm.Cond.initialized "java/util/ArrayList") ∈ lw_all := lw_g (lw_at lw_m1 5 rfl) rfl
theorem q180 : (Jvm.Cond.instantiable "java/util/ArrayList" (3 : Nat)) ∈ lw_all := lw_g (lw_at lw_m1 57 rfl) rfl
theorem q182 : (Jvm.Cond.instanceMethod ({ cls := "java/util/ArrayList", name := "<init>", desc := "(I)V" } : Jvm.MethodName)) ∈ lw_all := lw_g (lw_at lw_m1 59 rfl) rfl
theorem q183 : (Jvm.Cond.code ({ cls := "java/util/ArrayList", name := "<init>", desc := "(I)V" } : Jvm.MethodName) prog_47_method_1_code (2 : Nat) (Option.none : Option Jvm.ClassFile.FieldType)) ∈ lw_all := lw_g (lw_at lw_m1 60 rfl) rfl
theorem q184 : (Jvm.Cond.methodLink "java/util/ArrayList" (1 : Nat) ({ cls := "java/util/AbstractList", name := "<init>", desc := "()V" } : Jvm.MethodName)) ∈ lw_all := lw_g (lw_at lw_m1 61 rfl) rfl
theorem q191 : (Jvm.Cond.classLink "java/util/ArrayList" (7 : Nat) "java/lang/Object") ∈ lw_all := lw_g (lw_at lw_m1 68 rfl) rfl
theorem q193 : (Jvm.Cond.fieldLink "java/util/ArrayList" (15 : Nat) "java/util/ArrayList" "EMPTY_ELEMENTDATA" "[Ljava/lang/Object;") ∈ lw_all := lw_g (lw_at lw_m1 70 rfl) rfl
theorem q194 : (Jvm.Cond.laysStatic "java/util/ArrayList" "EMPTY_ELEMENTDATA" "[Ljava/lang/Object;") ∈ lw_tbl := lw_at lw_m1 71 rfl
theorem q195 : (Jvm.Cond.classLink "java/util/ArrayList" (18 : Nat) "java/lang/IllegalArgumentException") ∈ lw_all := lw_g (lw_at lw_m1 72 rfl) rfl
theorem q239 : (Jvm.Cond.classLink "java/util/ArrayList" (20 : Nat) "java/lang/StringBuilder") ∈ lw_all := lw_g (lw_at lw_m1 116 rfl) rfl
theorem q241 : (Jvm.Cond.methodLink "java/util/ArrayList" (22 : Nat) ({ cls := "java/lang/StringBuilder", name := "<init>", desc := "()V" } : Jvm.MethodName)) ∈ lw_all := lw_g (lw_at lw_m1 118 rfl) rfl
theorem q271 : (Jvm.Cond.stringRef "java/util/ArrayList" (23 : Nat) "Illegal Capacity: ") ∈ lw_tbl := lw_at lw_m1 148 rfl
theorem q272 : (Jvm.Cond.methodLink "java/util/ArrayList" (25 : Nat) ({ cls := "java/lang/StringBuilder", name := "append", desc := "(Ljava/lang/String;)Ljava/lang/StringBuilder;" } : Jvm.MethodName)) ∈ lw_all := lw_g (lw_at lw_m1 149 rfl) rfl
theorem q392 : (Jvm.Cond.methodLink "java/util/ArrayList" (29 : Nat) ({ cls := "java/lang/StringBuilder", name := "append", desc := "(I)Ljava/lang/StringBuilder;" } : Jvm.MethodName)) ∈ lw_all := lw_g (lw_at lw_m2 29 rfl) rfl
theorem q417 : (Jvm.Cond.methodLink "java/util/ArrayList" (32 : Nat) ({ cls := "java/lang/StringBuilder", name := "toString", desc := "()Ljava/lang/String;" } : Jvm.MethodName)) ∈ lw_all := lw_g (lw_at lw_m2 54 rfl) rfl
theorem q509 : (Jvm.Cond.methodLink "java/util/ArrayList" (36 : Nat) ({ cls := "java/lang/IllegalArgumentException", name := "<init>", desc := "(Ljava/lang/String;)V" } : Jvm.MethodName)) ∈ lw_all := lw_g (lw_at lw_m2 146 rfl) rfl
theorem q510 : (Jvm.Cond.fieldLink "java/util/ArrayList" (9 : Nat) "java/util/ArrayList" "elementData" "[Ljava/lang/Object;") ∈ lw_all := lw_g (lw_at lw_m2 147 rfl) rfl
theorem q511 : (Jvm.Cond.fieldLink "java/util/ArrayList" (48 : Nat) "java/util/ArrayList" "size" "I") ∈ lw_all := lw_g (lw_at lw_m2 148 rfl) rfl
theorem q513 : (Jvm.Cond.fieldLink "java/util/ArrayList" (63 : Nat) "java/util/ArrayList" "modCount" "I") ∈ lw_all := lw_g (lw_at lw_m2 150 rfl) rfl
theorem q514 : (Jvm.Cond.sameField "java/util/ArrayList" "java/util/AbstractList" "modCount" "I") ∈ lw_all := lw_g (lw_at lw_m2 151 rfl) rfl
theorem q515 : (Jvm.Cond.lays "java/util/ArrayList" "java/util/ArrayList" "elementData" "[Ljava/lang/Object;") ∈ lw_all := lw_g (lw_at lw_m2 152 rfl) rfl
theorem q516 : (Jvm.Cond.soleField "java/util/ArrayList" "elementData") ∈ lw_all := lw_g (lw_at lw_m2 153 rfl) rfl
theorem q517 : (Jvm.Cond.lays "java/util/ArrayList" "java/util/ArrayList" "size" "I") ∈ lw_all := lw_g (lw_at lw_m2 154 rfl) rfl
theorem q518 : (Jvm.Cond.soleField "java/util/ArrayList" "size") ∈ lw_all := lw_g (lw_at lw_m2 155 rfl) rfl
theorem q519 : (Jvm.Cond.lays "java/util/ArrayList" "java/util/AbstractList" "modCount" "I") ∈ lw_all := lw_g (lw_at lw_m2 156 rfl) rfl
theorem q521 : (Jvm.Cond.superclass "java/util/ArrayList" "java/util/AbstractList") ∈ lw_all := lw_g (lw_at lw_m2 158 rfl) rfl
theorem q550 : (Jvm.Cond.instanceMethod ({ cls := "java/util/ArrayList", name := "<init>", desc := "()V" } : Jvm.MethodName)) ∈ lw_all := lw_g (lw_at lw_m2 187 rfl) rfl
theorem q551 : (Jvm.Cond.code ({ cls := "java/util/ArrayList", name := "<init>", desc := "()V" } : Jvm.MethodName) prog_47_method_2_code (1 : Nat) (Option.none : Option Jvm.ClassFile.FieldType)) ∈ lw_all := lw_g (lw_at lw_m2 188 rfl) rfl
theorem q552 : (Jvm.Cond.fieldLink "java/util/ArrayList" (39 : Nat) "java/util/ArrayList" "DEFAULTCAPACITY_EMPTY_ELEMENTDATA" "[Ljava/lang/Object;") ∈ lw_all := lw_g (lw_at lw_m2 189 rfl) rfl
theorem q553 : (Jvm.Cond.laysStatic "java/util/ArrayList" "DEFAULTCAPACITY_EMPTY_ELEMENTDATA" "[Ljava/lang/Object;") ∈ lw_tbl := lw_at lw_m2 190 rfl
theorem q630 : (Jvm.Cond.instanceMethod ({ cls := "java/util/ArrayList", name := "add", desc := "(Ljava/lang/Object;)Z" } : Jvm.MethodName)) ∈ lw_all := lw_g (lw_at lw_m3 27 rfl) rfl
theorem q631 : (Jvm.Cond.selects "java/util/ArrayList" ({ cls := "java/util/ArrayList", name := "add", desc := "(Ljava/lang/Object;)Z" } : Jvm.MethodName) ({ cls := "java/util/ArrayList", name := "add", desc := "(Ljava/lang/Object;)Z" } : Jvm.MethodName)) ∈ lw_all := lw_g (lw_at lw_m3 28 rfl) rfl
theorem q632 : (Jvm.Cond.code ({ cls := "java/util/ArrayList", name := "add", desc := "(Ljava/lang/Object;)Z" } : Jvm.MethodName) prog_47_method_25_code (2 : Nat) (Option.some Jvm.ClassFile.FieldType.boolean)) ∈ lw_all := lw_g (lw_at lw_m3 29 rfl) rfl
theorem q633 : (Jvm.Cond.methodLink "java/util/ArrayList" (131 : Nat) ({ cls := "java/util/ArrayList", name := "add", desc := "(Ljava/lang/Object;[Ljava/lang/Object;I)V" } : Jvm.MethodName)) ∈ lw_all := lw_g (lw_at lw_m3 30 rfl) rfl
theorem q634 : (Jvm.Cond.privateMethod ({ cls := "java/util/ArrayList", name := "add", desc := "(Ljava/lang/Object;[Ljava/lang/Object;I)V" } : Jvm.MethodName)) ∈ lw_tbl := lw_at lw_m3 31 rfl
theorem q635 : (Jvm.Cond.instanceMethod ({ cls := "java/util/ArrayList", name := "add", desc := "(Ljava/lang/Object;[Ljava/lang/Object;I)V" } : Jvm.MethodName)) ∈ lw_all := lw_g (lw_at lw_m3 32 rfl) rfl
theorem q636 : (Jvm.Cond.code ({ cls := "java/util/ArrayList", name := "add", desc := "(Ljava/lang/Object;[Ljava/lang/Object;I)V" } : Jvm.MethodName) prog_47_method_24_code (4 : Nat) (Option.none : Option Jvm.ClassFile.FieldType)) ∈ lw_all := lw_g (lw_at lw_m3 33 rfl) rfl
theorem q637 : (Jvm.Cond.methodLink "java/util/ArrayList" (129 : Nat) ({ cls := "java/util/ArrayList", name := "grow", desc := "()[Ljava/lang/Object;" } : Jvm.MethodName)) ∈ lw_all := lw_g (lw_at lw_m3 34 rfl) rfl
theorem q638 : (Jvm.Cond.privateMethod ({ cls := "java/util/ArrayList", name := "grow", desc := "()[Ljava/lang/Object;" } : Jvm.MethodName)) ∈ lw_tbl := lw_at lw_m3 35 rfl
theorem q639 : (Jvm.Cond.instanceMethod ({ cls := "java/util/ArrayList", name := "grow", desc := "()[Ljava/lang/Object;" } : Jvm.MethodName)) ∈ lw_all := lw_g (lw_at lw_m3 36 rfl) rfl
theorem q640 : (Jvm.Cond.code ({ cls := "java/util/ArrayList", name := "grow", desc := "()[Ljava/lang/Object;" } : Jvm.MethodName) prog_47_method_7_code (1 : Nat) (Option.some (Jvm.ClassFile.FieldType.array (Jvm.ClassFile.FieldType.object "java/lang/Object")))) ∈ lw_all := lw_g (lw_at lw_m3 37 rfl) rfl
theorem q641 : (Jvm.Cond.methodLink "java/util/ArrayList" (69 : Nat) ({ cls := "java/util/ArrayList", name := "grow", desc := "(I)[Ljava/lang/Object;" } : Jvm.MethodName)) ∈ lw_all := lw_g (lw_at lw_m3 38 rfl) rfl
theorem q642 : (Jvm.Cond.privateMethod ({ cls := "java/util/ArrayList", name := "grow", desc := "(I)[Ljava/lang/Object;" } : Jvm.MethodName)) ∈ lw_tbl := lw_at lw_m3 39 rfl
theorem q643 : (Jvm.Cond.instanceMethod ({ cls := "java/util/ArrayList", name := "grow", desc := "(I)[Ljava/lang/Object;" } : Jvm.MethodName)) ∈ lw_all := lw_g (lw_at lw_m3 40 rfl) rfl
theorem q644 : (Jvm.Cond.code ({ cls := "java/util/ArrayList", name := "grow", desc := "(I)[Ljava/lang/Object;" } : Jvm.MethodName) prog_47_method_6_code (4 : Nat) (Option.some (Jvm.ClassFile.FieldType.array (Jvm.ClassFile.FieldType.object "java/lang/Object")))) ∈ lw_all := lw_g (lw_at lw_m3 41 rfl) rfl
theorem q645 : (Jvm.Cond.methodLink "java/util/ArrayList" (73 : Nat) ({ cls := "jdk/internal/util/ArraysSupport", name := "newLength", desc := "(III)I" } : Jvm.MethodName)) ∈ lw_all := lw_g (lw_at lw_m3 42 rfl) rfl
theorem q646 : (Jvm.Cond.methodLink "java/util/ArrayList" (66 : Nat) ({ cls := "java/util/Arrays", name := "copyOf", desc := "([Ljava/lang/Object;I)[Ljava/lang/Object;" } : Jvm.MethodName)) ∈ lw_all := lw_g (lw_at lw_m3 43 rfl) rfl
theorem q676 : (Jvm.Cond.selects "java/util/ArrayList" ({ cls := "java/lang/Object", name := "getClass", desc := "()Ljava/lang/Class;" } : Jvm.MethodName) ({ cls := "java/lang/Object", name := "getClass", desc := "()Ljava/lang/Class;" } : Jvm.MethodName)) ∈ lw_all := lw_g (lw_at lw_m3 73 rfl) rfl
theorem q683 : (Jvm.Cond.methodLink "java/util/ArrayList" (79 : Nat) ({ cls := "java/lang/Math", name := "max", desc := "(II)I" } : Jvm.MethodName)) ∈ lw_all := lw_g (lw_at lw_m3 80 rfl) rfl
theorem q725 : (Jvm.Cond.instanceMethod ({ cls := "java/util/ArrayList", name := "size", desc := "()I" } : Jvm.MethodName)) ∈ lw_all := lw_g (lw_at lw_m3 122 rfl) rfl
theorem q726 : (Jvm.Cond.selects "java/util/ArrayList" ({ cls := "java/util/ArrayList", name := "size", desc := "()I" } : Jvm.MethodName) ({ cls := "java/util/ArrayList", name := "size", desc := "()I" } : Jvm.MethodName)) ∈ lw_all := lw_g (lw_at lw_m3 123 rfl) rfl
theorem q727 : (Jvm.Cond.code ({ cls := "java/util/ArrayList", name := "size", desc := "()I" } : Jvm.MethodName) prog_47_method_8_code (1 : Nat) (Option.some Jvm.ClassFile.FieldType.int)) ∈ lw_all := lw_g (lw_at lw_m3 124 rfl) rfl
theorem q729 : (Jvm.Cond.instanceMethod ({ cls := "java/util/ArrayList", name := "get", desc := "(I)Ljava/lang/Object;" } : Jvm.MethodName)) ∈ lw_all := lw_g (lw_at lw_m3 126 rfl) rfl
theorem q730 : (Jvm.Cond.selects "java/util/ArrayList" ({ cls := "java/util/ArrayList", name := "get", desc := "(I)Ljava/lang/Object;" } : Jvm.MethodName) ({ cls := "java/util/ArrayList", name := "get", desc := "(I)Ljava/lang/Object;" } : Jvm.MethodName)) ∈ lw_all := lw_g (lw_at lw_m3 127 rfl) rfl
theorem q731 : (Jvm.Cond.code ({ cls := "java/util/ArrayList", name := "get", desc := "(I)Ljava/lang/Object;" } : Jvm.MethodName) prog_47_method_20_code (2 : Nat) (Option.some (Jvm.ClassFile.FieldType.object "java/lang/Object"))) ∈ lw_all := lw_g (lw_at lw_m3 128 rfl) rfl
theorem q732 : (Jvm.Cond.methodLink "java/util/ArrayList" (118 : Nat) ({ cls := "java/util/Objects", name := "checkIndex", desc := "(II)I" } : Jvm.MethodName)) ∈ lw_all := lw_g (lw_at lw_m3 129 rfl) rfl
theorem q738 : (Jvm.Cond.methodLink "java/util/ArrayList" (123 : Nat) ({ cls := "java/util/ArrayList", name := "elementData", desc := "(I)Ljava/lang/Object;" } : Jvm.MethodName)) ∈ lw_all := lw_g (lw_at lw_m3 135 rfl) rfl
theorem q739 : (Jvm.Cond.instanceMethod ({ cls := "java/util/ArrayList", name := "elementData", desc := "(I)Ljava/lang/Object;" } : Jvm.MethodName)) ∈ lw_all := lw_g (lw_at lw_m3 136 rfl) rfl
theorem q740 : (Jvm.Cond.selects "java/util/ArrayList" ({ cls := "java/util/ArrayList", name := "elementData", desc := "(I)Ljava/lang/Object;" } : Jvm.MethodName) ({ cls := "java/util/ArrayList", name := "elementData", desc := "(I)Ljava/lang/Object;" } : Jvm.MethodName)) ∈ lw_all := lw_g (lw_at lw_m3 137 rfl) rfl
theorem q741 : (Jvm.Cond.code ({ cls := "java/util/ArrayList", name := "elementData", desc := "(I)Ljava/lang/Object;" } : Jvm.MethodName) prog_47_method_18_code (2 : Nat) (Option.some (Jvm.ClassFile.FieldType.object "java/lang/Object"))) ∈ lw_all := lw_g (lw_at lw_m3 138 rfl) rfl
theorem q778 : (Jvm.Cond.instanceMethod ({ cls := "java/util/ArrayList", name := "contains", desc := "(Ljava/lang/Object;)Z" } : Jvm.MethodName)) ∈ lw_all := lw_g (lw_at lw_m3 175 rfl) rfl
theorem q779 : (Jvm.Cond.selects "java/util/ArrayList" ({ cls := "java/util/ArrayList", name := "contains", desc := "(Ljava/lang/Object;)Z" } : Jvm.MethodName) ({ cls := "java/util/ArrayList", name := "contains", desc := "(Ljava/lang/Object;)Z" } : Jvm.MethodName)) ∈ lw_all := lw_g (lw_at lw_m3 176 rfl) rfl
theorem q780 : (Jvm.Cond.code ({ cls := "java/util/ArrayList", name := "contains", desc := "(Ljava/lang/Object;)Z" } : Jvm.MethodName) prog_47_method_10_code (2 : Nat) (Option.some Jvm.ClassFile.FieldType.boolean)) ∈ lw_all := lw_g (lw_at lw_m3 177 rfl) rfl
theorem q781 : (Jvm.Cond.methodLink "java/util/ArrayList" (85 : Nat) ({ cls := "java/util/ArrayList", name := "indexOf", desc := "(Ljava/lang/Object;)I" } : Jvm.MethodName)) ∈ lw_all := lw_g (lw_at lw_m3 178 rfl) rfl
theorem q782 : (Jvm.Cond.instanceMethod ({ cls := "java/util/ArrayList", name := "indexOf", desc := "(Ljava/lang/Object;)I" } : Jvm.MethodName)) ∈ lw_all := lw_g (lw_at lw_m3 179 rfl) rfl
theorem q783 : (Jvm.Cond.selects "java/util/ArrayList" ({ cls := "java/util/ArrayList", name := "indexOf", desc := "(Ljava/lang/Object;)I" } : Jvm.MethodName) ({ cls := "java/util/ArrayList", name := "indexOf", desc := "(Ljava/lang/Object;)I" } : Jvm.MethodName)) ∈ lw_all := lw_g (lw_at lw_m3 180 rfl) rfl
theorem q784 : (Jvm.Cond.code ({ cls := "java/util/ArrayList", name := "indexOf", desc := "(Ljava/lang/Object;)I" } : Jvm.MethodName) prog_47_method_11_code (2 : Nat) (Option.some Jvm.ClassFile.FieldType.int)) ∈ lw_all := lw_g (lw_at lw_m3 181 rfl) rfl
theorem q785 : (Jvm.Cond.methodLink "java/util/ArrayList" (89 : Nat) ({ cls := "java/util/ArrayList", name := "indexOfRange", desc := "(Ljava/lang/Object;II)I" } : Jvm.MethodName)) ∈ lw_all := lw_g (lw_at lw_m3 182 rfl) rfl
theorem q786 : (Jvm.Cond.instanceMethod ({ cls := "java/util/ArrayList", name := "indexOfRange", desc := "(Ljava/lang/Object;II)I" } : Jvm.MethodName)) ∈ lw_all := lw_g (lw_at lw_m3 183 rfl) rfl
theorem q787 : (Jvm.Cond.selects "java/util/ArrayList" ({ cls := "java/util/ArrayList", name := "indexOfRange", desc := "(Ljava/lang/Object;II)I" } : Jvm.MethodName) ({ cls := "java/util/ArrayList", name := "indexOfRange", desc := "(Ljava/lang/Object;II)I" } : Jvm.MethodName)) ∈ lw_all := lw_g (lw_at lw_m3 184 rfl) rfl
theorem q788 : (Jvm.Cond.code ({ cls := "java/util/ArrayList", name := "indexOfRange", desc := "(Ljava/lang/Object;II)I" } : Jvm.MethodName) prog_47_method_12_code (6 : Nat) (Option.some Jvm.ClassFile.FieldType.int)) ∈ lw_all := lw_g (lw_at lw_m3 185 rfl) rfl
theorem q790 : (Jvm.Cond.methodLink "java/util/ArrayList" (93 : Nat) ({ cls := "java/lang/Object", name := "equals", desc := "(Ljava/lang/Object;)Z" } : Jvm.MethodName)) ∈ lw_all := lw_g (lw_at lw_m3 187 rfl) rfl
theorem q1138 : (Jvm.Cond.instanceMethod ({ cls := "java/util/ArrayList", name := "addAll", desc := "(Ljava/util/Collection;)Z" } : Jvm.MethodName)) ∈ lw_all := lw_g (lw_at lw_m5 55 rfl) rfl
theorem q1139 : (Jvm.Cond.selects "java/util/ArrayList" ({ cls := "java/util/ArrayList", name := "addAll", desc := "(Ljava/util/Collection;)Z" } : Jvm.MethodName) ({ cls := "java/util/ArrayList", name := "addAll", desc := "(Ljava/util/Collection;)Z" } : Jvm.MethodName)) ∈ lw_all := lw_g (lw_at lw_m5 56 rfl) rfl
theorem q1140 : (Jvm.Cond.code ({ cls := "java/util/ArrayList", name := "addAll", desc := "(Ljava/util/Collection;)Z" } : Jvm.MethodName) prog_47_method_41_code (6 : Nat) (Option.some Jvm.ClassFile.FieldType.boolean)) ∈ lw_all := lw_g (lw_at lw_m5 57 rfl) rfl
theorem q1141 : (Jvm.Cond.interfaceEntry "java/util/ArrayList" (42 : Nat)) ∈ lw_tbl := lw_at lw_m5 58 rfl
theorem q1142 : (Jvm.Cond.methodLink "java/util/ArrayList" (42 : Nat) ({ cls := "java/util/Collection", name := "toArray", desc := "()[Ljava/lang/Object;" } : Jvm.MethodName)) ∈ lw_all := lw_g (lw_at lw_m5 59 rfl) rfl
theorem q1145 : (Jvm.Cond.castable "java/util/ArrayList" "java/util/Collection") ∈ lw_tbl := lw_at lw_m5 62 rfl
theorem q1146 : (Jvm.Cond.selects "java/util/ArrayList" ({ cls := "java/util/Collection", name := "toArray", desc := "()[Ljava/lang/Object;" } : Jvm.MethodName) ({ cls := "java/util/ArrayList", name := "toArray", desc := "()[Ljava/lang/Object;" } : Jvm.MethodName)) ∈ lw_all := lw_g (lw_at lw_m5 63 rfl) rfl
theorem q1147 : (Jvm.Cond.unhidden "java/util/ArrayList" "toArray" "()[Ljava/lang/Object;") ∈ lw_tbl := lw_at lw_m5 64 rfl
theorem q1148 : (Jvm.Cond.instanceMethod ({ cls := "java/util/ArrayList", name := "toArray", desc := "()[Ljava/lang/Object;" } : Jvm.MethodName)) ∈ lw_all := lw_g (lw_at lw_m5 65 rfl) rfl
theorem q1149 : (Jvm.Cond.publicMethod ({ cls := "java/util/ArrayList", name := "toArray", desc := "()[Ljava/lang/Object;" } : Jvm.MethodName)) ∈ lw_tbl := lw_at lw_m5 66 rfl
theorem q1150 : (Jvm.Cond.code ({ cls := "java/util/ArrayList", name := "toArray", desc := "()[Ljava/lang/Object;" } : Jvm.MethodName) prog_47_method_16_code (1 : Nat) (Option.some (Jvm.ClassFile.FieldType.array (Jvm.ClassFile.FieldType.object "java/lang/Object")))) ∈ lw_all := lw_g (lw_at lw_m5 67 rfl) rfl
theorem q1151 : (Jvm.Cond.methodLink "java/util/ArrayList" (112 : Nat) ({ cls := "java/lang/System", name := "arraycopy", desc := "(Ljava/lang/Object;ILjava/lang/Object;II)V" } : Jvm.MethodName)) ∈ lw_all := lw_g (lw_at lw_m5 68 rfl) rfl
theorem q1220 : (Jvm.Cond.instanceMethod ({ cls := "java/util/ArrayList", name := "set", desc := "(ILjava/lang/Object;)Ljava/lang/Object;" } : Jvm.MethodName)) ∈ lw_all := lw_g (lw_at lw_m5 137 rfl) rfl
theorem q1221 : (Jvm.Cond.selects "java/util/ArrayList" ({ cls := "java/util/ArrayList", name := "set", desc := "(ILjava/lang/Object;)Ljava/lang/Object;" } : Jvm.MethodName) ({ cls := "java/util/ArrayList", name := "set", desc := "(ILjava/lang/Object;)Ljava/lang/Object;" } : Jvm.MethodName)) ∈ lw_all := lw_g (lw_at lw_m5 138 rfl) rfl
theorem q1222 : (Jvm.Cond.code ({ cls := "java/util/ArrayList", name := "set", desc := "(ILjava/lang/Object;)Ljava/lang/Object;" } : Jvm.MethodName) prog_47_method_23_code (4 : Nat) (Option.some (Jvm.ClassFile.FieldType.object "java/lang/Object"))) ∈ lw_all := lw_g (lw_at lw_m5 139 rfl) rfl
theorem q1392 : (Jvm.Cond.instanceMethod ({ cls := "java/util/ArrayList", name := "remove", desc := "(I)Ljava/lang/Object;" } : Jvm.MethodName)) ∈ lw_all := lw_g (lw_at lw_m6 69 rfl) rfl
theorem q1393 : (Jvm.Cond.selects "java/util/ArrayList" ({ cls := "java/util/ArrayList", name := "remove", desc := "(I)Ljava/lang/Object;" } : Jvm.MethodName) ({ cls := "java/util/ArrayList", name := "remove", desc := "(I)Ljava/lang/Object;" } : Jvm.MethodName)) ∈ lw_all := lw_g (lw_at lw_m6 70 rfl) rfl
theorem q1394 : (Jvm.Cond.code ({ cls := "java/util/ArrayList", name := "remove", desc := "(I)Ljava/lang/Object;" } : Jvm.MethodName) prog_47_method_29_code (4 : Nat) (Option.some (Jvm.ClassFile.FieldType.object "java/lang/Object"))) ∈ lw_all := lw_g (lw_at lw_m6 71 rfl) rfl
theorem q1395 : (Jvm.Cond.methodLink "java/util/ArrayList" (144 : Nat) ({ cls := "java/util/ArrayList", name := "fastRemove", desc := "([Ljava/lang/Object;I)V" } : Jvm.MethodName)) ∈ lw_all := lw_g (lw_at lw_m6 72 rfl) rfl
theorem q1396 : (Jvm.Cond.privateMethod ({ cls := "java/util/ArrayList", name := "fastRemove", desc := "([Ljava/lang/Object;I)V" } : Jvm.MethodName)) ∈ lw_tbl := lw_at lw_m6 73 rfl
theorem q1397 : (Jvm.Cond.instanceMethod ({ cls := "java/util/ArrayList", name := "fastRemove", desc := "([Ljava/lang/Object;I)V" } : Jvm.MethodName)) ∈ lw_all := lw_g (lw_at lw_m6 74 rfl) rfl
theorem q1398 : (Jvm.Cond.code ({ cls := "java/util/ArrayList", name := "fastRemove", desc := "([Ljava/lang/Object;I)V" } : Jvm.MethodName) prog_47_method_39_code (4 : Nat) (Option.none : Option Jvm.ClassFile.FieldType)) ∈ lw_all := lw_g (lw_at lw_m6 75 rfl) rfl
theorem q1586 : (Jvm.Cond.instanceMethod ({ cls := "java/util/ArrayList", name := "isEmpty", desc := "()Z" } : Jvm.MethodName)) ∈ lw_all := lw_g (lw_at lw_m7 23 rfl) rfl
theorem q1587 : (Jvm.Cond.selects "java/util/ArrayList" ({ cls := "java/util/ArrayList", name := "isEmpty", desc := "()Z" } : Jvm.MethodName) ({ cls := "java/util/ArrayList", name := "isEmpty", desc := "()Z" } : Jvm.MethodName)) ∈ lw_all := lw_g (lw_at lw_m7 24 rfl) rfl
theorem q1588 : (Jvm.Cond.code ({ cls := "java/util/ArrayList", name := "isEmpty", desc := "()Z" } : Jvm.MethodName) prog_47_method_9_code (1 : Nat) (Option.some Jvm.ClassFile.FieldType.boolean)) ∈ lw_all := lw_g (lw_at lw_m7 25 rfl) rfl
theorem q1674 : (Jvm.Cond.instanceMethod ({ cls := "java/util/ArrayList", name := "remove", desc := "(Ljava/lang/Object;)Z" } : Jvm.MethodName)) ∈ lw_all := lw_g (lw_at lw_m7 111 rfl) rfl
theorem q1675 : (Jvm.Cond.selects "java/util/ArrayList" ({ cls := "java/util/ArrayList", name := "remove", desc := "(Ljava/lang/Object;)Z" } : Jvm.MethodName) ({ cls := "java/util/ArrayList", name := "remove", desc := "(Ljava/lang/Object;)Z" } : Jvm.MethodName)) ∈ lw_all := lw_g (lw_at lw_m7 112 rfl) rfl
theorem q1676 : (Jvm.Cond.code ({ cls := "java/util/ArrayList", name := "remove", desc := "(Ljava/lang/Object;)Z" } : Jvm.MethodName) prog_47_method_38_code (5 : Nat) (Option.some Jvm.ClassFile.FieldType.boolean)) ∈ lw_all := lw_g (lw_at lw_m7 113 rfl) rfl
theorem q2797 : (Jvm.Cond.castable "java/util/ArrayList" "java/lang/Object") ∈ lw_tbl := lw_at lw_m12 34 rfl
theorem in_J2 : ∀ w ∈ wsJ20, w ∈ lw_all := lw_in wsJ20 [519, 515, 517] (by decide +kernel) (by decide +kernel)
def RJ3 : String := "java/lang/Throwable"
def TJ3 : u_T := fun k => match k with
  | 0 => ("java/lang/Throwable", "cause", "Ljava/lang/Throwable;", false)
  | 1 => ("java/lang/Throwable", "stackTrace", "[Ljava/lang/StackTraceElement;", false)
  | 2 => ("java/lang/Throwable", "suppressedExceptions", "Ljava/util/List;", false)
  | 3 => ("java/lang/Throwable", "detailMessage", "Ljava/lang/String;", false)
  | _ => ("java/lang/Throwable", "backtrace", "Ljava/lang/Object;", false)
def tyJ3 : Nat → FieldType := fun k => match k with
  | 0 => .object "java/lang/Throwable"
  | 1 => .array (.object "java/lang/StackTraceElement")
  | 2 => .object "java/util/List"
  | 3 => .object "java/lang/String"
  | _ => .object "java/lang/Object"
abbrev wsJ30 : List Cond := u_ws RJ3 TJ3 5
theorem nmJ3 : ∀ a, a < 5 → ∀ b, b < 5 → a ≠ b → (TJ3 a).2.1 ≠ (TJ3 b).2.1 := by decide +kernel
theorem tyJ3_ok : ∀ k, k < 5 → parseFieldDescriptor (TJ3 k).2.2.1 = some (tyJ3 k) := by decide +kernel
theorem q129 : (Jvm.Cond.initialized "java/lang/Throwable") ∈ lw_all := lw_g (lw_at lw_m1 6 rfl) rfl
theorem q202 : (Jvm.Cond.declares ({ cls := "java/lang/Throwable", name := "<init>", desc := "()V" } : Jvm.MethodName)) ∈ lw_tbl := lw_at lw_m1 79 rfl
theorem q203 : (Jvm.Cond.declares ({ cls := "java/lang/Throwable", name := "<init>", desc := "(Ljava/lang/String;)V" } : Jvm.MethodName)) ∈ lw_tbl := lw_at lw_m1 80 rfl
theorem q207 : (Jvm.Cond.lays "java/lang/Throwable" "java/lang/Throwable" "cause" "Ljava/lang/Throwable;") ∈ lw_all := lw_g (lw_at lw_m1 84 rfl) rfl
theorem q209 : (Jvm.Cond.lays "java/lang/Throwable" "java/lang/Throwable" "stackTrace" "[Ljava/lang/StackTraceElement;") ∈ lw_all := lw_g (lw_at lw_m1 86 rfl) rfl
theorem q211 : (Jvm.Cond.lays "java/lang/Throwable" "java/lang/Throwable" "suppressedExceptions" "Ljava/util/List;") ∈ lw_all := lw_g (lw_at lw_m1 88 rfl) rfl
theorem q213 : (Jvm.Cond.lays "java/lang/Throwable" "java/lang/Throwable" "detailMessage" "Ljava/lang/String;") ∈ lw_all := lw_g (lw_at lw_m1 90 rfl) rfl
theorem q215 : (Jvm.Cond.lays "java/lang/Throwable" "java/lang/Throwable" "backtrace" "Ljava/lang/Object;") ∈ lw_all := lw_g (lw_at lw_m1 92 rfl) rfl
theorem q216 : (Jvm.Cond.fieldLink "java/lang/Throwable" (198 : Nat) "java/lang/Throwable" "backtrace" "Ljava/lang/Object;") ∈ lw_all := lw_g (lw_at lw_m1 93 rfl) rfl
theorem q217 : (Jvm.Cond.superclass "java/lang/Throwable" "java/lang/Object") ∈ lw_all := lw_g (lw_at lw_m1 94 rfl) rfl
theorem q218 : (Jvm.Cond.instanceMethod ({ cls := "java/lang/Throwable", name := "<init>", desc := "()V" } : Jvm.MethodName)) ∈ lw_all := lw_g (lw_at lw_m1 95 rfl) rfl
theorem q219 : (Jvm.Cond.code ({ cls := "java/lang/Throwable", name := "<init>", desc := "()V" } : Jvm.MethodName) prog_42_method_1_code (1 : Nat) (Option.none : Option Jvm.ClassFile.FieldType)) ∈ lw_all := lw_g (lw_at lw_m1 96 rfl) rfl
theorem q220 : (Jvm.Cond.methodLink "java/lang/Throwable" (1 : Nat) ({ cls := "java/lang/Object", name := "<init>", desc := "()V" } : Jvm.MethodName)) ∈ lw_all := lw_g (lw_at lw_m1 97 rfl) rfl
theorem q221 : (Jvm.Cond.fieldLink "java/lang/Throwable" (13 : Nat) "java/lang/Throwable" "UNASSIGNED_STACK" "[Ljava/lang/StackTraceElement;") ∈ lw_all := lw_g (lw_at lw_m1 98 rfl) rfl
theorem q222 : (Jvm.Cond.laysStatic "java/lang/Throwable" "UNASSIGNED_STACK" "[Ljava/lang/StackTraceElement;") ∈ lw_tbl := lw_at lw_m1 99 rfl
theorem q223 : (Jvm.Cond.fieldLink "java/lang/Throwable" (20 : Nat) "java/lang/Throwable" "SUPPRESSED_SENTINEL" "Ljava/util/List;") ∈ lw_all := lw_g (lw_at lw_m1 100 rfl) rfl
theorem q224 : (Jvm.Cond.laysStatic "java/lang/Throwable" "SUPPRESSED_SENTINEL" "Ljava/util/List;") ∈ lw_tbl := lw_at lw_m1 101 rfl
theorem q225 : (Jvm.Cond.methodLink "java/lang/Throwable" (27 : Nat) ({ cls := "java/lang/Throwable", name := "fillInStackTrace", desc := "()Ljava/lang/Throwable;" } : Jvm.MethodName)) ∈ lw_all := lw_g (lw_at lw_m1 102 rfl) rfl
theorem q226 : (Jvm.Cond.instanceMethod ({ cls := "java/lang/Throwable", name := "fillInStackTrace", desc := "()Ljava/lang/Throwable;" } : Jvm.MethodName)) ∈ lw_all := lw_g (lw_at lw_m1 103 rfl) rfl
theorem q227 : (Jvm.Cond.sameMethod "java/lang/Throwable" "java/lang/Throwable" "fillInStackTrace" "()Ljava/lang/Throwable;") ∈ lw_all := lw_g (lw_at lw_m1 104 rfl) rfl
theorem q233 : (Jvm.Cond.codeSync ({ cls := "java/lang/Throwable", name := "fillInStackTrace", desc := "()Ljava/lang/Throwable;" } : Jvm.MethodName) prog_42_method_18_code (1 : Nat) (Option.some (Jvm.ClassFile.FieldType.object "java/lang/Throwable"))) ∈ lw_all := lw_g (lw_at lw_m1 110 rfl) rfl
theorem q234 : (Jvm.Cond.methodLink "java/lang/Throwable" (202 : Nat) ({ cls := "java/lang/Throwable", name := "fillInStackTrace", desc := "(I)Ljava/lang/Throwable;" } : Jvm.MethodName)) ∈ lw_all := lw_g (lw_at lw_m1 111 rfl) rfl
theorem q235 : (Jvm.Cond.privateMethod ({ cls := "java/lang/Throwable", name := "fillInStackTrace", desc := "(I)Ljava/lang/Throwable;" } : Jvm.MethodName)) ∈ lw_tbl := lw_at lw_m1 112 rfl
theorem q236 : (Jvm.Cond.instanceMethod ({ cls := "java/lang/Throwable", name := "fillInStackTrace", desc := "(I)Ljava/lang/Throwable;" } : Jvm.MethodName)) ∈ lw_all := lw_g (lw_at lw_m1 113 rfl) rfl
theorem q237 : (Jvm.Cond.instantiable "java/lang/Throwable" (6 : Nat)) ∈ lw_all := lw_g (lw_at lw_m1 114 rfl) rfl
theorem q238 : (Jvm.Cond.native ({ cls := "java/lang/Throwable", name := "fillInStackTrace", desc := "(I)Ljava/lang/Throwable;" } : Jvm.MethodName)) ∈ lw_all := lw_g (lw_at lw_m1 115 rfl) rfl
theorem q470 : (Jvm.Cond.instanceMethod ({ cls := "java/lang/Throwable", name := "<init>", desc := "(Ljava/lang/String;)V" } : Jvm.MethodName)) ∈ lw_all := lw_g (lw_at lw_m2 107 rfl) rfl
theorem q471 : (Jvm.Cond.code ({ cls := "java/lang/Throwable", name := "<init>", desc := "(Ljava/lang/String;)V" } : Jvm.MethodName) prog_42_method_2_code (2 : Nat) (Option.none : Option Jvm.ClassFile.FieldType)) ∈ lw_all := lw_g (lw_at lw_m2 108 rfl) rfl
theorem q472 : (Jvm.Cond.fieldLink "java/lang/Throwable" (198 : Nat) "java/lang/Throwable" "backtrace" "Ljava/lang/Object;") ∈ lw_all := lw_g (lw_at lw_m2 109 rfl) rfl
theorem q473 : (Jvm.Cond.fieldLink "java/lang/Throwable" (31 : Nat) "java/lang/Throwable" "detailMessage" "Ljava/lang/String;") ∈ lw_all := lw_g (lw_at lw_m2 110 rfl) rfl
theorem q474 : (Jvm.Cond.fieldLink "java/lang/Throwable" (7 : Nat) "java/lang/Throwable" "cause" "Ljava/lang/Throwable;") ∈ lw_all := lw_g (lw_at lw_m2 111 rfl) rfl
theorem q475 : (Jvm.Cond.fieldLink "java/lang/Throwable" (17 : Nat) "java/lang/Throwable" "stackTrace" "[Ljava/lang/StackTraceElement;") ∈ lw_all := lw_g (lw_at lw_m2 112 rfl) rfl
theorem q476 : (Jvm.Cond.fieldLink "java/lang/Throwable" (24 : Nat) "java/lang/Throwable" "suppressedExceptions" "Ljava/util/List;") ∈ lw_all := lw_g (lw_at lw_m2 113 rfl) rfl
theorem q477 : (Jvm.Cond.soleField "java/lang/Throwable" "backtrace") ∈ lw_all := lw_g (lw_at lw_m2 114 rfl) rfl
theorem q478 : (Jvm.Cond.soleField "java/lang/Throwable" "detailMessage") ∈ lw_all := lw_g (lw_at lw_m2 115 rfl) rfl
theorem q479 : (Jvm.Cond.soleField "java/lang/Throwable" "cause") ∈ lw_all := lw_g (lw_at lw_m2 116 rfl) rfl
theorem q480 : (Jvm.Cond.soleField "java/lang/Throwable" "stackTrace") ∈ lw_all := lw_g (lw_at lw_m2 117 rfl) rfl
theorem q482 : (Jvm.Cond.soleField "java/lang/Throwable" "depth") ∈ lw_all := lw_g (lw_at lw_m2 119 rfl) rfl
theorem q483 : (Jvm.Cond.soleField "java/lang/Throwable" "suppressedExceptions") ∈ lw_all := lw_g (lw_at lw_m2 120 rfl) rfl
theorem q1085 : (Jvm.Cond.instanceMethod ({ cls := "java/lang/Throwable", name := "<init>", desc := "(Ljava/lang/String;Ljava/lang/Throwable;)V" } : Jvm.MethodName)) ∈ lw_all := lw_g (lw_at lw_m5 2 rfl) rfl
theorem q1086 : (Jvm.Cond.code ({ cls := "java/lang/Throwable", name := "<init>", desc := "(Ljava/lang/String;Ljava/lang/Throwable;)V" } : Jvm.MethodName) prog_42_method_3_code (3 : Nat) (Option.none : Option Jvm.ClassFile.FieldType)) ∈ lw_all := lw_g (lw_at lw_m5 3 rfl) rfl
theorem q2782 : (Jvm.Cond.sameMethod "java/lang/Throwable" "java/lang/Throwable" "fillInStackTrace" "(I)Ljava/lang/Throwable;") ∈ lw_all := lw_g (lw_at lw_m12 19 rfl) rfl
theorem q2820 : (Jvm.Cond.castable "java/lang/Throwable" "java/lang/Object") ∈ lw_tbl := lw_at lw_m12 57 rfl
theorem in_J3 : ∀ w ∈ wsJ30, w ∈ lw_all := lw_in wsJ30 [207, 209, 211, 213, 215] (by decide +kernel) (by decide +kernel)
def RJ4 : String := "java/lang/Exception"
theorem q130 : (Jvm.Cond.initialized "java/lang/Exception") ∈ lw_all := lw_g (lw_at lw_m1 7 rfl) rfl
theorem q200 : (Jvm.Cond.declares ({ cls := "java/lang/Exception", name := "<init>", desc := "()V" } : Jvm.MethodName)) ∈ lw_tbl := lw_at lw_m1 77 rfl
theorem q201 : (Jvm.Cond.declares ({ cls := "java/lang/Exception", name := "<init>", desc := "(Ljava/lang/String;)V" } : Jvm.MethodName)) ∈ lw_tbl := lw_at lw_m1 78 rfl
theorem q467 : (Jvm.Cond.instanceMethod ({ cls := "java/lang/Exception", name := "<init>", desc := "(Ljava/lang/String;)V" } : Jvm.MethodName)) ∈ lw_all := lw_g (lw_at lw_m2 104 rfl) rfl
theorem q468 : (Jvm.Cond.code ({ cls := "java/lang/Exception", name := "<init>", desc := "(Ljava/lang/String;)V" } : Jvm.MethodName) prog_27_method_2_code (2 : Nat) (Option.none : Option Jvm.ClassFile.FieldType)) ∈ lw_all := lw_g (lw_at lw_m2 105 rfl) rfl
theorem q469 : (Jvm.Cond.methodLink "java/lang/Exception" (7 : Nat) ({ cls := "java/lang/Throwable", name := "<init>", desc := "(Ljava/lang/String;)V" } : Jvm.MethodName)) ∈ lw_all := lw_g (lw_at lw_m2 106 rfl) rfl
theorem q1082 : (Jvm.Cond.instanceMethod ({ cls := "java/lang/Exception", name := "<init>", desc := "(Ljava/lang/String;Ljava/lang/Throwable;)V" } : Jvm.MethodName)) ∈ lw_all := lw_g (lw_at lw_m4 239 rfl) rfl
theorem q1083 : (Jvm.Cond.code ({ cls := "java/lang/Exception", name := "<init>", desc := "(Ljava/lang/String;Ljava/lang/Throwable;)V" } : Jvm.MethodName) prog_27_method_3_code (3 : Nat) (Option.none : Option Jvm.ClassFile.FieldType)) ∈ lw_all := lw_g (lw_at lw_m5 0 rfl) rfl
theorem q1084 : (Jvm.Cond.methodLink "java/lang/Exception" (10 : Nat) ({ cls := "java/lang/Throwable", name := "<init>", desc := "(Ljava/lang/String;Ljava/lang/Throwable;)V" } : Jvm.MethodName)) ∈ lw_all := lw_g (lw_at lw_m5 1 rfl) rfl
theorem q1121 : (Jvm.Cond.instanceMethod ({ cls := "java/lang/Exception", name := "<init>", desc := "()V" } : Jvm.MethodName)) ∈ lw_all := lw_g (lw_at lw_m5 38 rfl) rfl
theorem q1122 : (Jvm.Cond.code ({ cls := "java/lang/Exception", name := "<init>", desc := "()V" } : Jvm.MethodName) prog_27_method_1_code (1 : Nat) (Option.none : Option Jvm.ClassFile.FieldType)) ∈ lw_all := lw_g (lw_at lw_m5 39 rfl) rfl
theorem q1123 : (Jvm.Cond.methodLink "java/lang/Exception" (1 : Nat) ({ cls := "java/lang/Throwable", name := "<init>", desc := "()V" } : Jvm.MethodName)) ∈ lw_all := lw_g (lw_at lw_m5 40 rfl) rfl
def RJ5 : String := "java/lang/RuntimeException"
theorem q131 : (Jvm.Cond.initialized "java/lang/RuntimeException") ∈ lw_all := lw_g (lw_at lw_m1 8 rfl) rfl
theorem q198 : (Jvm.Cond.declares ({ cls := "java/lang/RuntimeException", name := "<init>", desc := "()V" } : Jvm.MethodName)) ∈ lw_tbl := lw_at lw_m1 75 rfl
theorem q199 : (Jvm.Cond.declares ({ cls := "java/lang/RuntimeException", name := "<init>", desc := "(Ljava/lang/String;)V" } : Jvm.MethodName)) ∈ lw_tbl := lw_at lw_m1 76 rfl
theorem q464 : (Jvm.Cond.instanceMethod ({ cls := "java/lang/RuntimeException", name := "<init>", desc := "(Ljava/lang/String;)V" } : Jvm.MethodName)) ∈ lw_all := lw_g (lw_at lw_m2 101 rfl) rfl
theorem q465 : (Jvm.Cond.code ({ cls := "java/lang/RuntimeException", name := "<init>", desc := "(Ljava/lang/String;)V" } : Jvm.MethodName) prog_36_method_2_code (2 : Nat) (Option.none : Option Jvm.ClassFile.FieldType)) ∈ lw_all := lw_g (lw_at lw_m2 102 rfl) rfl
theorem q466 : (Jvm.Cond.methodLink "java/lang/RuntimeException" (7 : Nat) ({ cls := "java/lang/Exception", name := "<init>", desc := "(Ljava/lang/String;)V" } : Jvm.MethodName)) ∈ lw_all := lw_g (lw_at lw_m2 103 rfl) rfl
theorem q1079 : (Jvm.Cond.instanceMethod ({ cls := "java/lang/RuntimeException", name := "<init>", desc := "(Ljava/lang/String;Ljava/lang/Throwable;)V" } : Jvm.MethodName)) ∈ lw_all := lw_g (lw_at lw_m4 236 rfl) rfl
theorem q1080 : (Jvm.Cond.code ({ cls := "java/lang/RuntimeException", name := "<init>", desc := "(Ljava/lang/String;Ljava/lang/Throwable;)V" } : Jvm.MethodName) prog_36_method_3_code (3 : Nat) (Option.none : Option Jvm.ClassFile.FieldType)) ∈ lw_all := lw_g (lw_at lw_m4 237 rfl) rfl
theorem q1081 : (Jvm.Cond.methodLink "java/lang/RuntimeException" (10 : Nat) ({ cls := "java/lang/Exception", name := "<init>", desc := "(Ljava/lang/String;Ljava/lang/Throwable;)V" } : Jvm.MethodName)) ∈ lw_all := lw_g (lw_at lw_m4 238 rfl) rfl
theorem q1118 : (Jvm.Cond.instanceMethod ({ cls := "java/lang/RuntimeException", name := "<init>", desc := "()V" } : Jvm.MethodName)) ∈ lw_all := lw_g (lw_at lw_m5 35 rfl) rfl
theorem q1119 : (Jvm.Cond.code ({ cls := "java/lang/RuntimeException", name := "<init>", desc := "()V" } : Jvm.MethodName) prog_36_method_1_code (1 : Nat) (Option.none : Option Jvm.ClassFile.FieldType)) ∈ lw_all := lw_g (lw_at lw_m5 36 rfl) rfl
theorem q1120 : (Jvm.Cond.methodLink "java/lang/RuntimeException" (1 : Nat) ({ cls := "java/lang/Exception", name := "<init>", desc := "()V" } : Jvm.MethodName)) ∈ lw_all := lw_g (lw_at lw_m5 37 rfl) rfl
def RJ6 : String := "java/lang/IllegalArgumentException"
def TJ6 : u_T := fun k => match k with
  | 0 => ("java/lang/Throwable", "cause", "Ljava/lang/Throwable;", false)
  | 1 => ("java/lang/Throwable", "stackTrace", "[Ljava/lang/StackTraceElement;", false)
  | 2 => ("java/lang/Throwable", "suppressedExceptions", "Ljava/util/List;", false)
  | 3 => ("java/lang/Throwable", "detailMessage", "Ljava/lang/String;", false)
  | 4 => ("java/lang/Throwable", "backtrace", "Ljava/lang/Object;", false)
  | _ => ("java/lang/Throwable", "depth", "I", false)
def tyJ6 : Nat → FieldType := fun k => match k with
  | 0 => .object "java/lang/Throwable"
  | 1 => .array (.object "java/lang/StackTraceElement")
  | 2 => .object "java/util/List"
  | 3 => .object "java/lang/String"
  | 4 => .object "java/lang/Object"
  | _ => .int
abbrev wsJ60 : List Cond := u_ws RJ6 TJ6 6
theorem nmJ6 : ∀ a, a < 6 → ∀ b, b < 6 → a ≠ b → (TJ6 a).2.1 ≠ (TJ6 b).2.1 := by decide +kernel
theorem tyJ6_ok : ∀ k, k < 6 → parseFieldDescriptor (TJ6 k).2.2.1 = some (tyJ6 k) := by decide +kernel
theorem q132 : (Jvm.Cond.initialized "java/lang/IllegalArgumentException") ∈ lw_all := lw_g (lw_at lw_m1 9 rfl) rfl
theorem q196 : (Jvm.Cond.instantiable "java/lang/IllegalArgumentException" (6 : Nat)) ∈ lw_all := lw_g (lw_at lw_m1 73 rfl) rfl
theorem q197 : (Jvm.Cond.castable "java/lang/IllegalArgumentException" "java/lang/IllegalArgumentException") ∈ lw_tbl := lw_at lw_m1 74 rfl
theorem q204 : (Jvm.Cond.selects "java/lang/IllegalArgumentException" ({ cls := "java/lang/Throwable", name := "fillInStackTrace", desc := "(I)Ljava/lang/Throwable;" } : Jvm.MethodName) ({ cls := "java/lang/Throwable", name := "fillInStackTrace", desc := "(I)Ljava/lang/Throwable;" } : Jvm.MethodName)) ∈ lw_all := lw_g (lw_at lw_m1 81 rfl) rfl
theorem q205 : (Jvm.Cond.selects "java/lang/IllegalArgumentException" ({ cls := "java/lang/Throwable", name := "fillInStackTrace", desc := "()Ljava/lang/Throwable;" } : Jvm.MethodName) ({ cls := "java/lang/Throwable", name := "fillInStackTrace", desc := "()Ljava/lang/Throwable;" } : Jvm.MethodName)) ∈ lw_all := lw_g (lw_at lw_m1 82 rfl) rfl
theorem q206 : (Jvm.Cond.lays "java/lang/IllegalArgumentException" "java/lang/Throwable" "cause" "Ljava/lang/Throwable;") ∈ lw_all := lw_g (lw_at lw_m1 83 rfl) rfl
theorem q208 : (Jvm.Cond.lays "java/lang/IllegalArgumentException" "java/lang/Throwable" "stackTrace" "[Ljava/lang/StackTraceElement;") ∈ lw_all := lw_g (lw_at lw_m1 85 rfl) rfl
theorem q210 : (Jvm.Cond.lays "java/lang/IllegalArgumentException" "java/lang/Throwable" "suppressedExceptions" "Ljava/util/List;") ∈ lw_all := lw_g (lw_at lw_m1 87 rfl) rfl
theorem q212 : (Jvm.Cond.lays "java/lang/IllegalArgumentException" "java/lang/Throwable" "detailMessage" "Ljava/lang/String;") ∈ lw_all := lw_g (lw_at lw_m1 89 rfl) rfl
theorem q214 : (Jvm.Cond.lays "java/lang/IllegalArgumentException" "java/lang/Throwable" "backtrace" "Ljava/lang/Object;") ∈ lw_all := lw_g (lw_at lw_m1 91 rfl) rfl
theorem q461 : (Jvm.Cond.instanceMethod ({ cls := "java/lang/IllegalArgumentException", name := "<init>", desc := "(Ljava/lang/String;)V" } : Jvm.MethodName)) ∈ lw_all := lw_g (lw_at lw_m2 98 rfl) rfl
theorem q462 : (Jvm.Cond.code ({ cls := "java/lang/IllegalArgumentException", name := "<init>", desc := "(Ljava/lang/String;)V" } : Jvm.MethodName) prog_28_method_2_code (2 : Nat) (Option.none : Option Jvm.ClassFile.FieldType)) ∈ lw_all := lw_g (lw_at lw_m2 99 rfl) rfl
theorem q463 : (Jvm.Cond.methodLink "java/lang/IllegalArgumentException" (7 : Nat) ({ cls := "java/lang/RuntimeException", name := "<init>", desc := "(Ljava/lang/String;)V" } : Jvm.MethodName)) ∈ lw_all := lw_g (lw_at lw_m2 100 rfl) rfl
theorem q481 : (Jvm.Cond.lays "java/lang/IllegalArgumentException" "java/lang/Throwable" "depth" "I") ∈ lw_all := lw_g (lw_at lw_m2 118 rfl) rfl
theorem q484 : (Jvm.Cond.superclass "java/lang/IllegalArgumentException" "java/lang/RuntimeException") ∈ lw_all := lw_g (lw_at lw_m2 121 rfl) rfl
theorem q670 : (Jvm.Cond.selects "java/lang/IllegalArgumentException" ({ cls := "java/lang/Object", name := "getClass", desc := "()Ljava/lang/Class;" } : Jvm.MethodName) ({ cls := "java/lang/Object", name := "getClass", desc := "()Ljava/lang/Class;" } : Jvm.MethodName)) ∈ lw_all := lw_g (lw_at lw_m3 67 rfl) rfl
theorem q811 : (Jvm.Cond.selects "java/lang/IllegalArgumentException" ({ cls := "java/lang/Object", name := "equals", desc := "(Ljava/lang/Object;)Z" } : Jvm.MethodName) ({ cls := "java/lang/Object", name := "equals", desc := "(Ljava/lang/Object;)Z" } : Jvm.MethodName)) ∈ lw_all := lw_g (lw_at lw_m3 208 rfl) rfl
theorem q1115 : (Jvm.Cond.instanceMethod ({ cls := "java/lang/IllegalArgumentException", name := "<init>", desc := "()V" } : Jvm.MethodName)) ∈ lw_all := lw_g (lw_at lw_m5 32 rfl) rfl
theorem q1116 : (Jvm.Cond.code ({ cls := "java/lang/IllegalArgumentException", name := "<init>", desc := "()V" } : Jvm.MethodName) prog_28_method_1_code (1 : Nat) (Option.none : Option Jvm.ClassFile.FieldType)) ∈ lw_all := lw_g (lw_at lw_m5 33 rfl) rfl
theorem q1117 : (Jvm.Cond.methodLink "java/lang/IllegalArgumentException" (1 : Nat) ({ cls := "java/lang/RuntimeException", name := "<init>", desc := "()V" } : Jvm.MethodName)) ∈ lw_all := lw_g (lw_at lw_m5 34 rfl) rfl
theorem q2798 : (Jvm.Cond.castable "java/lang/IllegalArgumentException" "java/lang/Object") ∈ lw_tbl := lw_at lw_m12 35 rfl
theorem in_J6 : ∀ w ∈ wsJ60, w ∈ lw_all := lw_in wsJ60 [206, 208, 210, 212, 214, 481] (by decide +kernel) (by decide +kernel)
def RJ7 : String := "java/lang/AbstractStringBuilder"
theorem q133 : (Jvm.Cond.initialized "java/lang/AbstractStringBuilder") ∈ lw_all := lw_g (lw_at lw_m1 10 rfl) rfl
theorem q245 : (Jvm.Cond.instanceMethod ({ cls := "java/lang/AbstractStringBuilder", name := "<init>", desc := "(I)V" } : Jvm.MethodName)) ∈ lw_all := lw_g (lw_at lw_m1 122 rfl) rfl
theorem q246 : (Jvm.Cond.code ({ cls := "java/lang/AbstractStringBuilder", name := "<init>", desc := "(I)V" } : Jvm.MethodName) prog_21_method_2_code (2 : Nat) (Option.none : Option Jvm.ClassFile.FieldType)) ∈ lw_all := lw_g (lw_at lw_m1 123 rfl) rfl
theorem q247 : (Jvm.Cond.methodLink "java/lang/AbstractStringBuilder" (3 : Nat) ({ cls := "java/lang/Object", name := "<init>", desc := "()V" } : Jvm.MethodName)) ∈ lw_all := lw_g (lw_at lw_m1 124 rfl) rfl
theorem q248 : (Jvm.Cond.fieldLink "java/lang/AbstractStringBuilder" (18 : Nat) "java/lang/String" "COMPACT_STRINGS" "Z") ∈ lw_all := lw_g (lw_at lw_m1 125 rfl) rfl
theorem q250 : (Jvm.Cond.methodLink "java/lang/AbstractStringBuilder" (26 : Nat) ({ cls := "java/lang/StringUTF16", name := "newBytesFor", desc := "(I)[B" } : Jvm.MethodName)) ∈ lw_all := lw_g (lw_at lw_m1 127 rfl) rfl
theorem q257 : (Jvm.Cond.fieldLink "java/lang/AbstractStringBuilder" (15 : Nat) "java/lang/AbstractStringBuilder" "value" "[B") ∈ lw_all := lw_g (lw_at lw_m1 134 rfl) rfl
theorem q258 : (Jvm.Cond.fieldLink "java/lang/AbstractStringBuilder" (22 : Nat) "java/lang/AbstractStringBuilder" "coder" "B") ∈ lw_all := lw_g (lw_at lw_m1 135 rfl) rfl
theorem q260 : (Jvm.Cond.fieldLink "java/lang/AbstractStringBuilder" (79 : Nat) "java/lang/AbstractStringBuilder" "count" "I") ∈ lw_all := lw_g (lw_at lw_m1 137 rfl) rfl
theorem q262 : (Jvm.Cond.soleField "java/lang/AbstractStringBuilder" "value") ∈ lw_all := lw_g (lw_at lw_m1 139 rfl) rfl
theorem q264 : (Jvm.Cond.soleField "java/lang/AbstractStringBuilder" "coder") ∈ lw_all := lw_g (lw_at lw_m1 141 rfl) rfl
theorem q266 : (Jvm.Cond.soleField "java/lang/AbstractStringBuilder" "maybeLatin1") ∈ lw_all := lw_g (lw_at lw_m1 143 rfl) rfl
theorem q268 : (Jvm.Cond.soleField "java/lang/AbstractStringBuilder" "count") ∈ lw_all := lw_g (lw_at lw_m1 145 rfl) rfl
theorem q277 : (Jvm.Cond.instanceMethod ({ cls := "java/lang/AbstractStringBuilder", name := "append", desc := "(Ljava/lang/String;)Ljava/lang/AbstractStringBuilder;" } : Jvm.MethodName)) ∈ lw_all := lw_g (lw_at lw_m1 154 rfl) rfl
theorem q278 : (Jvm.Cond.code ({ cls := "java/lang/AbstractStringBuilder", name := "append", desc := "(Ljava/lang/String;)Ljava/lang/AbstractStringBuilder;" } : Jvm.MethodName) prog_21_method_22_code (3 : Nat) (Option.some (Jvm.ClassFile.FieldType.object "java/lang/AbstractStringBuilder"))) ∈ lw_all := lw_g (lw_at lw_m1 155 rfl) rfl
theorem q279 : (Jvm.Cond.methodLink "java/lang/AbstractStringBuilder" (204 : Nat) ({ cls := "java/lang/AbstractStringBuilder", name := "appendNull", desc := "()Ljava/lang/AbstractStringBuilder;" } : Jvm.MethodName)) ∈ lw_all := lw_g (lw_at lw_m1 156 rfl) rfl
theorem q280 : (Jvm.Cond.privateMethod ({ cls := "java/lang/AbstractStringBuilder", name := "appendNull", desc := "()Ljava/lang/AbstractStringBuilder;" } : Jvm.MethodName)) ∈ lw_tbl := lw_at lw_m1 157 rfl
theorem q281 : (Jvm.Cond.instanceMethod ({ cls := "java/lang/AbstractStringBuilder", name := "appendNull", desc := "()Ljava/lang/AbstractStringBuilder;" } : Jvm.MethodName)) ∈ lw_all := lw_g (lw_at lw_m1 158 rfl) rfl
theorem q282 : (Jvm.Cond.code ({ cls := "java/lang/AbstractStringBuilder", name := "appendNull", desc := "()Ljava/lang/AbstractStringBuilder;" } : Jvm.MethodName) prog_21_method_26_code (3 : Nat) (Option.some (Jvm.ClassFile.FieldType.object "java/lang/AbstractStringBuilder"))) ∈ lw_all := lw_g (lw_at lw_m1 159 rfl) rfl
theorem q283 : (Jvm.Cond.methodLink "java/lang/AbstractStringBuilder" (100 : Nat) ({ cls := "java/lang/AbstractStringBuilder", name := "ensureCapacityInternal", desc := "(I)V" } : Jvm.MethodName)) ∈ lw_all := lw_g (lw_at lw_m1 160 rfl) rfl
theorem q284 : (Jvm.Cond.privateMethod ({ cls := "java/lang/AbstractStringBuilder", name := "ensureCapacityInternal", desc := "(I)V" } : Jvm.MethodName)) ∈ lw_tbl := lw_at lw_m1 161 rfl
theorem q285 : (Jvm.Cond.instanceMethod ({ cls := "java/lang/AbstractStringBuilder", name := "ensureCapacityInternal", desc := "(I)V" } : Jvm.MethodName)) ∈ lw_all := lw_g (lw_at lw_m1 162 rfl) rfl
theorem q286 : (Jvm.Cond.code ({ cls := "java/lang/AbstractStringBuilder", name := "ensureCapacityInternal", desc := "(I)V" } : Jvm.MethodName) prog_21_method_9_code (3 : Nat) (Option.none : Option Jvm.ClassFile.FieldType)) ∈ lw_all := lw_g (lw_at lw_m1 163 rfl) rfl
theorem q287 : (Jvm.Cond.methodLink "java/lang/AbstractStringBuilder" (104 : Nat) ({ cls := "java/lang/AbstractStringBuilder", name := "newCapacity", desc := "(I)I" } : Jvm.MethodName)) ∈ lw_all := lw_g (lw_at lw_m1 164 rfl) rfl
theorem q288 : (Jvm.Cond.privateMethod ({ cls := "java/lang/AbstractStringBuilder", name := "newCapacity", desc := "(I)I" } : Jvm.MethodName)) ∈ lw_tbl := lw_at lw_m1 165 rfl
theorem q289 : (Jvm.Cond.instanceMethod ({ cls := "java/lang/AbstractStringBuilder", name := "newCapacity", desc := "(I)I" } : Jvm.MethodName)) ∈ lw_all := lw_g (lw_at lw_m1 166 rfl) rfl
theorem q290 : (Jvm.Cond.code ({ cls := "java/lang/AbstractStringBuilder", name := "newCapacity", desc := "(I)I" } : Jvm.MethodName) prog_21_method_10_code (6 : Nat) (Option.some Jvm.ClassFile.FieldType.int)) ∈ lw_all := lw_g (lw_at lw_m1 167 rfl) rfl
theorem q291 : (Jvm.Cond.methodLink "java/lang/AbstractStringBuilder" (114 : Nat) ({ cls := "jdk/internal/util/ArraysSupport", name := "newLength", desc := "(III)I" } : Jvm.MethodName)) ∈ lw_all := lw_g (lw_at lw_m1 168 rfl) rfl
theorem q301 : (Jvm.Cond.constant "java/lang/AbstractStringBuilder" (39 : Nat) (2147483647 : Int32)) ∈ lw_all := lw_g (lw_at lw_m1 178 rfl) rfl
theorem q302 : (Jvm.Cond.methodLink "java/lang/AbstractStringBuilder" (108 : Nat) ({ cls := "java/util/Arrays", name := "copyOf", desc := "([BI)[B" } : Jvm.MethodName)) ∈ lw_all := lw_g (lw_at lw_m1 179 rfl) rfl
theorem q318 : (Jvm.Cond.methodLink "java/lang/AbstractStringBuilder" (83 : Nat) ({ cls := "java/lang/AbstractStringBuilder", name := "isLatin1", desc := "()Z" } : Jvm.MethodName)) ∈ lw_all := lw_g (lw_at lw_m1 195 rfl) rfl
theorem q319 : (Jvm.Cond.instanceMethod ({ cls := "java/lang/AbstractStringBuilder", name := "isLatin1", desc := "()Z" } : Jvm.MethodName)) ∈ lw_all := lw_g (lw_at lw_m1 196 rfl) rfl
theorem q320 : (Jvm.Cond.sameMethod "java/lang/AbstractStringBuilder" "java/lang/AbstractStringBuilder" "isLatin1" "()Z") ∈ lw_all := lw_g (lw_at lw_m1 197 rfl) rfl
theorem q322 : (Jvm.Cond.code ({ cls := "java/lang/AbstractStringBuilder", name := "isLatin1", desc := "()Z" } : Jvm.MethodName) prog_21_method_68_code (1 : Nat) (Option.some Jvm.ClassFile.FieldType.boolean)) ∈ lw_all := lw_g (lw_at lw_m1 199 rfl) rfl
theorem q323 : (Jvm.Cond.methodLink "java/lang/AbstractStringBuilder" (226 : Nat) ({ cls := "java/lang/StringUTF16", name := "putCharsAt", desc := "([BICCCC)I" } : Jvm.MethodName)) ∈ lw_all := lw_g (lw_at lw_m1 200 rfl) rfl
theorem q349 : (Jvm.Cond.methodLink "java/lang/AbstractStringBuilder" (32 : Nat) ({ cls := "java/lang/String", name := "length", desc := "()I" } : Jvm.MethodName)) ∈ lw_all := lw_g (lw_at lw_m1 226 rfl) rfl
theorem q358 : (Jvm.Cond.methodLink "java/lang/AbstractStringBuilder" (208 : Nat) ({ cls := "java/lang/AbstractStringBuilder", name := "putStringAt", desc := "(ILjava/lang/String;)V" } : Jvm.MethodName)) ∈ lw_all := lw_g (lw_at lw_m1 235 rfl) rfl
theorem q359 : (Jvm.Cond.privateMethod ({ cls := "java/lang/AbstractStringBuilder", name := "putStringAt", desc := "(ILjava/lang/String;)V" } : Jvm.MethodName)) ∈ lw_tbl := lw_at lw_m1 236 rfl
theorem q360 : (Jvm.Cond.instanceMethod ({ cls := "java/lang/AbstractStringBuilder", name := "putStringAt", desc := "(ILjava/lang/String;)V" } : Jvm.MethodName)) ∈ lw_all := lw_g (lw_at lw_m1 237 rfl) rfl
theorem q361 : (Jvm.Cond.code ({ cls := "java/lang/AbstractStringBuilder", name := "putStringAt", desc := "(ILjava/lang/String;)V" } : Jvm.MethodName) prog_21_method_73_code (3 : Nat) (Option.none : Option Jvm.ClassFile.FieldType)) ∈ lw_all := lw_g (lw_at lw_m1 238 rfl) rfl
theorem q362 : (Jvm.Cond.methodLink "java/lang/AbstractStringBuilder" (397 : Nat) ({ cls := "java/lang/AbstractStringBuilder", name := "inflateIfNeededFor", desc := "(Ljava/lang/String;)V" } : Jvm.MethodName)) ∈ lw_all := lw_g (lw_at lw_m1 239 rfl) rfl
theorem q363 : (Jvm.Cond.privateMethod ({ cls := "java/lang/AbstractStringBuilder", name := "inflateIfNeededFor", desc := "(Ljava/lang/String;)V" } : Jvm.MethodName)) ∈ lw_tbl := lw_at lw_m2 0 rfl
theorem q364 : (Jvm.Cond.instanceMethod ({ cls := "java/lang/AbstractStringBuilder", name := "inflateIfNeededFor", desc := "(Ljava/lang/String;)V" } : Jvm.MethodName)) ∈ lw_all := lw_g (lw_at lw_m2 1 rfl) rfl
theorem q365 : (Jvm.Cond.code ({ cls := "java/lang/AbstractStringBuilder", name := "inflateIfNeededFor", desc := "(Ljava/lang/String;)V" } : Jvm.MethodName) prog_21_method_71_code (2 : Nat) (Option.none : Option Jvm.ClassFile.FieldType)) ∈ lw_all := lw_g (lw_at lw_m2 2 rfl) rfl
theorem q366 : (Jvm.Cond.methodLink "java/lang/AbstractStringBuilder" (40 : Nat) ({ cls := "java/lang/String", name := "coder", desc := "()B" } : Jvm.MethodName)) ∈ lw_all := lw_g (lw_at lw_m2 3 rfl) rfl
theorem q367 : (Jvm.Cond.methodLink "java/lang/AbstractStringBuilder" (195 : Nat) ({ cls := "java/lang/AbstractStringBuilder", name := "inflate", desc := "()V" } : Jvm.MethodName)) ∈ lw_all := lw_g (lw_at lw_m2 4 rfl) rfl
theorem q368 : (Jvm.Cond.privateMethod ({ cls := "java/lang/AbstractStringBuilder", name := "inflate", desc := "()V" } : Jvm.MethodName)) ∈ lw_tbl := lw_at lw_m2 5 rfl
theorem q369 : (Jvm.Cond.instanceMethod ({ cls := "java/lang/AbstractStringBuilder", name := "inflate", desc := "()V" } : Jvm.MethodName)) ∈ lw_all := lw_g (lw_at lw_m2 6 rfl) rfl
theorem q370 : (Jvm.Cond.code ({ cls := "java/lang/AbstractStringBuilder", name := "inflate", desc := "()V" } : Jvm.MethodName) prog_21_method_11_code (2 : Nat) (Option.none : Option Jvm.ClassFile.FieldType)) ∈ lw_all := lw_g (lw_at lw_m2 7 rfl) rfl
theorem q371 : (Jvm.Cond.methodLink "java/lang/AbstractStringBuilder" (125 : Nat) ({ cls := "java/lang/StringLatin1", name := "inflate", desc := "([BI[BII)V" } : Jvm.MethodName)) ∈ lw_all := lw_g (lw_at lw_m2 8 rfl) rfl
theorem q386 : (Jvm.Cond.methodLink "java/lang/AbstractStringBuilder" (399 : Nat) ({ cls := "java/lang/String", name := "getBytes", desc := "([BIB)V" } : Jvm.MethodName)) ∈ lw_all := lw_g (lw_at lw_m2 23 rfl) rfl
theorem q397 : (Jvm.Cond.instanceMethod ({ cls := "java/lang/AbstractStringBuilder", name := "append", desc := "(I)Ljava/lang/AbstractStringBuilder;" } : Jvm.MethodName)) ∈ lw_all := lw_g (lw_at lw_m2 34 rfl) rfl
theorem q398 : (Jvm.Cond.code ({ cls := "java/lang/AbstractStringBuilder", name := "append", desc := "(I)Ljava/lang/AbstractStringBuilder;" } : Jvm.MethodName) prog_21_method_32_code (4 : Nat) (Option.some (Jvm.ClassFile.FieldType.object "java/lang/AbstractStringBuilder"))) ∈ lw_all := lw_g (lw_at lw_m2 35 rfl) rfl
theorem q399 : (Jvm.Cond.methodLink "java/lang/AbstractStringBuilder" (245 : Nat) ({ cls := "java/lang/Integer", name := "stringSize", desc := "(I)I" } : Jvm.MethodName)) ∈ lw_all := lw_g (lw_at lw_m2 36 rfl) rfl
theorem q402 : (Jvm.Cond.methodLink "java/lang/AbstractStringBuilder" (248 : Nat) ({ cls := "java/lang/Integer", name := "getChars", desc := "(II[B)I" } : Jvm.MethodName)) ∈ lw_all := lw_g (lw_at lw_m2 39 rfl) rfl
theorem q409 : (Jvm.Cond.methodLink "java/lang/AbstractStringBuilder" (251 : Nat) ({ cls := "java/lang/StringUTF16", name := "getChars", desc := "(III[B)I" } : Jvm.MethodName)) ∈ lw_all := lw_g (lw_at lw_m2 46 rfl) rfl
theorem q431 : (Jvm.Cond.instanceMethod ({ cls := "java/lang/AbstractStringBuilder", name := "getValue", desc := "()[B" } : Jvm.MethodName)) ∈ lw_all := lw_g (lw_at lw_m2 68 rfl) rfl
theorem q432 : (Jvm.Cond.sameMethod "java/lang/AbstractStringBuilder" "java/lang/AbstractStringBuilder" "getValue" "()[B") ∈ lw_all := lw_g (lw_at lw_m2 69 rfl) rfl
theorem q434 : (Jvm.Cond.code ({ cls := "java/lang/AbstractStringBuilder", name := "getValue", desc := "()[B" } : Jvm.MethodName) prog_21_method_64_code (1 : Nat) (Option.some (Jvm.ClassFile.FieldType.array Jvm.ClassFile.FieldType.byte))) ∈ lw_all := lw_g (lw_at lw_m2 71 rfl) rfl
theorem q436 : (Jvm.Cond.instanceMethod ({ cls := "java/lang/AbstractStringBuilder", name := "length", desc := "()I" } : Jvm.MethodName)) ∈ lw_all := lw_g (lw_at lw_m2 73 rfl) rfl
theorem q437 : (Jvm.Cond.sameMethod "java/lang/AbstractStringBuilder" "java/lang/AbstractStringBuilder" "length" "()I") ∈ lw_all := lw_g (lw_at lw_m2 74 rfl) rfl
theorem q442 : (Jvm.Cond.code ({ cls := "java/lang/AbstractStringBuilder", name := "length", desc := "()I" } : Jvm.MethodName) prog_21_method_6_code (1 : Nat) (Option.some Jvm.ClassFile.FieldType.int)) ∈ lw_all := lw_g (lw_at lw_m2 79 rfl) rfl
theorem q761 : (Jvm.Cond.instanceMethod ({ cls := "java/lang/AbstractStringBuilder", name := "append", desc := "(C)Ljava/lang/AbstractStringBuilder;" } : Jvm.MethodName)) ∈ lw_all := lw_g (lw_at lw_m3 158 rfl) rfl
theorem q762 : (Jvm.Cond.code ({ cls := "java/lang/AbstractStringBuilder", name := "append", desc := "(C)Ljava/lang/AbstractStringBuilder;" } : Jvm.MethodName) prog_21_method_31_code (2 : Nat) (Option.some (Jvm.ClassFile.FieldType.object "java/lang/AbstractStringBuilder"))) ∈ lw_all := lw_g (lw_at lw_m3 159 rfl) rfl
theorem q763 : (Jvm.Cond.methodLink "java/lang/AbstractStringBuilder" (191 : Nat) ({ cls := "java/lang/StringLatin1", name := "canEncode", desc := "(C)Z" } : Jvm.MethodName)) ∈ lw_all := lw_g (lw_at lw_m3 160 rfl) rfl
theorem q766 : (Jvm.Cond.methodLink "java/lang/AbstractStringBuilder" (197 : Nat) ({ cls := "java/lang/StringUTF16", name := "putCharSB", desc := "([BII)V" } : Jvm.MethodName)) ∈ lw_all := lw_g (lw_at lw_m3 163 rfl) rfl
theorem q2783 : (Jvm.Cond.sameMethod "java/lang/AbstractStringBuilder" "java/lang/AbstractStringBuilder" "append" "(Ljava/lang/String;)Ljava/lang/AbstractStringBuilder;") ∈ lw_all := lw_g (lw_at lw_m12 20 rfl) rfl
theorem q2784 : (Jvm.Cond.sameMethod "java/lang/AbstractStringBuilder" "java/lang/AbstractStringBuilder" "appendNull" "()Ljava/lang/AbstractStringBuilder;") ∈ lw_all := lw_g (lw_at lw_m12 21 rfl) rfl
theorem q2785 : (Jvm.Cond.sameMethod "java/lang/AbstractStringBuilder" "java/lang/AbstractStringBuilder" "ensureCapacityInternal" "(I)V") ∈ lw_all := lw_g (lw_at lw_m12 22 rfl) rfl
theorem q2786 : (Jvm.Cond.sameMethod "java/lang/AbstractStringBuilder" "java/lang/AbstractStringBuilder" "newCapacity" "(I)I") ∈ lw_all := lw_g (lw_at lw_m12 23 rfl) rfl
theorem q2787 : (Jvm.Cond.sameMethod "java/lang/AbstractStringBuilder" "java/lang/AbstractStringBuilder" "putStringAt" "(ILjava/lang/String;)V") ∈ lw_all := lw_g (lw_at lw_m12 24 rfl) rfl
theorem q2788 : (Jvm.Cond.sameMethod "java/lang/AbstractStringBuilder" "java/lang/AbstractStringBuilder" "inflateIfNeededFor" "(Ljava/lang/String;)V") ∈ lw_all := lw_g (lw_at lw_m12 25 rfl) rfl
theorem q2789 : (Jvm.Cond.sameMethod "java/lang/AbstractStringBuilder" "java/lang/AbstractStringBuilder" "inflate" "()V") ∈ lw_all := lw_g (lw_at lw_m12 26 rfl) rfl
theorem q2790 : (Jvm.Cond.sameMethod "java/lang/AbstractStringBuilder" "java/lang/AbstractStringBuilder" "append" "(I)Ljava/lang/AbstractStringBuilder;") ∈ lw_all := lw_g (lw_at lw_m12 27 rfl) rfl
theorem q2791 : (Jvm.Cond.sameMethod "java/lang/AbstractStringBuilder" "java/lang/AbstractStringBuilder" "append" "(C)Ljava/lang/AbstractStringBuilder;") ∈ lw_all := lw_g (lw_at lw_m12 28 rfl) rfl
def RJ8 : String := "java/lang/StringBuilder"
def TJ8 : u_T := fun k => match k with
  | 0 => ("java/lang/AbstractStringBuilder", "value", "[B", false)
  | 1 => ("java/lang/AbstractStringBuilder", "coder", "B", false)
  | 2 => ("java/lang/AbstractStringBuilder", "maybeLatin1", "Z", false)
  | _ => ("java/lang/AbstractStringBuilder", "count", "I", false)
def tyJ8 : Nat → FieldType := fun k => match k with
  | 0 => .array .byte
  | 1 => .byte
  | 2 => .boolean
  | _ => .int
abbrev wsJ80 : List Cond := u_ws RJ8 TJ8 4
theorem nmJ8 : ∀ a, a < 4 → ∀ b, b < 4 → a ≠ b → (TJ8 a).2.1 ≠ (TJ8 b).2.1 := by decide +kernel
theorem tyJ8_ok : ∀ k, k < 4 → parseFieldDescriptor (TJ8 k).2.2.1 = some (tyJ8 k) := by decide +kernel
theorem q134 : (Jvm.Cond.initialized "java/lang/StringBuilder") ∈ lw_all := lw_g (lw_at lw_m1 11 rfl) rfl
theorem q240 : (Jvm.Cond.instantiable "java/lang/StringBuilder" (4 : Nat)) ∈ lw_all := lw_g (lw_at lw_m1 117 rfl) rfl
theorem q242 : (Jvm.Cond.instanceMethod ({ cls := "java/lang/StringBuilder", name := "<init>", desc := "()V" } : Jvm.MethodName)) ∈ lw_all := lw_g (lw_at lw_m1 119 rfl) rfl
theorem q243 : (Jvm.Cond.code ({ cls := "java/lang/StringBuilder", name := "<init>", desc := "()V" } : Jvm.MethodName) prog_38_method_1_code (1 : Nat) (Option.none : Option Jvm.ClassFile.FieldType)) ∈ lw_all := lw_g (lw_at lw_m1 120 rfl) rfl
theorem q244 : (Jvm.Cond.methodLink "java/lang/StringBuilder" (1 : Nat) ({ cls := "java/lang/AbstractStringBuilder", name := "<init>", desc := "(I)V" } : Jvm.MethodName)) ∈ lw_all := lw_g (lw_at lw_m1 121 rfl) rfl
theorem q261 : (Jvm.Cond.lays "java/lang/StringBuilder" "java/lang/AbstractStringBuilder" "value" "[B") ∈ lw_all := lw_g (lw_at lw_m1 138 rfl) rfl
theorem q263 : (Jvm.Cond.lays "java/lang/StringBuilder" "java/lang/AbstractStringBuilder" "coder" "B") ∈ lw_all := lw_g (lw_at lw_m1 140 rfl) rfl
theorem q265 : (Jvm.Cond.lays "java/lang/StringBuilder" "java/lang/AbstractStringBuilder" "maybeLatin1" "Z") ∈ lw_all := lw_g (lw_at lw_m1 142 rfl) rfl
theorem q267 : (Jvm.Cond.lays "java/lang/StringBuilder" "java/lang/AbstractStringBuilder" "count" "I") ∈ lw_all := lw_g (lw_at lw_m1 144 rfl) rfl
theorem q269 : (Jvm.Cond.superclass "java/lang/StringBuilder" "java/lang/AbstractStringBuilder") ∈ lw_all := lw_g (lw_at lw_m1 146 rfl) rfl
theorem q273 : (Jvm.Cond.instanceMethod ({ cls := "java/lang/StringBuilder", name := "append", desc := "(Ljava/lang/String;)Ljava/lang/StringBuilder;" } : Jvm.MethodName)) ∈ lw_all := lw_g (lw_at lw_m1 150 rfl) rfl
theorem q274 : (Jvm.Cond.selects "java/lang/StringBuilder" ({ cls := "java/lang/StringBuilder", name := "append", desc := "(Ljava/lang/String;)Ljava/lang/StringBuilder;" } : Jvm.MethodName) ({ cls := "java/lang/StringBuilder", name := "append", desc := "(Ljava/lang/String;)Ljava/lang/StringBuilder;" } : Jvm.MethodName)) ∈ lw_all := lw_g (lw_at lw_m1 151 rfl) rfl
theorem q275 : (Jvm.Cond.code ({ cls := "java/lang/StringBuilder", name := "append", desc := "(Ljava/lang/String;)Ljava/lang/StringBuilder;" } : Jvm.MethodName) prog_38_method_7_code (2 : Nat) (Option.some (Jvm.ClassFile.FieldType.object "java/lang/StringBuilder"))) ∈ lw_all := lw_g (lw_at lw_m1 152 rfl) rfl
theorem q276 : (Jvm.Cond.methodLink "java/lang/StringBuilder" (29 : Nat) ({ cls := "java/lang/AbstractStringBuilder", name := "append", desc := "(Ljava/lang/String;)Ljava/lang/AbstractStringBuilder;" } : Jvm.MethodName)) ∈ lw_all := lw_g (lw_at lw_m1 153 rfl) rfl
theorem q321 : (Jvm.Cond.selects "java/lang/StringBuilder" ({ cls := "java/lang/AbstractStringBuilder", name := "isLatin1", desc := "()Z" } : Jvm.MethodName) ({ cls := "java/lang/AbstractStringBuilder", name := "isLatin1", desc := "()Z" } : Jvm.MethodName)) ∈ lw_all := lw_g (lw_at lw_m1 198 rfl) rfl
theorem q393 : (Jvm.Cond.instanceMethod ({ cls := "java/lang/StringBuilder", name := "append", desc := "(I)Ljava/lang/StringBuilder;" } : Jvm.MethodName)) ∈ lw_all := lw_g (lw_at lw_m2 30 rfl) rfl
theorem q394 : (Jvm.Cond.selects "java/lang/StringBuilder" ({ cls := "java/lang/StringBuilder", name := "append", desc := "(I)Ljava/lang/StringBuilder;" } : Jvm.MethodName) ({ cls := "java/lang/StringBuilder", name := "append", desc := "(I)Ljava/lang/StringBuilder;" } : Jvm.MethodName)) ∈ lw_all := lw_g (lw_at lw_m2 31 rfl) rfl
theorem q395 : (Jvm.Cond.code ({ cls := "java/lang/StringBuilder", name := "append", desc := "(I)Ljava/lang/StringBuilder;" } : Jvm.MethodName) prog_38_method_15_code (2 : Nat) (Option.some (Jvm.ClassFile.FieldType.object "java/lang/StringBuilder"))) ∈ lw_all := lw_g (lw_at lw_m2 32 rfl) rfl
theorem q396 : (Jvm.Cond.methodLink "java/lang/StringBuilder" (53 : Nat) ({ cls := "java/lang/AbstractStringBuilder", name := "append", desc := "(I)Ljava/lang/AbstractStringBuilder;" } : Jvm.MethodName)) ∈ lw_all := lw_g (lw_at lw_m2 33 rfl) rfl
theorem q418 : (Jvm.Cond.instanceMethod ({ cls := "java/lang/StringBuilder", name := "toString", desc := "()Ljava/lang/String;" } : Jvm.MethodName)) ∈ lw_all := lw_g (lw_at lw_m2 55 rfl) rfl
theorem q419 : (Jvm.Cond.selects "java/lang/StringBuilder" ({ cls := "java/lang/StringBuilder", name := "toString", desc := "()Ljava/lang/String;" } : Jvm.MethodName) ({ cls := "java/lang/StringBuilder", name := "toString", desc := "()Ljava/lang/String;" } : Jvm.MethodName)) ∈ lw_all := lw_g (lw_at lw_m2 56 rfl) rfl
theorem q420 : (Jvm.Cond.code ({ cls := "java/lang/StringBuilder", name := "toString", desc := "()Ljava/lang/String;" } : Jvm.MethodName) prog_38_method_42_code (1 : Nat) (Option.some (Jvm.ClassFile.FieldType.object "java/lang/String"))) ∈ lw_all := lw_g (lw_at lw_m2 57 rfl) rfl
theorem q421 : (Jvm.Cond.classLink "java/lang/StringBuilder" (18 : Nat) "java/lang/String") ∈ lw_all := lw_g (lw_at lw_m2 58 rfl) rfl
theorem q423 : (Jvm.Cond.methodLink "java/lang/StringBuilder" (137 : Nat) ({ cls := "java/lang/String", name := "<init>", desc := "(Ljava/lang/StringBuilder;)V" } : Jvm.MethodName)) ∈ lw_all := lw_g (lw_at lw_m2 60 rfl) rfl
theorem q433 : (Jvm.Cond.selects "java/lang/StringBuilder" ({ cls := "java/lang/AbstractStringBuilder", name := "getValue", desc := "()[B" } : Jvm.MethodName) ({ cls := "java/lang/AbstractStringBuilder", name := "getValue", desc := "()[B" } : Jvm.MethodName)) ∈ lw_all := lw_g (lw_at lw_m2 70 rfl) rfl
theorem q438 : (Jvm.Cond.selects "java/lang/StringBuilder" ({ cls := "java/lang/AbstractStringBuilder", name := "length", desc := "()I" } : Jvm.MethodName) ({ cls := "java/lang/StringBuilder", name := "length", desc := "()I" } : Jvm.MethodName)) ∈ lw_all := lw_g (lw_at lw_m2 75 rfl) rfl
theorem q439 : (Jvm.Cond.instanceMethod ({ cls := "java/lang/StringBuilder", name := "length", desc := "()I" } : Jvm.MethodName)) ∈ lw_all := lw_g (lw_at lw_m2 76 rfl) rfl
theorem q440 : (Jvm.Cond.code ({ cls := "java/lang/StringBuilder", name := "length", desc := "()I" } : Jvm.MethodName) prog_38_method_93_code (1 : Nat) (Option.some Jvm.ClassFile.FieldType.int)) ∈ lw_all := lw_g (lw_at lw_m2 77 rfl) rfl
theorem q441 : (Jvm.Cond.methodLink "java/lang/StringBuilder" (343 : Nat) ({ cls := "java/lang/AbstractStringBuilder", name := "length", desc := "()I" } : Jvm.MethodName)) ∈ lw_all := lw_g (lw_at lw_m2 78 rfl) rfl
theorem q675 : (Jvm.Cond.selects "java/lang/StringBuilder" ({ cls := "java/lang/Object", name := "getClass", desc := "()Ljava/lang/Class;" } : Jvm.MethodName) ({ cls := "java/lang/Object", name := "getClass", desc := "()Ljava/lang/Class;" } : Jvm.MethodName)) ∈ lw_all := lw_g (lw_at lw_m3 72 rfl) rfl
theorem q757 : (Jvm.Cond.instanceMethod ({ cls := "java/lang/StringBuilder", name := "append", desc := "(C)Ljava/lang/StringBuilder;" } : Jvm.MethodName)) ∈ lw_all := lw_g (lw_at lw_m3 154 rfl) rfl
theorem q758 : (Jvm.Cond.selects "java/lang/StringBuilder" ({ cls := "java/lang/StringBuilder", name := "append", desc := "(C)Ljava/lang/StringBuilder;" } : Jvm.MethodName) ({ cls := "java/lang/StringBuilder", name := "append", desc := "(C)Ljava/lang/StringBuilder;" } : Jvm.MethodName)) ∈ lw_all := lw_g (lw_at lw_m3 155 rfl) rfl
theorem q759 : (Jvm.Cond.code ({ cls := "java/lang/StringBuilder", name := "append", desc := "(C)Ljava/lang/StringBuilder;" } : Jvm.MethodName) prog_38_method_14_code (2 : Nat) (Option.some (Jvm.ClassFile.FieldType.object "java/lang/StringBuilder"))) ∈ lw_all := lw_g (lw_at lw_m3 156 rfl) rfl
theorem q760 : (Jvm.Cond.methodLink "java/lang/StringBuilder" (50 : Nat) ({ cls := "java/lang/AbstractStringBuilder", name := "append", desc := "(C)Ljava/lang/AbstractStringBuilder;" } : Jvm.MethodName)) ∈ lw_all := lw_g (lw_at lw_m3 157 rfl) rfl
theorem q828 : (Jvm.Cond.selects "java/lang/StringBuilder" ({ cls := "java/lang/Object", name := "equals", desc := "(Ljava/lang/Object;)Z" } : Jvm.MethodName) ({ cls := "java/lang/Object", name := "equals", desc := "(Ljava/lang/Object;)Z" } : Jvm.MethodName)) ∈ lw_all := lw_g (lw_at lw_m3 225 rfl) rfl
theorem q2799 : (Jvm.Cond.castable "java/lang/StringBuilder" "java/lang/Object") ∈ lw_tbl := lw_at lw_m12 36 rfl
theorem in_J8 : ∀ w ∈ wsJ80, w ∈ lw_all := lw_in wsJ80 [261, 263, 265, 267] (by decide +kernel) (by decide +kernel)
def RJ9 : String := "java/lang/String"
def TJ9 : u_T := fun k => match k with
  | 0 => ("java/lang/String", "value", "[B", true)
  | 1 => ("java/lang/String", "coder", "B", true)
  | 2 => ("java/lang/String", "hash", "I", false)
  | _ => ("java/lang/String", "hashIsZero", "Z", false)
def tyJ9 : Nat → FieldType := fun k => match k with
  | 0 => .array .byte
  | 1 => .byte
  | 2 => .int
  | _ => .boolean
abbrev wsJ90 : List Cond := u_ws RJ9 TJ9 4
theorem nmJ9 : ∀ a, a < 4 → ∀ b, b < 4 → a ≠ b → (TJ9 a).2.1 ≠ (TJ9 b).2.1 := by decide +kernel
theorem tyJ9_ok : ∀ k, k < 4 → parseFieldDescriptor (TJ9 k).2.2.1 = some (tyJ9 k) := by decide +kernel
theorem q135 : (Jvm.Cond.initialized "java/lang/String") ∈ lw_all := lw_g (lw_at lw_m1 12 rfl) rfl
theorem q249 : (Jvm.Cond.laysStatic "java/lang/String" "COMPACT_STRINGS" "Z") ∈ lw_tbl := lw_at lw_m1 126 rfl
theorem q259 : (Jvm.Cond.fieldLink "java/lang/String" (1048 : Nat) "java/lang/AbstractStringBuilder" "maybeLatin1" "Z") ∈ lw_all := lw_g (lw_at lw_m1 136 rfl) rfl
theorem q333 : (Jvm.Cond.static ({ cls := "java/lang/String", name := "checkBoundsBeginEnd", desc := "(III)V" } : Jvm.MethodName)) ∈ lw_all := lw_g (lw_at lw_m1 210 rfl) rfl
theorem q334 : (Jvm.Cond.code ({ cls := "java/lang/String", name := "checkBoundsBeginEnd", desc := "(III)V" } : Jvm.MethodName) prog_37_method_158_code (3 : Nat) (Option.none : Option Jvm.ClassFile.FieldType)) ∈ lw_all := lw_g (lw_at lw_m1 211 rfl) rfl
theorem q335 : (Jvm.Cond.fieldLink "java/lang/String" (1053 : Nat) "jdk/internal/util/Preconditions" "SIOOBE_FORMATTER" "Ljava/util/function/BiFunction;") ∈ lw_all := lw_g (lw_at lw_m1 212 rfl) rfl
theorem q337 : (Jvm.Cond.methodLink "java/lang/String" (1062 : Nat) ({ cls := "jdk/internal/util/Preconditions", name := "checkFromToIndex", desc := "(IIILjava/util/function/BiFunction;)I" } : Jvm.MethodName)) ∈ lw_all := lw_g (lw_at lw_m1 214 rfl) rfl
theorem q350 : (Jvm.Cond.instanceMethod ({ cls := "java/lang/String", name := "length", desc := "()I" } : Jvm.MethodName)) ∈ lw_all := lw_g (lw_at lw_m1 227 rfl) rfl
theorem q351 : (Jvm.Cond.selects "java/lang/String" ({ cls := "java/lang/String", name := "length", desc := "()I" } : Jvm.MethodName) ({ cls := "java/lang/String", name := "length", desc := "()I" } : Jvm.MethodName)) ∈ lw_all := lw_g (lw_at lw_m1 228 rfl) rfl
theorem q352 : (Jvm.Cond.code ({ cls := "java/lang/String", name := "length", desc := "()I" } : Jvm.MethodName) prog_37_method_54_code (1 : Nat) (Option.some Jvm.ClassFile.FieldType.int)) ∈ lw_all := lw_g (lw_at lw_m1 229 rfl) rfl
theorem q353 : (Jvm.Cond.methodLink "java/lang/String" (335 : Nat) ({ cls := "java/lang/String", name := "coder", desc := "()B" } : Jvm.MethodName)) ∈ lw_all := lw_g (lw_at lw_m1 230 rfl) rfl
theorem q354 : (Jvm.Cond.instanceMethod ({ cls := "java/lang/String", name := "coder", desc := "()B" } : Jvm.MethodName)) ∈ lw_all := lw_g (lw_at lw_m1 231 rfl) rfl
theorem q355 : (Jvm.Cond.selects "java/lang/String" ({ cls := "java/lang/String", name := "coder", desc := "()B" } : Jvm.MethodName) ({ cls := "java/lang/String", name := "coder", desc := "()B" } : Jvm.MethodName)) ∈ lw_all := lw_g (lw_at lw_m1 232 rfl) rfl
theorem q356 : (Jvm.Cond.code ({ cls := "java/lang/String", name := "coder", desc := "()B" } : Jvm.MethodName) prog_37_method_152_code (1 : Nat) (Option.some Jvm.ClassFile.FieldType.byte)) ∈ lw_all := lw_g (lw_at lw_m1 233 rfl) rfl
theorem q357 : (Jvm.Cond.fieldLink "java/lang/String" (38 : Nat) "java/lang/String" "COMPACT_STRINGS" "Z") ∈ lw_all := lw_g (lw_at lw_m1 234 rfl) rfl
theorem q381 : (Jvm.Cond.static ({ cls := "java/lang/String", name := "checkBoundsOffCount", desc := "(III)I" } : Jvm.MethodName)) ∈ lw_all := lw_g (lw_at lw_m2 18 rfl) rfl
theorem q382 : (Jvm.Cond.code ({ cls := "java/lang/String", name := "checkBoundsOffCount", desc := "(III)I" } : Jvm.MethodName) prog_37_method_157_code (3 : Nat) (Option.some Jvm.ClassFile.FieldType.int)) ∈ lw_all := lw_g (lw_at lw_m2 19 rfl) rfl
theorem q383 : (Jvm.Cond.methodLink "java/lang/String" (1065 : Nat) ({ cls := "jdk/internal/util/Preconditions", name := "checkFromIndexSize", desc := "(IIILjava/util/function/BiFunction;)I" } : Jvm.MethodName)) ∈ lw_all := lw_g (lw_at lw_m2 20 rfl) rfl
theorem q387 : (Jvm.Cond.instanceMethod ({ cls := "java/lang/String", name := "getBytes", desc := "([BIB)V" } : Jvm.MethodName)) ∈ lw_all := lw_g (lw_at lw_m2 24 rfl) rfl
theorem q388 : (Jvm.Cond.selects "java/lang/String" ({ cls := "java/lang/String", name := "getBytes", desc := "([BIB)V" } : Jvm.MethodName) ({ cls := "java/lang/String", name := "getBytes", desc := "([BIB)V" } : Jvm.MethodName)) ∈ lw_all := lw_g (lw_at lw_m2 25 rfl) rfl
theorem q389 : (Jvm.Cond.code ({ cls := "java/lang/String", name := "getBytes", desc := "([BIB)V" } : Jvm.MethodName) prog_37_method_147_code (4 : Nat) (Option.none : Option Jvm.ClassFile.FieldType)) ∈ lw_all := lw_g (lw_at lw_m2 26 rfl) rfl
theorem q390 : (Jvm.Cond.methodLink "java/lang/String" (212 : Nat) ({ cls := "java/lang/System", name := "arraycopy", desc := "(Ljava/lang/Object;ILjava/lang/Object;II)V" } : Jvm.MethodName)) ∈ lw_all := lw_g (lw_at lw_m2 27 rfl) rfl
theorem q391 : (Jvm.Cond.methodLink "java/lang/String" (106 : Nat) ({ cls := "java/lang/StringLatin1", name := "inflate", desc := "([BI[BII)V" } : Jvm.MethodName)) ∈ lw_all := lw_g (lw_at lw_m2 28 rfl) rfl
theorem q422 : (Jvm.Cond.instantiable "java/lang/String" (4 : Nat)) ∈ lw_all := lw_g (lw_at lw_m2 59 rfl) rfl
theorem q424 : (Jvm.Cond.instanceMethod ({ cls := "java/lang/String", name := "<init>", desc := "(Ljava/lang/StringBuilder;)V" } : Jvm.MethodName)) ∈ lw_all := lw_g (lw_at lw_m2 61 rfl) rfl
theorem q425 : (Jvm.Cond.code ({ cls := "java/lang/String", name := "<init>", desc := "(Ljava/lang/StringBuilder;)V" } : Jvm.MethodName) prog_37_method_53_code (2 : Nat) (Option.none : Option Jvm.ClassFile.FieldType)) ∈ lw_all := lw_g (lw_at lw_m2 62 rfl) rfl
theorem q426 : (Jvm.Cond.methodLink "java/lang/String" (489 : Nat) ({ cls := "java/lang/String", name := "<init>", desc := "(Ljava/lang/AbstractStringBuilder;Ljava/lang/Void;)V" } : Jvm.MethodName)) ∈ lw_all := lw_g (lw_at lw_m2 63 rfl) rfl
theorem q427 : (Jvm.Cond.instanceMethod ({ cls := "java/lang/String", name := "<init>", desc := "(Ljava/lang/AbstractStringBuilder;Ljava/lang/Void;)V" } : Jvm.MethodName)) ∈ lw_all := lw_g (lw_at lw_m2 64 rfl) rfl
theorem q428 : (Jvm.Cond.code ({ cls := "java/lang/String", name := "<init>", desc := "(Ljava/lang/AbstractStringBuilder;Ljava/lang/Void;)V" } : Jvm.MethodName) prog_37_method_150_code (5 : Nat) (Option.none : Option Jvm.ClassFile.FieldType)) ∈ lw_all := lw_g (lw_at lw_m2 65 rfl) rfl
theorem q429 : (Jvm.Cond.methodLink "java/lang/String" (1 : Nat) ({ cls := "java/lang/Object", name := "<init>", desc := "()V" } : Jvm.MethodName)) ∈ lw_all := lw_g (lw_at lw_m2 66 rfl) rfl
theorem q430 : (Jvm.Cond.methodLink "java/lang/String" (552 : Nat) ({ cls := "java/lang/AbstractStringBuilder", name := "getValue", desc := "()[B" } : Jvm.MethodName)) ∈ lw_all := lw_g (lw_at lw_m2 67 rfl) rfl
theorem q435 : (Jvm.Cond.methodLink "java/lang/String" (549 : Nat) ({ cls := "java/lang/AbstractStringBuilder", name := "length", desc := "()I" } : Jvm.MethodName)) ∈ lw_all := lw_g (lw_at lw_m2 72 rfl) rfl
theorem q443 : (Jvm.Cond.methodLink "java/lang/String" (1047 : Nat) ({ cls := "java/lang/AbstractStringBuilder", name := "isLatin1", desc := "()Z" } : Jvm.MethodName)) ∈ lw_all := lw_g (lw_at lw_m2 80 rfl) rfl
theorem q444 : (Jvm.Cond.methodLink "java/lang/String" (54 : Nat) ({ cls := "java/util/Arrays", name := "copyOfRange", desc := "([BII)[B" } : Jvm.MethodName)) ∈ lw_all := lw_g (lw_at lw_m2 81 rfl) rfl
theorem q485 : (Jvm.Cond.methodLink "java/lang/String" (1051 : Nat) ({ cls := "java/lang/StringUTF16", name := "compress", desc := "([BII)[B" } : Jvm.MethodName)) ∈ lw_all := lw_g (lw_at lw_m2 122 rfl) rfl
theorem q495 : (Jvm.Cond.methodLink "java/lang/String" (47 : Nat) ({ cls := "java/lang/StringUTF16", name := "coderFromArrayLen", desc := "([BI)B" } : Jvm.MethodName)) ∈ lw_all := lw_g (lw_at lw_m2 132 rfl) rfl
theorem q498 : (Jvm.Cond.fieldLink "java/lang/String" (9 : Nat) "java/lang/String" "value" "[B") ∈ lw_all := lw_g (lw_at lw_m2 135 rfl) rfl
theorem q499 : (Jvm.Cond.fieldLink "java/lang/String" (15 : Nat) "java/lang/String" "coder" "B") ∈ lw_all := lw_g (lw_at lw_m2 136 rfl) rfl
theorem q500 : (Jvm.Cond.laysFinal "java/lang/String" "java/lang/String" "value" "[B") ∈ lw_all := lw_g (lw_at lw_m2 137 rfl) rfl
theorem q501 : (Jvm.Cond.soleField "java/lang/String" "value") ∈ lw_all := lw_g (lw_at lw_m2 138 rfl) rfl
theorem q502 : (Jvm.Cond.laysFinal "java/lang/String" "java/lang/String" "coder" "B") ∈ lw_all := lw_g (lw_at lw_m2 139 rfl) rfl
theorem q503 : (Jvm.Cond.soleField "java/lang/String" "coder") ∈ lw_all := lw_g (lw_at lw_m2 140 rfl) rfl
theorem q504 : (Jvm.Cond.lays "java/lang/String" "java/lang/String" "hash" "I") ∈ lw_all := lw_g (lw_at lw_m2 141 rfl) rfl
theorem q505 : (Jvm.Cond.soleField "java/lang/String" "hash") ∈ lw_all := lw_g (lw_at lw_m2 142 rfl) rfl
theorem q506 : (Jvm.Cond.lays "java/lang/String" "java/lang/String" "hashIsZero" "Z") ∈ lw_all := lw_g (lw_at lw_m2 143 rfl) rfl
theorem q507 : (Jvm.Cond.soleField "java/lang/String" "hashIsZero") ∈ lw_all := lw_g (lw_at lw_m2 144 rfl) rfl
theorem q508 : (Jvm.Cond.superclass "java/lang/String" "java/lang/Object") ∈ lw_all := lw_g (lw_at lw_m2 145 rfl) rfl
theorem q674 : (Jvm.Cond.selects "java/lang/String" ({ cls := "java/lang/Object", name := "getClass", desc := "()Ljava/lang/Class;" } : Jvm.MethodName) ({ cls := "java/lang/Object", name := "getClass", desc := "()Ljava/lang/Class;" } : Jvm.MethodName)) ∈ lw_all := lw_g (lw_at lw_m3 71 rfl) rfl
theorem q773 : (Jvm.Cond.static ({ cls := "java/lang/String", name := "checkIndex", desc := "(II)V" } : Jvm.MethodName)) ∈ lw_all := lw_g (lw_at lw_m3 170 rfl) rfl
theorem q774 : (Jvm.Cond.code ({ cls := "java/lang/String", name := "checkIndex", desc := "(II)V" } : Jvm.MethodName) prog_37_method_155_code (2 : Nat) (Option.none : Option Jvm.ClassFile.FieldType)) ∈ lw_all := lw_g (lw_at lw_m3 171 rfl) rfl
theorem q775 : (Jvm.Cond.methodLink "java/lang/String" (1059 : Nat) ({ cls := "jdk/internal/util/Preconditions", name := "checkIndex", desc := "(IILjava/util/function/BiFunction;)I" } : Jvm.MethodName)) ∈ lw_all := lw_g (lw_at lw_m3 172 rfl) rfl
theorem q821 : (Jvm.Cond.selects "java/lang/String" ({ cls := "java/lang/Object", name := "equals", desc := "(Ljava/lang/Object;)Z" } : Jvm.MethodName) ({ cls := "java/lang/String", name := "equals", desc := "(Ljava/lang/Object;)Z" } : Jvm.MethodName)) ∈ lw_all := lw_g (lw_at lw_m3 218 rfl) rfl
theorem q822 : (Jvm.Cond.instanceMethod ({ cls := "java/lang/String", name := "equals", desc := "(Ljava/lang/Object;)Z" } : Jvm.MethodName)) ∈ lw_all := lw_g (lw_at lw_m3 219 rfl) rfl
theorem q823 : (Jvm.Cond.code ({ cls := "java/lang/String", name := "equals", desc := "(Ljava/lang/Object;)Z" } : Jvm.MethodName) prog_37_method_66_code (3 : Nat) (Option.some Jvm.ClassFile.FieldType.boolean)) ∈ lw_all := lw_g (lw_at lw_m3 220 rfl) rfl
theorem q824 : (Jvm.Cond.classLink "java/lang/String" (10 : Nat) "java/lang/String") ∈ lw_all := lw_g (lw_at lw_m3 221 rfl) rfl
theorem q825 : (Jvm.Cond.methodLink "java/lang/String" (541 : Nat) ({ cls := "java/lang/StringLatin1", name := "equals", desc := "([B[B)Z" } : Jvm.MethodName)) ∈ lw_all := lw_g (lw_at lw_m3 222 rfl) rfl
theorem q2800 : (Jvm.Cond.castable "java/lang/String" "java/lang/Object") ∈ lw_tbl := lw_at lw_m12 37 rfl
theorem in_J9 : ∀ w ∈ wsJ90, w ∈ lw_all := lw_in wsJ90 [500, 502, 504, 506] (by decide +kernel) (by decide +kernel)
def RJ10 : String := "java/lang/StringUTF16"
theorem q136 : (Jvm.Cond.initialized "java/lang/StringUTF16") ∈ lw_all := lw_g (lw_at lw_m1 13 rfl) rfl
theorem q251 : (Jvm.Cond.static ({ cls := "java/lang/StringUTF16", name := "newBytesFor", desc := "(I)[B" } : Jvm.MethodName)) ∈ lw_all := lw_g (lw_at lw_m1 128 rfl) rfl
theorem q252 : (Jvm.Cond.code ({ cls := "java/lang/StringUTF16", name := "newBytesFor", desc := "(I)[B" } : Jvm.MethodName) prog_40_method_2_code (1 : Nat) (Option.some (Jvm.ClassFile.FieldType.array Jvm.ClassFile.FieldType.byte))) ∈ lw_all := lw_g (lw_at lw_m1 129 rfl) rfl
theorem q253 : (Jvm.Cond.methodLink "java/lang/StringUTF16" (11 : Nat) ({ cls := "java/lang/StringUTF16", name := "newBytesLength", desc := "(I)I" } : Jvm.MethodName)) ∈ lw_all := lw_g (lw_at lw_m1 130 rfl) rfl
theorem q254 : (Jvm.Cond.static ({ cls := "java/lang/StringUTF16", name := "newBytesLength", desc := "(I)I" } : Jvm.MethodName)) ∈ lw_all := lw_g (lw_at lw_m1 131 rfl) rfl
theorem q255 : (Jvm.Cond.code ({ cls := "java/lang/StringUTF16", name := "newBytesLength", desc := "(I)I" } : Jvm.MethodName) prog_40_method_3_code (1 : Nat) (Option.some Jvm.ClassFile.FieldType.int)) ∈ lw_all := lw_g (lw_at lw_m1 132 rfl) rfl
theorem q256 : (Jvm.Cond.constant "java/lang/StringUTF16" (20 : Nat) (1073741823 : Int32)) ∈ lw_all := lw_g (lw_at lw_m1 133 rfl) rfl
theorem q324 : (Jvm.Cond.static ({ cls := "java/lang/StringUTF16", name := "putCharsAt", desc := "([BICCCC)I" } : Jvm.MethodName)) ∈ lw_all := lw_g (lw_at lw_m1 201 rfl) rfl
theorem q325 : (Jvm.Cond.code ({ cls := "java/lang/StringUTF16", name := "putCharsAt", desc := "([BICCCC)I" } : Jvm.MethodName) prog_40_method_81_code (7 : Nat) (Option.some Jvm.ClassFile.FieldType.int)) ∈ lw_all := lw_g (lw_at lw_m1 202 rfl) rfl
theorem q326 : (Jvm.Cond.methodLink "java/lang/StringUTF16" (96 : Nat) ({ cls := "java/lang/StringUTF16", name := "checkBoundsBeginEnd", desc := "(II[B)V" } : Jvm.MethodName)) ∈ lw_all := lw_g (lw_at lw_m1 203 rfl) rfl
theorem q327 : (Jvm.Cond.static ({ cls := "java/lang/StringUTF16", name := "checkBoundsBeginEnd", desc := "(II[B)V" } : Jvm.MethodName)) ∈ lw_all := lw_g (lw_at lw_m1 204 rfl) rfl
theorem q328 : (Jvm.Cond.code ({ cls := "java/lang/StringUTF16", name := "checkBoundsBeginEnd", desc := "(II[B)V" } : Jvm.MethodName) prog_40_method_93_code (3 : Nat) (Option.none : Option Jvm.ClassFile.FieldType)) ∈ lw_all := lw_g (lw_at lw_m1 205 rfl) rfl
theorem q329 : (Jvm.Cond.methodLink "java/lang/StringUTF16" (48 : Nat) ({ cls := "java/lang/StringUTF16", name := "length", desc := "([B)I" } : Jvm.MethodName)) ∈ lw_all := lw_g (lw_at lw_m1 206 rfl) rfl
theorem q330 : (Jvm.Cond.static ({ cls := "java/lang/StringUTF16", name := "length", desc := "([B)I" } : Jvm.MethodName)) ∈ lw_all := lw_g (lw_at lw_m1 207 rfl) rfl
theorem q331 : (Jvm.Cond.code ({ cls := "java/lang/StringUTF16", name := "length", desc := "([B)I" } : Jvm.MethodName) prog_40_method_6_code (1 : Nat) (Option.some Jvm.ClassFile.FieldType.int)) ∈ lw_all := lw_g (lw_at lw_m1 208 rfl) rfl
theorem q332 : (Jvm.Cond.methodLink "java/lang/StringUTF16" (241 : Nat) ({ cls := "java/lang/String", name := "checkBoundsBeginEnd", desc := "(III)V" } : Jvm.MethodName)) ∈ lw_all := lw_g (lw_at lw_m1 209 rfl) rfl
theorem q340 : (Jvm.Cond.methodLink "java/lang/StringUTF16" (111 : Nat) ({ cls := "java/lang/StringUTF16", name := "putChar", desc := "([BII)V" } : Jvm.MethodName)) ∈ lw_all := lw_g (lw_at lw_m1 217 rfl) rfl
theorem q341 : (Jvm.Cond.static ({ cls := "java/lang/StringUTF16", name := "putChar", desc := "([BII)V" } : Jvm.MethodName)) ∈ lw_all := lw_g (lw_at lw_m1 218 rfl) rfl
theorem q342 : (Jvm.Cond.code ({ cls := "java/lang/StringUTF16", name := "putChar", desc := "([BII)V" } : Jvm.MethodName) prog_40_method_4_code (3 : Nat) (Option.none : Option Jvm.ClassFile.FieldType)) ∈ lw_all := lw_g (lw_at lw_m1 219 rfl) rfl
theorem q343 : (Jvm.Cond.fieldLink "java/lang/StringUTF16" (44 : Nat) "java/lang/StringUTF16" "$assertionsDisabled" "Z") ∈ lw_all := lw_g (lw_at lw_m1 220 rfl) rfl
theorem q344 : (Jvm.Cond.laysStatic "java/lang/StringUTF16" "$assertionsDisabled" "Z") ∈ lw_tbl := lw_at lw_m1 221 rfl
theorem q345 : (Jvm.Cond.fieldLink "java/lang/StringUTF16" (59 : Nat) "java/lang/StringUTF16" "HI_BYTE_SHIFT" "I") ∈ lw_all := lw_g (lw_at lw_m1 222 rfl) rfl
theorem q346 : (Jvm.Cond.laysStatic "java/lang/StringUTF16" "HI_BYTE_SHIFT" "I") ∈ lw_tbl := lw_at lw_m1 223 rfl
theorem q347 : (Jvm.Cond.fieldLink "java/lang/StringUTF16" (63 : Nat) "java/lang/StringUTF16" "LO_BYTE_SHIFT" "I") ∈ lw_all := lw_g (lw_at lw_m1 224 rfl) rfl
theorem q348 : (Jvm.Cond.laysStatic "java/lang/StringUTF16" "LO_BYTE_SHIFT" "I") ∈ lw_tbl := lw_at lw_m1 225 rfl
theorem q375 : (Jvm.Cond.static ({ cls := "java/lang/StringUTF16", name := "inflate", desc := "([BI[BII)V" } : Jvm.MethodName)) ∈ lw_all := lw_g (lw_at lw_m2 12 rfl) rfl
theorem q376 : (Jvm.Cond.code ({ cls := "java/lang/StringUTF16", name := "inflate", desc := "([BI[BII)V" } : Jvm.MethodName) prog_40_method_86_code (6 : Nat) (Option.none : Option Jvm.ClassFile.FieldType)) ∈ lw_all := lw_g (lw_at lw_m2 13 rfl) rfl
theorem q377 : (Jvm.Cond.methodLink "java/lang/StringUTF16" (173 : Nat) ({ cls := "java/lang/StringUTF16", name := "checkBoundsOffCount", desc := "(II[B)V" } : Jvm.MethodName)) ∈ lw_all := lw_g (lw_at lw_m2 14 rfl) rfl
theorem q378 : (Jvm.Cond.static ({ cls := "java/lang/StringUTF16", name := "checkBoundsOffCount", desc := "(II[B)V" } : Jvm.MethodName)) ∈ lw_all := lw_g (lw_at lw_m2 15 rfl) rfl
theorem q379 : (Jvm.Cond.code ({ cls := "java/lang/StringUTF16", name := "checkBoundsOffCount", desc := "(II[B)V" } : Jvm.MethodName) prog_40_method_94_code (3 : Nat) (Option.none : Option Jvm.ClassFile.FieldType)) ∈ lw_all := lw_g (lw_at lw_m2 16 rfl) rfl
theorem q380 : (Jvm.Cond.methodLink "java/lang/StringUTF16" (419 : Nat) ({ cls := "java/lang/String", name := "checkBoundsOffCount", desc := "(III)I" } : Jvm.MethodName)) ∈ lw_all := lw_g (lw_at lw_m2 17 rfl) rfl
theorem q410 : (Jvm.Cond.static ({ cls := "java/lang/StringUTF16", name := "getChars", desc := "(III[B)I" } : Jvm.MethodName)) ∈ lw_all := lw_g (lw_at lw_m2 47 rfl) rfl
theorem q411 : (Jvm.Cond.code ({ cls := "java/lang/StringUTF16", name := "getChars", desc := "(III[B)I" } : Jvm.MethodName) prog_40_method_77_code (5 : Nat) (Option.some Jvm.ClassFile.FieldType.int)) ∈ lw_all := lw_g (lw_at lw_m2 48 rfl) rfl
theorem q412 : (Jvm.Cond.methodLink "java/lang/StringUTF16" (393 : Nat) ({ cls := "java/lang/StringUTF16", name := "getChars", desc := "(II[B)I" } : Jvm.MethodName)) ∈ lw_all := lw_g (lw_at lw_m2 49 rfl) rfl
theorem q413 : (Jvm.Cond.static ({ cls := "java/lang/StringUTF16", name := "getChars", desc := "(II[B)I" } : Jvm.MethodName)) ∈ lw_all := lw_g (lw_at lw_m2 50 rfl) rfl
theorem q414 : (Jvm.Cond.code ({ cls := "java/lang/StringUTF16", name := "getChars", desc := "(II[B)I" } : Jvm.MethodName) prog_40_method_89_code (7 : Nat) (Option.some Jvm.ClassFile.FieldType.int)) ∈ lw_all := lw_g (lw_at lw_m2 51 rfl) rfl
theorem q415 : (Jvm.Cond.fieldLink "java/lang/StringUTF16" (403 : Nat) "java/lang/Integer" "DigitOnes" "[B") ∈ lw_all := lw_g (lw_at lw_m2 52 rfl) rfl
theorem q416 : (Jvm.Cond.fieldLink "java/lang/StringUTF16" (407 : Nat) "java/lang/Integer" "DigitTens" "[B") ∈ lw_all := lw_g (lw_at lw_m2 53 rfl) rfl
theorem q486 : (Jvm.Cond.static ({ cls := "java/lang/StringUTF16", name := "compress", desc := "([BII)[B" } : Jvm.MethodName)) ∈ lw_all := lw_g (lw_at lw_m2 123 rfl) rfl
theorem q487 : (Jvm.Cond.code ({ cls := "java/lang/StringUTF16", name := "compress", desc := "([BII)[B" } : Jvm.MethodName) prog_40_method_17_code (6 : Nat) (Option.some (Jvm.ClassFile.FieldType.array Jvm.ClassFile.FieldType.byte))) ∈ lw_all := lw_g (lw_at lw_m2 124 rfl) rfl
theorem q488 : (Jvm.Cond.methodLink "java/lang/StringUTF16" (123 : Nat) ({ cls := "java/lang/StringUTF16", name := "compress", desc := "([BI[BII)I" } : Jvm.MethodName)) ∈ lw_all := lw_g (lw_at lw_m2 125 rfl) rfl
theorem q489 : (Jvm.Cond.static ({ cls := "java/lang/StringUTF16", name := "compress", desc := "([BI[BII)I" } : Jvm.MethodName)) ∈ lw_all := lw_g (lw_at lw_m2 126 rfl) rfl
theorem q490 : (Jvm.Cond.code ({ cls := "java/lang/StringUTF16", name := "compress", desc := "([BI[BII)I" } : Jvm.MethodName) prog_40_method_22_code (7 : Nat) (Option.some Jvm.ClassFile.FieldType.int)) ∈ lw_all := lw_g (lw_at lw_m2 127 rfl) rfl
theorem q491 : (Jvm.Cond.methodLink "java/lang/StringUTF16" (71 : Nat) ({ cls := "java/lang/StringUTF16", name := "getChar", desc := "([BI)C" } : Jvm.MethodName)) ∈ lw_all := lw_g (lw_at lw_m2 128 rfl) rfl
theorem q492 : (Jvm.Cond.static ({ cls := "java/lang/StringUTF16", name := "getChar", desc := "([BI)C" } : Jvm.MethodName)) ∈ lw_all := lw_g (lw_at lw_m2 129 rfl) rfl
theorem q493 : (Jvm.Cond.code ({ cls := "java/lang/StringUTF16", name := "getChar", desc := "([BI)C" } : Jvm.MethodName) prog_40_method_5_code (2 : Nat) (Option.some Jvm.ClassFile.FieldType.char)) ∈ lw_all := lw_g (lw_at lw_m2 130 rfl) rfl
theorem q494 : (Jvm.Cond.methodLink "java/lang/StringUTF16" (126 : Nat) ({ cls := "java/util/Arrays", name := "copyOfRange", desc := "([BII)[B" } : Jvm.MethodName)) ∈ lw_all := lw_g (lw_at lw_m2 131 rfl) rfl
theorem q496 : (Jvm.Cond.static ({ cls := "java/lang/StringUTF16", name := "coderFromArrayLen", desc := "([BI)B" } : Jvm.MethodName)) ∈ lw_all := lw_g (lw_at lw_m2 133 rfl) rfl
theorem q497 : (Jvm.Cond.code ({ cls := "java/lang/StringUTF16", name := "coderFromArrayLen", desc := "([BI)B" } : Jvm.MethodName) prog_40_method_15_code (2 : Nat) (Option.some Jvm.ClassFile.FieldType.byte)) ∈ lw_all := lw_g (lw_at lw_m2 134 rfl) rfl
theorem q767 : (Jvm.Cond.static ({ cls := "java/lang/StringUTF16", name := "putCharSB", desc := "([BII)V" } : Jvm.MethodName)) ∈ lw_all := lw_g (lw_at lw_m3 164 rfl) rfl
theorem q768 : (Jvm.Cond.code ({ cls := "java/lang/StringUTF16", name := "putCharSB", desc := "([BII)V" } : Jvm.MethodName) prog_40_method_71_code (3 : Nat) (Option.none : Option Jvm.ClassFile.FieldType)) ∈ lw_all := lw_g (lw_at lw_m3 165 rfl) rfl
theorem q769 : (Jvm.Cond.methodLink "java/lang/StringUTF16" (67 : Nat) ({ cls := "java/lang/StringUTF16", name := "checkIndex", desc := "(I[B)V" } : Jvm.MethodName)) ∈ lw_all := lw_g (lw_at lw_m3 166 rfl) rfl
theorem q770 : (Jvm.Cond.static ({ cls := "java/lang/StringUTF16", name := "checkIndex", desc := "(I[B)V" } : Jvm.MethodName)) ∈ lw_all := lw_g (lw_at lw_m3 167 rfl) rfl
theorem q771 : (Jvm.Cond.code ({ cls := "java/lang/StringUTF16", name := "checkIndex", desc := "(I[B)V" } : Jvm.MethodName) prog_40_method_91_code (2 : Nat) (Option.none : Option Jvm.ClassFile.FieldType)) ∈ lw_all := lw_g (lw_at lw_m3 168 rfl) rfl
theorem q772 : (Jvm.Cond.methodLink "java/lang/StringUTF16" (414 : Nat) ({ cls := "java/lang/String", name := "checkIndex", desc := "(II)V" } : Jvm.MethodName)) ∈ lw_all := lw_g (lw_at lw_m3 169 rfl) rfl
def RJ11 : String := "jdk/internal/util/ArraysSupport"
theorem q137 : (Jvm.Cond.initialized "jdk/internal/util/ArraysSupport") ∈ lw_all := lw_g (lw_at lw_m1 14 rfl) rfl
theorem q292 : (Jvm.Cond.static ({ cls := "jdk/internal/util/ArraysSupport", name := "newLength", desc := "(III)I" } : Jvm.MethodName)) ∈ lw_all := lw_g (lw_at lw_m1 169 rfl) rfl
theorem q293 : (Jvm.Cond.code ({ cls := "jdk/internal/util/ArraysSupport", name := "newLength", desc := "(III)I" } : Jvm.MethodName) prog_54_method_27_code (4 : Nat) (Option.some Jvm.ClassFile.FieldType.int)) ∈ lw_all := lw_g (lw_at lw_m1 170 rfl) rfl
theorem q294 : (Jvm.Cond.methodLink "jdk/internal/util/ArraysSupport" (194 : Nat) ({ cls := "java/lang/Math", name := "max", desc := "(II)I" } : Jvm.MethodName)) ∈ lw_all := lw_g (lw_at lw_m1 171 rfl) rfl
theorem q297 : (Jvm.Cond.constant "jdk/internal/util/ArraysSupport" (200 : Nat) (2147483639 : Int32)) ∈ lw_all := lw_g (lw_at lw_m1 174 rfl) rfl
theorem q298 : (Jvm.Cond.methodLink "jdk/internal/util/ArraysSupport" (201 : Nat) ({ cls := "jdk/internal/util/ArraysSupport", name := "hugeLength", desc := "(II)I" } : Jvm.MethodName)) ∈ lw_all := lw_g (lw_at lw_m1 175 rfl) rfl
theorem q299 : (Jvm.Cond.static ({ cls := "jdk/internal/util/ArraysSupport", name := "hugeLength", desc := "(II)I" } : Jvm.MethodName)) ∈ lw_all := lw_g (lw_at lw_m1 176 rfl) rfl
theorem q300 : (Jvm.Cond.code ({ cls := "jdk/internal/util/ArraysSupport", name := "hugeLength", desc := "(II)I" } : Jvm.MethodName) prog_54_method_28_code (3 : Nat) (Option.some Jvm.ClassFile.FieldType.int)) ∈ lw_all := lw_g (lw_at lw_m1 177 rfl) rfl
def RJ12 : String := "java/lang/Math"
theorem q138 : (Jvm.Cond.initialized "java/lang/Math") ∈ lw_all := lw_g (lw_at lw_m1 15 rfl) rfl
theorem q295 : (Jvm.Cond.static ({ cls := "java/lang/Math", name := "max", desc := "(II)I" } : Jvm.MethodName)) ∈ lw_all := lw_g (lw_at lw_m1 172 rfl) rfl
theorem q296 : (Jvm.Cond.code ({ cls := "java/lang/Math", name := "max", desc := "(II)I" } : Jvm.MethodName) prog_34_method_65_code (2 : Nat) (Option.some Jvm.ClassFile.FieldType.int)) ∈ lw_all := lw_g (lw_at lw_m1 173 rfl) rfl
theorem q313 : (Jvm.Cond.static ({ cls := "java/lang/Math", name := "min", desc := "(II)I" } : Jvm.MethodName)) ∈ lw_all := lw_g (lw_at lw_m1 190 rfl) rfl
theorem q314 : (Jvm.Cond.code ({ cls := "java/lang/Math", name := "min", desc := "(II)I" } : Jvm.MethodName) prog_34_method_69_code (2 : Nat) (Option.some Jvm.ClassFile.FieldType.int)) ∈ lw_all := lw_g (lw_at lw_m1 191 rfl) rfl
def RJ13 : String := "java/util/Arrays"
theorem q139 : (Jvm.Cond.initialized "java/util/Arrays") ∈ lw_all := lw_g (lw_at lw_m1 16 rfl) rfl
theorem q303 : (Jvm.Cond.static ({ cls := "java/util/Arrays", name := "copyOf", desc := "([BI)[B" } : Jvm.MethodName)) ∈ lw_all := lw_g (lw_at lw_m1 180 rfl) rfl
theorem q304 : (Jvm.Cond.code ({ cls := "java/util/Arrays", name := "copyOf", desc := "([BI)[B" } : Jvm.MethodName) prog_48_method_121_code (3 : Nat) (Option.some (Jvm.ClassFile.FieldType.array Jvm.ClassFile.FieldType.byte))) ∈ lw_all := lw_g (lw_at lw_m1 181 rfl) rfl
theorem q305 : (Jvm.Cond.methodLink "java/util/Arrays" (310 : Nat) ({ cls := "[B", name := "clone", desc := "()Ljava/lang/Object;" } : Jvm.MethodName)) ∈ lw_all := lw_g (lw_at lw_m1 182 rfl) rfl
theorem q311 : (Jvm.Cond.classLink "java/util/Arrays" (311 : Nat) "[B") ∈ lw_all := lw_g (lw_at lw_m1 188 rfl) rfl
theorem q312 : (Jvm.Cond.methodLink "java/util/Arrays" (304 : Nat) ({ cls := "java/lang/Math", name := "min", desc := "(II)I" } : Jvm.MethodName)) ∈ lw_all := lw_g (lw_at lw_m1 189 rfl) rfl
theorem q315 : (Jvm.Cond.methodLink "java/util/Arrays" (150 : Nat) ({ cls := "java/lang/System", name := "arraycopy", desc := "(Ljava/lang/Object;ILjava/lang/Object;II)V" } : Jvm.MethodName)) ∈ lw_all := lw_g (lw_at lw_m1 192 rfl) rfl
theorem q445 : (Jvm.Cond.static ({ cls := "java/util/Arrays", name := "copyOfRange", desc := "([BII)[B" } : Jvm.MethodName)) ∈ lw_all := lw_g (lw_at lw_m2 82 rfl) rfl
theorem q446 : (Jvm.Cond.code ({ cls := "java/util/Arrays", name := "copyOfRange", desc := "([BII)[B" } : Jvm.MethodName) prog_48_method_132_code (3 : Nat) (Option.some (Jvm.ClassFile.FieldType.array Jvm.ClassFile.FieldType.byte))) ∈ lw_all := lw_g (lw_at lw_m2 83 rfl) rfl
theorem q447 : (Jvm.Cond.methodLink "java/util/Arrays" (339 : Nat) ({ cls := "java/util/Arrays", name := "copyOfRangeByte", desc := "([BII)[B" } : Jvm.MethodName)) ∈ lw_all := lw_g (lw_at lw_m2 84 rfl) rfl
theorem q448 : (Jvm.Cond.static ({ cls := "java/util/Arrays", name := "copyOfRangeByte", desc := "([BII)[B" } : Jvm.MethodName)) ∈ lw_all := lw_g (lw_at lw_m2 85 rfl) rfl
theorem q449 : (Jvm.Cond.code ({ cls := "java/util/Arrays", name := "copyOfRangeByte", desc := "([BII)[B" } : Jvm.MethodName) prog_48_method_133_code (5 : Nat) (Option.some (Jvm.ClassFile.FieldType.array Jvm.ClassFile.FieldType.byte))) ∈ lw_all := lw_g (lw_at lw_m2 86 rfl) rfl
theorem q450 : (Jvm.Cond.methodLink "java/util/Arrays" (343 : Nat) ({ cls := "java/util/Arrays", name := "checkLength", desc := "(II)V" } : Jvm.MethodName)) ∈ lw_all := lw_g (lw_at lw_m2 87 rfl) rfl
theorem q451 : (Jvm.Cond.static ({ cls := "java/util/Arrays", name := "checkLength", desc := "(II)V" } : Jvm.MethodName)) ∈ lw_all := lw_g (lw_at lw_m2 88 rfl) rfl
theorem q452 : (Jvm.Cond.code ({ cls := "java/util/Arrays", name := "checkLength", desc := "(II)V" } : Jvm.MethodName) prog_48_method_131_code (2 : Nat) (Option.none : Option Jvm.ClassFile.FieldType)) ∈ lw_all := lw_g (lw_at lw_m2 89 rfl) rfl
theorem q453 : (Jvm.Cond.classLink "java/util/Arrays" (43 : Nat) "java/lang/IllegalArgumentException") ∈ lw_all := lw_g (lw_at lw_m2 90 rfl) rfl
theorem q454 : (Jvm.Cond.classLink "java/util/Arrays" (45 : Nat) "java/lang/StringBuilder") ∈ lw_all := lw_g (lw_at lw_m2 91 rfl) rfl
theorem q455 : (Jvm.Cond.methodLink "java/util/Arrays" (47 : Nat) ({ cls := "java/lang/StringBuilder", name := "<init>", desc := "()V" } : Jvm.MethodName)) ∈ lw_all := lw_g (lw_at lw_m2 92 rfl) rfl
theorem q456 : (Jvm.Cond.methodLink "java/util/Arrays" (54 : Nat) ({ cls := "java/lang/StringBuilder", name := "append", desc := "(I)Ljava/lang/StringBuilder;" } : Jvm.MethodName)) ∈ lw_all := lw_g (lw_at lw_m2 93 rfl) rfl
theorem q457 : (Jvm.Cond.stringRef "java/util/Arrays" (337 : Nat) " > ") ∈ lw_tbl := lw_at lw_m2 94 rfl
theorem q458 : (Jvm.Cond.methodLink "java/util/Arrays" (50 : Nat) ({ cls := "java/lang/StringBuilder", name := "append", desc := "(Ljava/lang/String;)Ljava/lang/StringBuilder;" } : Jvm.MethodName)) ∈ lw_all := lw_g (lw_at lw_m2 95 rfl) rfl
theorem q459 : (Jvm.Cond.methodLink "java/util/Arrays" (61 : Nat) ({ cls := "java/lang/StringBuilder", name := "toString", desc := "()Ljava/lang/String;" } : Jvm.MethodName)) ∈ lw_all := lw_g (lw_at lw_m2 96 rfl) rfl
theorem q460 : (Jvm.Cond.methodLink "java/util/Arrays" (65 : Nat) ({ cls := "java/lang/IllegalArgumentException", name := "<init>", desc := "(Ljava/lang/String;)V" } : Jvm.MethodName)) ∈ lw_all := lw_g (lw_at lw_m2 97 rfl) rfl
theorem q647 : (Jvm.Cond.static ({ cls := "java/util/Arrays", name := "copyOf", desc := "([Ljava/lang/Object;I)[Ljava/lang/Object;" } : Jvm.MethodName)) ∈ lw_all := lw_g (lw_at lw_m3 44 rfl) rfl
theorem q648 : (Jvm.Cond.code ({ cls := "java/util/Arrays", name := "copyOf", desc := "([Ljava/lang/Object;I)[Ljava/lang/Object;" } : Jvm.MethodName) prog_48_method_119_code (2 : Nat) (Option.some (Jvm.ClassFile.FieldType.array (Jvm.ClassFile.FieldType.object "java/lang/Object")))) ∈ lw_all := lw_g (lw_at lw_m3 45 rfl) rfl
theorem q649 : (Jvm.Cond.methodLink "java/util/Arrays" (86 : Nat) ({ cls := "java/lang/Object", name := "getClass", desc := "()Ljava/lang/Class;" } : Jvm.MethodName)) ∈ lw_all := lw_g (lw_at lw_m3 46 rfl) rfl
theorem q678 : (Jvm.Cond.methodLink "java/util/Arrays" (300 : Nat) ({ cls := "java/util/Arrays", name := "copyOf", desc := "([Ljava/lang/Object;ILjava/lang/Class;)[Ljava/lang/Object;" } : Jvm.MethodName)) ∈ lw_all := lw_g (lw_at lw_m3 75 rfl) rfl
theorem q679 : (Jvm.Cond.static ({ cls := "java/util/Arrays", name := "copyOf", desc := "([Ljava/lang/Object;ILjava/lang/Class;)[Ljava/lang/Object;" } : Jvm.MethodName)) ∈ lw_all := lw_g (lw_at lw_m3 76 rfl) rfl
theorem q680 : (Jvm.Cond.code ({ cls := "java/util/Arrays", name := "copyOf", desc := "([Ljava/lang/Object;ILjava/lang/Class;)[Ljava/lang/Object;" } : Jvm.MethodName) prog_48_method_120_code (4 : Nat) (Option.some (Jvm.ClassFile.FieldType.array (Jvm.ClassFile.FieldType.object "java/lang/Object")))) ∈ lw_all := lw_g (lw_at lw_m3 77 rfl) rfl
theorem q681 : (Jvm.Cond.classLink "java/util/Arrays" (110 : Nat) "[Ljava/lang/Object;") ∈ lw_all := lw_g (lw_at lw_m3 78 rfl) rfl
theorem q682 : (Jvm.Cond.classLink "java/util/Arrays" (2 : Nat) "java/lang/Object") ∈ lw_all := lw_g (lw_at lw_m3 79 rfl) rfl
def RJ14 : String := "jdk/internal/util/Preconditions"
theorem q141 : (Jvm.Cond.initialized "jdk/internal/util/Preconditions") ∈ lw_all := lw_g (lw_at lw_m1 18 rfl) rfl
theorem q336 : (Jvm.Cond.laysStatic "jdk/internal/util/Preconditions" "SIOOBE_FORMATTER" "Ljava/util/function/BiFunction;") ∈ lw_tbl := lw_at lw_m1 213 rfl
theorem q338 : (Jvm.Cond.static ({ cls := "jdk/internal/util/Preconditions", name := "checkFromToIndex", desc := "(IIILjava/util/function/BiFunction;)I" } : Jvm.MethodName)) ∈ lw_all := lw_g (lw_at lw_m1 215 rfl) rfl
theorem q339 : (Jvm.Cond.code ({ cls := "jdk/internal/util/Preconditions", name := "checkFromToIndex", desc := "(IIILjava/util/function/BiFunction;)I" } : Jvm.MethodName) prog_55_method_12_code (4 : Nat) (Option.some Jvm.ClassFile.FieldType.int)) ∈ lw_all := lw_g (lw_at lw_m1 216 rfl) rfl
theorem q384 : (Jvm.Cond.static ({ cls := "jdk/internal/util/Preconditions", name := "checkFromIndexSize", desc := "(IIILjava/util/function/BiFunction;)I" } : Jvm.MethodName)) ∈ lw_all := lw_g (lw_at lw_m2 21 rfl) rfl
theorem q385 : (Jvm.Cond.code ({ cls := "jdk/internal/util/Preconditions", name := "checkFromIndexSize", desc := "(IIILjava/util/function/BiFunction;)I" } : Jvm.MethodName) prog_55_method_13_code (4 : Nat) (Option.some Jvm.ClassFile.FieldType.int)) ∈ lw_all := lw_g (lw_at lw_m2 22 rfl) rfl
theorem q736 : (Jvm.Cond.static ({ cls := "jdk/internal/util/Preconditions", name := "checkIndex", desc := "(IILjava/util/function/BiFunction;)I" } : Jvm.MethodName)) ∈ lw_all := lw_g (lw_at lw_m3 133 rfl) rfl
theorem q737 : (Jvm.Cond.code ({ cls := "jdk/internal/util/Preconditions", name := "checkIndex", desc := "(IILjava/util/function/BiFunction;)I" } : Jvm.MethodName) prog_55_method_11_code (3 : Nat) (Option.some Jvm.ClassFile.FieldType.int)) ∈ lw_all := lw_g (lw_at lw_m3 134 rfl) rfl
def RJ15 : String := "java/lang/StringLatin1"
theorem q142 : (Jvm.Cond.initialized "java/lang/StringLatin1") ∈ lw_all := lw_g (lw_at lw_m1 19 rfl) rfl
theorem q372 : (Jvm.Cond.static ({ cls := "java/lang/StringLatin1", name := "inflate", desc := "([BI[BII)V" } : Jvm.MethodName)) ∈ lw_all := lw_g (lw_at lw_m2 9 rfl) rfl
theorem q373 : (Jvm.Cond.code ({ cls := "java/lang/StringLatin1", name := "inflate", desc := "([BI[BII)V" } : Jvm.MethodName) prog_39_method_50_code (5 : Nat) (Option.none : Option Jvm.ClassFile.FieldType)) ∈ lw_all := lw_g (lw_at lw_m2 10 rfl) rfl
theorem q374 : (Jvm.Cond.methodLink "java/lang/StringLatin1" (240 : Nat) ({ cls := "java/lang/StringUTF16", name := "inflate", desc := "([BI[BII)V" } : Jvm.MethodName)) ∈ lw_all := lw_g (lw_at lw_m2 11 rfl) rfl
theorem q764 : (Jvm.Cond.static ({ cls := "java/lang/StringLatin1", name := "canEncode", desc := "(C)Z" } : Jvm.MethodName)) ∈ lw_all := lw_g (lw_at lw_m3 161 rfl) rfl
theorem q765 : (Jvm.Cond.code ({ cls := "java/lang/StringLatin1", name := "canEncode", desc := "(C)Z" } : Jvm.MethodName) prog_39_method_3_code (1 : Nat) (Option.some Jvm.ClassFile.FieldType.boolean)) ∈ lw_all := lw_g (lw_at lw_m3 162 rfl) rfl
theorem q826 : (Jvm.Cond.static ({ cls := "java/lang/StringLatin1", name := "equals", desc := "([B[B)Z" } : Jvm.MethodName)) ∈ lw_all := lw_g (lw_at lw_m3 223 rfl) rfl
theorem q827 : (Jvm.Cond.code ({ cls := "java/lang/StringLatin1", name := "equals", desc := "([B[B)Z" } : Jvm.MethodName) prog_39_method_13_code (3 : Nat) (Option.some Jvm.ClassFile.FieldType.boolean)) ∈ lw_all := lw_g (lw_at lw_m3 224 rfl) rfl
def RJ16 : String := "java/lang/Number"
theorem q143 : (Jvm.Cond.initialized "java/lang/Number") ∈ lw_all := lw_g (lw_at lw_m1 20 rfl) rfl
theorem q622 : (Jvm.Cond.instanceMethod ({ cls := "java/lang/Number", name := "<init>", desc := "()V" } : Jvm.MethodName)) ∈ lw_all := lw_g (lw_at lw_m3 19 rfl) rfl
theorem q623 : (Jvm.Cond.code ({ cls := "java/lang/Number", name := "<init>", desc := "()V" } : Jvm.MethodName) prog_35_method_1_code (1 : Nat) (Option.none : Option Jvm.ClassFile.FieldType)) ∈ lw_all := lw_g (lw_at lw_m3 20 rfl) rfl
theorem q624 : (Jvm.Cond.methodLink "java/lang/Number" (1 : Nat) ({ cls := "java/lang/Object", name := "<init>", desc := "()V" } : Jvm.MethodName)) ∈ lw_all := lw_g (lw_at lw_m3 21 rfl) rfl
def RJ17 : String := "java/lang/Integer"
def TJ17 : u_T := fun k => match k with
  | _ => ("java/lang/Integer", "value", "I", true)
def tyJ17 : Nat → FieldType := fun k => match k with
  | _ => .int
abbrev wsJ170 : List Cond := u_ws RJ17 TJ17 1
theorem nmJ17 : ∀ a, a < 1 → ∀ b, b < 1 → a ≠ b → (TJ17 a).2.1 ≠ (TJ17 b).2.1 := by decide +kernel
theorem tyJ17_ok : ∀ k, k < 1 → parseFieldDescriptor (TJ17 k).2.2.1 = some (tyJ17 k) := by decide +kernel
theorem q144 : (Jvm.Cond.initialized "java/lang/Integer") ∈ lw_all := lw_g (lw_at lw_m1 21 rfl) rfl
theorem q400 : (Jvm.Cond.static ({ cls := "java/lang/Integer", name := "stringSize", desc := "(I)I" } : Jvm.MethodName)) ∈ lw_all := lw_g (lw_at lw_m2 37 rfl) rfl
theorem q401 : (Jvm.Cond.code ({ cls := "java/lang/Integer", name := "stringSize", desc := "(I)I" } : Jvm.MethodName) prog_31_method_13_code (4 : Nat) (Option.some Jvm.ClassFile.FieldType.int)) ∈ lw_all := lw_g (lw_at lw_m2 38 rfl) rfl
theorem q403 : (Jvm.Cond.static ({ cls := "java/lang/Integer", name := "getChars", desc := "(II[B)I" } : Jvm.MethodName)) ∈ lw_all := lw_g (lw_at lw_m2 40 rfl) rfl
theorem q404 : (Jvm.Cond.code ({ cls := "java/lang/Integer", name := "getChars", desc := "(II[B)I" } : Jvm.MethodName) prog_31_method_12_code (7 : Nat) (Option.some Jvm.ClassFile.FieldType.int)) ∈ lw_all := lw_g (lw_at lw_m2 41 rfl) rfl
theorem q405 : (Jvm.Cond.fieldLink "java/lang/Integer" (83 : Nat) "java/lang/Integer" "DigitOnes" "[B") ∈ lw_all := lw_g (lw_at lw_m2 42 rfl) rfl
theorem q406 : (Jvm.Cond.laysStatic "java/lang/Integer" "DigitOnes" "[B") ∈ lw_tbl := lw_at lw_m2 43 rfl
theorem q407 : (Jvm.Cond.fieldLink "java/lang/Integer" (87 : Nat) "java/lang/Integer" "DigitTens" "[B") ∈ lw_all := lw_g (lw_at lw_m2 44 rfl) rfl
theorem q408 : (Jvm.Cond.laysStatic "java/lang/Integer" "DigitTens" "[B") ∈ lw_tbl := lw_at lw_m2 45 rfl
theorem q610 : (Jvm.Cond.static ({ cls := "java/lang/Integer", name := "valueOf", desc := "(I)Ljava/lang/Integer;" } : Jvm.MethodName)) ∈ lw_all := lw_g (lw_at lw_m3 7 rfl) rfl
theorem q611 : (Jvm.Cond.code ({ cls := "java/lang/Integer", name := "valueOf", desc := "(I)Ljava/lang/Integer;" } : Jvm.MethodName) prog_31_method_22_code (1 : Nat) (Option.some (Jvm.ClassFile.FieldType.object "java/lang/Integer"))) ∈ lw_all := lw_g (lw_at lw_m3 8 rfl) rfl
theorem q612 : (Jvm.Cond.fieldLink "java/lang/Integer" (191 : Nat) "java/lang/Integer$IntegerCache" "high" "I") ∈ lw_all := lw_g (lw_at lw_m3 9 rfl) rfl
theorem q614 : (Jvm.Cond.fieldLink "java/lang/Integer" (195 : Nat) "java/lang/Integer$IntegerCache" "cache" "[Ljava/lang/Integer;") ∈ lw_all := lw_g (lw_at lw_m3 11 rfl) rfl
theorem q616 : (Jvm.Cond.classLink "java/lang/Integer" (1 : Nat) "java/lang/Integer") ∈ lw_all := lw_g (lw_at lw_m3 13 rfl) rfl
theorem q617 : (Jvm.Cond.instantiable "java/lang/Integer" (1 : Nat)) ∈ lw_all := lw_g (lw_at lw_m3 14 rfl) rfl
theorem q618 : (Jvm.Cond.methodLink "java/lang/Integer" (199 : Nat) ({ cls := "java/lang/Integer", name := "<init>", desc := "(I)V" } : Jvm.MethodName)) ∈ lw_all := lw_g (lw_at lw_m3 15 rfl) rfl
theorem q619 : (Jvm.Cond.instanceMethod ({ cls := "java/lang/Integer", name := "<init>", desc := "(I)V" } : Jvm.MethodName)) ∈ lw_all := lw_g (lw_at lw_m3 16 rfl) rfl
theorem q620 : (Jvm.Cond.code ({ cls := "java/lang/Integer", name := "<init>", desc := "(I)V" } : Jvm.MethodName) prog_31_method_23_code (2 : Nat) (Option.none : Option Jvm.ClassFile.FieldType)) ∈ lw_all := lw_g (lw_at lw_m3 17 rfl) rfl
theorem q621 : (Jvm.Cond.methodLink "java/lang/Integer" (202 : Nat) ({ cls := "java/lang/Number", name := "<init>", desc := "()V" } : Jvm.MethodName)) ∈ lw_all := lw_g (lw_at lw_m3 18 rfl) rfl
theorem q625 : (Jvm.Cond.fieldLink "java/lang/Integer" (205 : Nat) "java/lang/Integer" "value" "I") ∈ lw_all := lw_g (lw_at lw_m3 22 rfl) rfl
theorem q626 : (Jvm.Cond.laysFinal "java/lang/Integer" "java/lang/Integer" "value" "I") ∈ lw_all := lw_g (lw_at lw_m3 23 rfl) rfl
theorem q627 : (Jvm.Cond.soleField "java/lang/Integer" "value") ∈ lw_all := lw_g (lw_at lw_m3 24 rfl) rfl
theorem q628 : (Jvm.Cond.superclass "java/lang/Integer" "java/lang/Number") ∈ lw_all := lw_g (lw_at lw_m3 25 rfl) rfl
theorem q673 : (Jvm.Cond.selects "java/lang/Integer" ({ cls := "java/lang/Object", name := "getClass", desc := "()Ljava/lang/Class;" } : Jvm.MethodName) ({ cls := "java/lang/Object", name := "getClass", desc := "()Ljava/lang/Class;" } : Jvm.MethodName)) ∈ lw_all := lw_g (lw_at lw_m3 70 rfl) rfl
theorem q814 : (Jvm.Cond.selects "java/lang/Integer" ({ cls := "java/lang/Object", name := "equals", desc := "(Ljava/lang/Object;)Z" } : Jvm.MethodName) ({ cls := "java/lang/Integer", name := "equals", desc := "(Ljava/lang/Object;)Z" } : Jvm.MethodName)) ∈ lw_all := lw_g (lw_at lw_m3 211 rfl) rfl
theorem q815 : (Jvm.Cond.instanceMethod ({ cls := "java/lang/Integer", name := "equals", desc := "(Ljava/lang/Object;)Z" } : Jvm.MethodName)) ∈ lw_all := lw_g (lw_at lw_m3 212 rfl) rfl
theorem q816 : (Jvm.Cond.code ({ cls := "java/lang/Integer", name := "equals", desc := "(Ljava/lang/Object;)Z" } : Jvm.MethodName) prog_31_method_34_code (2 : Nat) (Option.some Jvm.ClassFile.FieldType.boolean)) ∈ lw_all := lw_g (lw_at lw_m3 213 rfl) rfl
theorem q817 : (Jvm.Cond.methodLink "java/lang/Integer" (211 : Nat) ({ cls := "java/lang/Integer", name := "intValue", desc := "()I" } : Jvm.MethodName)) ∈ lw_all := lw_g (lw_at lw_m3 214 rfl) rfl
theorem q818 : (Jvm.Cond.instanceMethod ({ cls := "java/lang/Integer", name := "intValue", desc := "()I" } : Jvm.MethodName)) ∈ lw_all := lw_g (lw_at lw_m3 215 rfl) rfl
theorem q819 : (Jvm.Cond.selects "java/lang/Integer" ({ cls := "java/lang/Integer", name := "intValue", desc := "()I" } : Jvm.MethodName) ({ cls := "java/lang/Integer", name := "intValue", desc := "()I" } : Jvm.MethodName)) ∈ lw_all := lw_g (lw_at lw_m3 216 rfl) rfl
theorem q820 : (Jvm.Cond.code ({ cls := "java/lang/Integer", name := "intValue", desc := "()I" } : Jvm.MethodName) prog_31_method_27_code (1 : Nat) (Option.some Jvm.ClassFile.FieldType.int)) ∈ lw_all := lw_g (lw_at lw_m3 217 rfl) rfl
theorem q2802 : (Jvm.Cond.castable "java/lang/Integer" "java/lang/Object") ∈ lw_tbl := lw_at lw_m12 39 rfl
theorem in_J17 : ∀ w ∈ wsJ170, w ∈ lw_all := lw_in wsJ170 [626] (by decide +kernel) (by decide +kernel)
def RX3 : String := "Rulehearth$Facts"
def TX3 : u_T := fun k => match k with
  | 0 => ("Rulehearth$Facts", "numbers", "[I", true)
  | 1 => ("Rulehearth$Facts", "rounds", "[I", true)
  | _ => ("Rulehearth$Facts", "count", "I", false)
def tyX3 : Nat → FieldType := fun k => match k with
  | 0 => .array .int
  | 1 => .array .int
  | _ => .int
abbrev wsX30 : List Cond := u_ws RX3 TX3 3
theorem nmX3 : ∀ a, a < 3 → ∀ b, b < 3 → a ≠ b → (TX3 a).2.1 ≠ (TX3 b).2.1 := by decide +kernel
theorem tyX3_ok : ∀ k, k < 3 → parseFieldDescriptor (TX3 k).2.2.1 = some (tyX3 k) := by decide +kernel
theorem q145 : (Jvm.Cond.initialized "Rulehearth$Facts") ∈ lw_all := lw_g (lw_at lw_m1 22 rfl) rfl
theorem q523 : (Jvm.Cond.instantiable "Rulehearth$Facts" (3 : Nat)) ∈ lw_all := lw_g (lw_at lw_m2 160 rfl) rfl
theorem q525 : (Jvm.Cond.instanceMethod ({ cls := "Rulehearth$Facts", name := "<init>", desc := "()V" } : Jvm.MethodName)) ∈ lw_all := lw_g (lw_at lw_m2 162 rfl) rfl
theorem q526 : (Jvm.Cond.code ({ cls := "Rulehearth$Facts", name := "<init>", desc := "()V" } : Jvm.MethodName) prog_7_method_1_code (1 : Nat) (Option.none : Option Jvm.ClassFile.FieldType)) ∈ lw_all := lw_g (lw_at lw_m2 163 rfl) rfl
theorem q527 : (Jvm.Cond.methodLink "Rulehearth$Facts" (3 : Nat) ({ cls := "java/lang/Object", name := "<init>", desc := "()V" } : Jvm.MethodName)) ∈ lw_all := lw_g (lw_at lw_m2 164 rfl) rfl
theorem q528 : (Jvm.Cond.fieldLink "Rulehearth$Facts" (9 : Nat) "Rulehearth$Facts" "numbers" "[I") ∈ lw_all := lw_g (lw_at lw_m2 165 rfl) rfl
theorem q534 : (Jvm.Cond.fieldLink "Rulehearth$Facts" (15 : Nat) "Rulehearth$Facts" "rounds" "[I") ∈ lw_all := lw_g (lw_at lw_m2 171 rfl) rfl
theorem q536 : (Jvm.Cond.fieldLink "Rulehearth$Facts" (18 : Nat) "Rulehearth$Facts" "count" "I") ∈ lw_all := lw_g (lw_at lw_m2 173 rfl) rfl
theorem q541 : (Jvm.Cond.laysFinal "Rulehearth$Facts" "Rulehearth$Facts" "numbers" "[I") ∈ lw_all := lw_g (lw_at lw_m2 178 rfl) rfl
theorem q542 : (Jvm.Cond.soleField "Rulehearth$Facts" "numbers") ∈ lw_all := lw_g (lw_at lw_m2 179 rfl) rfl
theorem q543 : (Jvm.Cond.laysFinal "Rulehearth$Facts" "Rulehearth$Facts" "rounds" "[I") ∈ lw_all := lw_g (lw_at lw_m2 180 rfl) rfl
theorem q544 : (Jvm.Cond.soleField "Rulehearth$Facts" "rounds") ∈ lw_all := lw_g (lw_at lw_m2 181 rfl) rfl
theorem q545 : (Jvm.Cond.lays "Rulehearth$Facts" "Rulehearth$Facts" "count" "I") ∈ lw_all := lw_g (lw_at lw_m2 182 rfl) rfl
theorem q546 : (Jvm.Cond.soleField "Rulehearth$Facts" "count") ∈ lw_all := lw_g (lw_at lw_m2 183 rfl) rfl
theorem q547 : (Jvm.Cond.superclass "Rulehearth$Facts" "java/lang/Object") ∈ lw_all := lw_g (lw_at lw_m2 184 rfl) rfl
theorem q658 : (Jvm.Cond.selects "Rulehearth$Facts" ({ cls := "java/lang/Object", name := "getClass", desc := "()Ljava/lang/Class;" } : Jvm.MethodName) ({ cls := "java/lang/Object", name := "getClass", desc := "()Ljava/lang/Class;" } : Jvm.MethodName)) ∈ lw_all := lw_g (lw_at lw_m3 55 rfl) rfl
theorem q799 : (Jvm.Cond.selects "Rulehearth$Facts" ({ cls := "java/lang/Object", name := "equals", desc := "(Ljava/lang/Object;)Z" } : Jvm.MethodName) ({ cls := "java/lang/Object", name := "equals", desc := "(Ljava/lang/Object;)Z" } : Jvm.MethodName)) ∈ lw_all := lw_g (lw_at lw_m3 196 rfl) rfl
theorem q962 : (Jvm.Cond.instanceMethod ({ cls := "Rulehearth$Facts", name := "indexOf", desc := "(I)I" } : Jvm.MethodName)) ∈ lw_all := lw_g (lw_at lw_m4 119 rfl) rfl
theorem q963 : (Jvm.Cond.selects "Rulehearth$Facts" ({ cls := "Rulehearth$Facts", name := "indexOf", desc := "(I)I" } : Jvm.MethodName) ({ cls := "Rulehearth$Facts", name := "indexOf", desc := "(I)I" } : Jvm.MethodName)) ∈ lw_all := lw_g (lw_at lw_m4 120 rfl) rfl
theorem q964 : (Jvm.Cond.code ({ cls := "Rulehearth$Facts", name := "indexOf", desc := "(I)I" } : Jvm.MethodName) prog_7_method_4_code (2 : Nat) (Option.some Jvm.ClassFile.FieldType.int)) ∈ lw_all := lw_g (lw_at lw_m4 121 rfl) rfl
theorem q965 : (Jvm.Cond.methodLink "Rulehearth$Facts" (26 : Nat) ({ cls := "Rulehearth$Facts", name := "has", desc := "(I)Z" } : Jvm.MethodName)) ∈ lw_all := lw_g (lw_at lw_m4 122 rfl) rfl
theorem q966 : (Jvm.Cond.instanceMethod ({ cls := "Rulehearth$Facts", name := "has", desc := "(I)Z" } : Jvm.MethodName)) ∈ lw_all := lw_g (lw_at lw_m4 123 rfl) rfl
theorem q967 : (Jvm.Cond.selects "Rulehearth$Facts" ({ cls := "Rulehearth$Facts", name := "has", desc := "(I)Z" } : Jvm.MethodName) ({ cls := "Rulehearth$Facts", name := "has", desc := "(I)Z" } : Jvm.MethodName)) ∈ lw_all := lw_g (lw_at lw_m4 124 rfl) rfl
theorem q968 : (Jvm.Cond.code ({ cls := "Rulehearth$Facts", name := "has", desc := "(I)Z" } : Jvm.MethodName) prog_7_method_3_code (3 : Nat) (Option.some Jvm.ClassFile.FieldType.boolean)) ∈ lw_all := lw_g (lw_at lw_m4 125 rfl) rfl
theorem q969 : (Jvm.Cond.methodLink "Rulehearth$Facts" (22 : Nat) ({ cls := "Rulehearth$Facts", name := "placeOf", desc := "(I)I" } : Jvm.MethodName)) ∈ lw_all := lw_g (lw_at lw_m4 126 rfl) rfl
theorem q970 : (Jvm.Cond.instanceMethod ({ cls := "Rulehearth$Facts", name := "placeOf", desc := "(I)I" } : Jvm.MethodName)) ∈ lw_all := lw_g (lw_at lw_m4 127 rfl) rfl
theorem q971 : (Jvm.Cond.selects "Rulehearth$Facts" ({ cls := "Rulehearth$Facts", name := "placeOf", desc := "(I)I" } : Jvm.MethodName) ({ cls := "Rulehearth$Facts", name := "placeOf", desc := "(I)I" } : Jvm.MethodName)) ∈ lw_all := lw_g (lw_at lw_m4 128 rfl) rfl
theorem q972 : (Jvm.Cond.code ({ cls := "Rulehearth$Facts", name := "placeOf", desc := "(I)I" } : Jvm.MethodName) prog_7_method_2_code (5 : Nat) (Option.some Jvm.ClassFile.FieldType.int)) ∈ lw_all := lw_g (lw_at lw_m4 129 rfl) rfl
theorem q1263 : (Jvm.Cond.instanceMethod ({ cls := "Rulehearth$Facts", name := "add", desc := "(II)V" } : Jvm.MethodName)) ∈ lw_all := lw_g (lw_at lw_m5 180 rfl) rfl
theorem q1264 : (Jvm.Cond.selects "Rulehearth$Facts" ({ cls := "Rulehearth$Facts", name := "add", desc := "(II)V" } : Jvm.MethodName) ({ cls := "Rulehearth$Facts", name := "add", desc := "(II)V" } : Jvm.MethodName)) ∈ lw_all := lw_g (lw_at lw_m5 181 rfl) rfl
theorem q1265 : (Jvm.Cond.code ({ cls := "Rulehearth$Facts", name := "add", desc := "(II)V" } : Jvm.MethodName) prog_7_method_5_code (5 : Nat) (Option.none : Option Jvm.ClassFile.FieldType)) ∈ lw_all := lw_g (lw_at lw_m5 182 rfl) rfl
theorem q1266 : (Jvm.Cond.classLink "Rulehearth$Facts" (30 : Nat) "Rulehearth$CrowdException") ∈ lw_all := lw_g (lw_at lw_m5 183 rfl) rfl
theorem q1275 : (Jvm.Cond.methodLinkNest "Rulehearth$Facts" (32 : Nat) ({ cls := "Rulehearth$CrowdException", name := "<init>", desc := "()V" } : Jvm.MethodName) "Rulehearth") ∈ lw_tbl := lw_at lw_m5 192 rfl
theorem q2024 : (Jvm.Cond.instanceMethod ({ cls := "Rulehearth$Facts", name := "countOf", desc := "(I)I" } : Jvm.MethodName)) ∈ lw_all := lw_g (lw_at lw_m8 221 rfl) rfl
theorem q2025 : (Jvm.Cond.selects "Rulehearth$Facts" ({ cls := "Rulehearth$Facts", name := "countOf", desc := "(I)I" } : Jvm.MethodName) ({ cls := "Rulehearth$Facts", name := "countOf", desc := "(I)I" } : Jvm.MethodName)) ∈ lw_all := lw_g (lw_at lw_m8 222 rfl) rfl
theorem q2026 : (Jvm.Cond.code ({ cls := "Rulehearth$Facts", name := "countOf", desc := "(I)I" } : Jvm.MethodName) prog_7_method_6_code (2 : Nat) (Option.some Jvm.ClassFile.FieldType.int)) ∈ lw_all := lw_g (lw_at lw_m8 223 rfl) rfl
theorem q2027 : (Jvm.Cond.constant "Rulehearth$Facts" (33 : Nat) (1000000 : Int32)) ∈ lw_all := lw_g (lw_at lw_m8 224 rfl) rfl
theorem q2801 : (Jvm.Cond.castable "Rulehearth$Facts" "java/lang/Object") ∈ lw_tbl := lw_at lw_m12 38 rfl
theorem in_X3 : ∀ w ∈ wsX30, w ∈ lw_all := lw_in wsX30 [541, 543, 545] (by decide +kernel) (by decide +kernel)
def RX4 : String := "RulehearthModel"
def TX4 : u_T := fun k => match k with
  | 0 => ("RulehearthModel", "thrown", "I", false)
  | 1 => ("RulehearthModel", "at", "[I", true)
  | 2 => ("RulehearthModel", "slots", "[I", true)
  | 3 => ("RulehearthModel", "numbers", "[I", true)
  | 4 => ("RulehearthModel", "heads", "[I", true)
  | 5 => ("RulehearthModel", "headTerms", "[I", true)
  | 6 => ("RulehearthModel", "items", "[I", true)
  | 7 => ("RulehearthModel", "kinds", "[I", true)
  | 8 => ("RulehearthModel", "whats", "[I", true)
  | 9 => ("RulehearthModel", "terms", "[I", true)
  | 10 => ("RulehearthModel", "modules", "[I", true)
  | 11 => ("RulehearthModel", "saliences", "[I", true)
  | 12 => ("RulehearthModel", "tells", "[I", true)
  | 13 => ("RulehearthModel", "told", "[I", true)
  | 14 => ("RulehearthModel", "ends", "[I", true)
  | 15 => ("RulehearthModel", "facts", "[I", true)
  | 16 => ("RulehearthModel", "tags", "[I", true)
  | 17 => ("RulehearthModel", "stack", "[I", true)
  | 18 => ("RulehearthModel", "fired", "[I", true)
  | 19 => ("RulehearthModel", "savedNumbers", "[I", true)
  | 20 => ("RulehearthModel", "savedBodies", "[I", true)
  | 21 => ("RulehearthModel", "savedFacts", "[I", true)
  | 22 => ("RulehearthModel", "begun", "I", false)
  | 23 => ("RulehearthModel", "draft", "I", false)
  | 24 => ("RulehearthModel", "typed", "I", false)
  | 25 => ("RulehearthModel", "strata", "[I", true)
  | 26 => ("RulehearthModel", "hadFacts", "[I", true)
  | 27 => ("RulehearthModel", "hadTags", "[I", true)
  | 28 => ("RulehearthModel", "pending", "[I", true)
  | 29 => ("RulehearthModel", "waiting", "I", false)
  | 30 => ("RulehearthModel", "isTooMuch", "Z", false)
  | 31 => ("RulehearthModel", "matched", "I", false)
  | 32 => ("RulehearthModel", "length", "I", false)
  | 33 => ("RulehearthModel", "hasBegun", "Z", false)
  | 34 => ("RulehearthModel", "deepest", "I", false)
  | 35 => ("RulehearthModel", "order", "[I", true)
  | 36 => ("RulehearthModel", "tried", "[I", true)
  | 37 => ("RulehearthModel", "values", "[I", true)
  | 38 => ("RulehearthModel", "knownBy", "[I", true)
  | 39 => ("RulehearthModel", "groups", "I", false)
  | 40 => ("RulehearthModel", "keys", "[I", true)
  | 41 => ("RulehearthModel", "lows", "[J", true)
  | 42 => ("RulehearthModel", "highs", "[J", true)
  | 43 => ("RulehearthModel", "groupDepths", "[I", true)
  | 44 => ("RulehearthModel", "groupFacts", "[J", true)
  | 45 => ("RulehearthModel", "depths", "[I", true)
  | 46 => ("RulehearthModel", "rests", "[J", true)
  | 47 => ("RulehearthModel", "reasons", "[I", true)
  | 48 => ("RulehearthModel", "reasonCount", "I", false)
  | 49 => ("RulehearthModel", "goals", "[I", true)
  | 50 => ("RulehearthModel", "goalCount", "I", false)
  | 51 => ("RulehearthModel", "plan", "[I", true)
  | 52 => ("RulehearthModel", "best", "I", false)
  | 53 => ("RulehearthModel", "bestTag", "I", false)
  | 54 => ("RulehearthModel", "bestFact", "I", false)
  | _ => ("RulehearthModel", "bestFacts", "[I", true)
def tyX4 : Nat → FieldType := fun k => match k with
  | 0 => .int
  | 1 => .array .int
  | 2 => .array .int
  | 3 => .array .int
  | 4 => .array .int
  | 5 => .array .int
  | 6 => .array .int
  | 7 => .array .int
  | 8 => .array .int
  | 9 => .array .int
  | 10 => .array .int
  | 11 => .array .int
  | 12 => .array .int
  | 13 => .array .int
  | 14 => .array .int
  | 15 => .array .int
  | 16 => .array .int
  | 17 => .array .int
  | 18 => .array .int
  | 19 => .array .int
  | 20 => .array .int
  | 21 => .array .int
  | 22 => .int
  | 23 => .int
  | 24 => .int
  | 25 => .array .int
  | 26 => .array .int
  | 27 => .array .int
  | 28 => .array .int
  | 29 => .int
  | 30 => .boolean
  | 31 => .int
  | 32 => .int
  | 33 => .boolean
  | 34 => .int
  | 35 => .array .int
  | 36 => .array .int
  | 37 => .array .int
  | 38 => .array .int
  | 39 => .int
  | 40 => .array .int
  | 41 => .array .long
  | 42 => .array .long
  | 43 => .array .int
  | 44 => .array .long
  | 45 => .array .int
  | 46 => .array .long
  | 47 => .array .int
  | 48 => .int
  | 49 => .array .int
  | 50 => .int
  | 51 => .array .int
  | 52 => .int
  | 53 => .int
  | 54 => .int
  | _ => .array .int
abbrev wsX40 : List Cond := u_ws RX4 TX4 56
theorem nmX4 : ∀ a, a < 56 → ∀ b, b < 56 → a ≠ b → (TX4 a).2.1 ≠ (TX4 b).2.1 := by decide +kernel
theorem tyX4_ok : ∀ k, k < 56 → parseFieldDescriptor (TX4 k).2.2.1 = some (tyX4 k) := by decide +kernel
theorem q147 : (Jvm.Cond.initialized "RulehearthModel") ∈ lw_all := lw_g (lw_at lw_m1 24 rfl) rfl
theorem q668 : (Jvm.Cond.selects "RulehearthModel" ({ cls := "java/lang/Object", name := "getClass", desc := "()Ljava/lang/Class;" } : Jvm.MethodName) ({ cls := "java/lang/Object", name := "getClass", desc := "()Ljava/lang/Class;" } : Jvm.MethodName)) ∈ lw_all := lw_g (lw_at lw_m3 65 rfl) rfl
theorem q809 : (Jvm.Cond.selects "RulehearthModel" ({ cls := "java/lang/Object", name := "equals", desc := "(Ljava/lang/Object;)Z" } : Jvm.MethodName) ({ cls := "java/lang/Object", name := "equals", desc := "(Ljava/lang/Object;)Z" } : Jvm.MethodName)) ∈ lw_all := lw_g (lw_at lw_m3 206 rfl) rfl
theorem q2094 : (Jvm.Cond.instantiable "RulehearthModel" (56 : Nat)) ∈ lw_all := lw_g (lw_at lw_m9 51 rfl) rfl
theorem q2096 : (Jvm.Cond.instanceMethod ({ cls := "RulehearthModel", name := "<init>", desc := "()V" } : Jvm.MethodName)) ∈ lw_all := lw_g (lw_at lw_m9 53 rfl) rfl
theorem q2097 : (Jvm.Cond.code ({ cls := "RulehearthModel", name := "<init>", desc := "()V" } : Jvm.MethodName) prog_19_method_1_code (1 : Nat) (Option.none : Option Jvm.ClassFile.FieldType)) ∈ lw_all := lw_g (lw_at lw_m9 54 rfl) rfl
theorem q2098 : (Jvm.Cond.methodLink "RulehearthModel" (1 : Nat) ({ cls := "java/lang/Object", name := "<init>", desc := "()V" } : Jvm.MethodName)) ∈ lw_all := lw_g (lw_at lw_m9 55 rfl) rfl
theorem q2099 : (Jvm.Cond.fieldLink "RulehearthModel" (131 : Nat) "RulehearthModel" "thrown" "I") ∈ lw_all := lw_g (lw_at lw_m9 56 rfl) rfl
theorem q2100 : (Jvm.Cond.fieldLink "RulehearthModel" (7 : Nat) "RulehearthModel" "at" "[I") ∈ lw_all := lw_g (lw_at lw_m9 57 rfl) rfl
theorem q2101 : (Jvm.Cond.fieldLink "RulehearthModel" (13 : Nat) "RulehearthModel" "slots" "[I") ∈ lw_all := lw_g (lw_at lw_m9 58 rfl) rfl
theorem q2102 : (Jvm.Cond.fieldLink "RulehearthModel" (16 : Nat) "RulehearthModel" "numbers" "[I") ∈ lw_all := lw_g (lw_at lw_m9 59 rfl) rfl
theorem q2103 : (Jvm.Cond.fieldLink "RulehearthModel" (19 : Nat) "RulehearthModel" "heads" "[I") ∈ lw_all := lw_g (lw_at lw_m9 60 rfl) rfl
theorem q2104 : (Jvm.Cond.fieldLink "RulehearthModel" (22 : Nat) "RulehearthModel" "headTerms" "[I") ∈ lw_all := lw_g (lw_at lw_m9 61 rfl) rfl
theorem q2105 : (Jvm.Cond.fieldLink "RulehearthModel" (25 : Nat) "RulehearthModel" "items" "[I") ∈ lw_all := lw_g (lw_at lw_m9 62 rfl) rfl
theorem q2106 : (Jvm.Cond.fieldLink "RulehearthModel" (28 : Nat) "RulehearthModel" "kinds" "[I") ∈ lw_all := lw_g (lw_at lw_m9 63 rfl) rfl
theorem q2107 : (Jvm.Cond.fieldLink "RulehearthModel" (31 : Nat) "RulehearthModel" "whats" "[I") ∈ lw_all := lw_g (lw_at lw_m9 64 rfl) rfl
theorem q2108 : (Jvm.Cond.fieldLink "RulehearthModel" (34 : Nat) "RulehearthModel" "terms" "[I") ∈ lw_all := lw_g (lw_at lw_m9 65 rfl) rfl
theorem q2109 : (Jvm.Cond.fieldLink "RulehearthModel" (37 : Nat) "RulehearthModel" "modules" "[I") ∈ lw_all := lw_g (lw_at lw_m9 66 rfl) rfl
theorem q2110 : (Jvm.Cond.fieldLink "RulehearthModel" (40 : Nat) "RulehearthModel" "saliences" "[I") ∈ lw_all := lw_g (lw_at lw_m9 67 rfl) rfl
theorem q2111 : (Jvm.Cond.fieldLink "RulehearthModel" (43 : Nat) "RulehearthModel" "tells" "[I") ∈ lw_all := lw_g (lw_at lw_m9 68 rfl) rfl
theorem q2112 : (Jvm.Cond.fieldLink "RulehearthModel" (46 : Nat) "RulehearthModel" "told" "[I") ∈ lw_all := lw_g (lw_at lw_m9 69 rfl) rfl
theorem q2113 : (Jvm.Cond.fieldLink "RulehearthModel" (49 : Nat) "RulehearthModel" "ends" "[I") ∈ lw_all := lw_g (lw_at lw_m9 70 rfl) rfl
theorem q2114 : (Jvm.Cond.fieldLink "RulehearthModel" (52 : Nat) "RulehearthModel" "facts" "[I") ∈ lw_all := lw_g (lw_at lw_m9 71 rfl) rfl
theorem q2115 : (Jvm.Cond.fieldLink "RulehearthModel" (55 : Nat) "RulehearthModel" "tags" "[I") ∈ lw_all := lw_g (lw_at lw_m9 72 rfl) rfl
theorem q2116 : (Jvm.Cond.fieldLink "RulehearthModel" (58 : Nat) "RulehearthModel" "stack" "[I") ∈ lw_all := lw_g (lw_at lw_m9 73 rfl) rfl
theorem q2117 : (Jvm.Cond.fieldLink "RulehearthModel" (61 : Nat) "RulehearthModel" "fired" "[I") ∈ lw_all := lw_g (lw_at lw_m9 74 rfl) rfl
theorem q2118 : (Jvm.Cond.fieldLink "RulehearthModel" (64 : Nat) "RulehearthModel" "savedNumbers" "[I") ∈ lw_all := lw_g (lw_at lw_m9 75 rfl) rfl
theorem q2119 : (Jvm.Cond.fieldLink "RulehearthModel" (67 : Nat) "RulehearthModel" "savedBodies" "[I") ∈ lw_all := lw_g (lw_at lw_m9 76 rfl) rfl
theorem q2120 : (Jvm.Cond.fieldLink "RulehearthModel" (70 : Nat) "RulehearthModel" "savedFacts" "[I") ∈ lw_all := lw_g (lw_at lw_m9 77 rfl) rfl
theorem q2121 : (Jvm.Cond.fieldLink "RulehearthModel" (441 : Nat) "RulehearthModel" "begun" "I") ∈ lw_all := lw_g (lw_at lw_m9 78 rfl) rfl
theorem q2122 : (Jvm.Cond.fieldLink "RulehearthModel" (302 : Nat) "RulehearthModel" "draft" "I") ∈ lw_all := lw_g (lw_at lw_m9 79 rfl) rfl
theorem q2123 : (Jvm.Cond.fieldLink "RulehearthModel" (296 : Nat) "RulehearthModel" "typed" "I") ∈ lw_all := lw_g (lw_at lw_m9 80 rfl) rfl
theorem q2124 : (Jvm.Cond.fieldLink "RulehearthModel" (73 : Nat) "RulehearthModel" "strata" "[I") ∈ lw_all := lw_g (lw_at lw_m9 81 rfl) rfl
theorem q2125 : (Jvm.Cond.fieldLink "RulehearthModel" (76 : Nat) "RulehearthModel" "hadFacts" "[I") ∈ lw_all := lw_g (lw_at lw_m9 82 rfl) rfl
theorem q2126 : (Jvm.Cond.fieldLink "RulehearthModel" (79 : Nat) "RulehearthModel" "hadTags" "[I") ∈ lw_all := lw_g (lw_at lw_m9 83 rfl) rfl
theorem q2127 : (Jvm.Cond.fieldLink "RulehearthModel" (82 : Nat) "RulehearthModel" "pending" "[I") ∈ lw_all := lw_g (lw_at lw_m9 84 rfl) rfl
theorem q2128 : (Jvm.Cond.fieldLink "RulehearthModel" (242 : Nat) "RulehearthModel" "waiting" "I") ∈ lw_all := lw_g (lw_at lw_m9 85 rfl) rfl
theorem q2129 : (Jvm.Cond.fieldLink "RulehearthModel" (239 : Nat) "RulehearthModel" "isTooMuch" "Z") ∈ lw_all := lw_g (lw_at lw_m9 86 rfl) rfl
theorem q2130 : (Jvm.Cond.fieldLink "RulehearthModel" (155 : Nat) "RulehearthModel" "matched" "I") ∈ lw_all := lw_g (lw_at lw_m9 87 rfl) rfl
theorem q2131 : (Jvm.Cond.fieldLink "RulehearthModel" (158 : Nat) "RulehearthModel" "length" "I") ∈ lw_all := lw_g (lw_at lw_m9 88 rfl) rfl
theorem q2132 : (Jvm.Cond.fieldLink "RulehearthModel" (161 : Nat) "RulehearthModel" "hasBegun" "Z") ∈ lw_all := lw_g (lw_at lw_m9 89 rfl) rfl
theorem q2133 : (Jvm.Cond.fieldLink "RulehearthModel" (165 : Nat) "RulehearthModel" "deepest" "I") ∈ lw_all := lw_g (lw_at lw_m9 90 rfl) rfl
theorem q2134 : (Jvm.Cond.fieldLink "RulehearthModel" (85 : Nat) "RulehearthModel" "order" "[I") ∈ lw_all := lw_g (lw_at lw_m9 91 rfl) rfl
theorem q2135 : (Jvm.Cond.fieldLink "RulehearthModel" (88 : Nat) "RulehearthModel" "tried" "[I") ∈ lw_all := lw_g (lw_at lw_m9 92 rfl) rfl
theorem q2136 : (Jvm.Cond.fieldLink "RulehearthModel" (91 : Nat) "RulehearthModel" "values" "[I") ∈ lw_all := lw_g (lw_at lw_m9 93 rfl) rfl
theorem q2137 : (Jvm.Cond.fieldLink "RulehearthModel" (94 : Nat) "RulehearthModel" "knownBy" "[I") ∈ lw_all := lw_g (lw_at lw_m9 94 rfl) rfl
theorem q2138 : (Jvm.Cond.fieldLink "RulehearthModel" (208 : Nat) "RulehearthModel" "groups" "I") ∈ lw_all := lw_g (lw_at lw_m9 95 rfl) rfl
theorem q2139 : (Jvm.Cond.fieldLink "RulehearthModel" (97 : Nat) "RulehearthModel" "keys" "[I") ∈ lw_all := lw_g (lw_at lw_m9 96 rfl) rfl
theorem q2140 : (Jvm.Cond.fieldLink "RulehearthModel" (100 : Nat) "RulehearthModel" "lows" "[J") ∈ lw_all := lw_g (lw_at lw_m9 97 rfl) rfl
theorem q2141 : (Jvm.Cond.fieldLink "RulehearthModel" (104 : Nat) "RulehearthModel" "highs" "[J") ∈ lw_all := lw_g (lw_at lw_m9 98 rfl) rfl
theorem q2142 : (Jvm.Cond.fieldLink "RulehearthModel" (107 : Nat) "RulehearthModel" "groupDepths" "[I") ∈ lw_all := lw_g (lw_at lw_m9 99 rfl) rfl
theorem q2143 : (Jvm.Cond.fieldLink "RulehearthModel" (110 : Nat) "RulehearthModel" "groupFacts" "[J") ∈ lw_all := lw_g (lw_at lw_m9 100 rfl) rfl
theorem q2144 : (Jvm.Cond.fieldLink "RulehearthModel" (113 : Nat) "RulehearthModel" "depths" "[I") ∈ lw_all := lw_g (lw_at lw_m9 101 rfl) rfl
theorem q2145 : (Jvm.Cond.fieldLink "RulehearthModel" (116 : Nat) "RulehearthModel" "rests" "[J") ∈ lw_all := lw_g (lw_at lw_m9 102 rfl) rfl
theorem q2146 : (Jvm.Cond.fieldLink "RulehearthModel" (119 : Nat) "RulehearthModel" "reasons" "[I") ∈ lw_all := lw_g (lw_at lw_m9 103 rfl) rfl
theorem q2147 : (Jvm.Cond.fieldLink "RulehearthModel" (344 : Nat) "RulehearthModel" "reasonCount" "I") ∈ lw_all := lw_g (lw_at lw_m9 104 rfl) rfl
theorem q2148 : (Jvm.Cond.fieldLink "RulehearthModel" (122 : Nat) "RulehearthModel" "goals" "[I") ∈ lw_all := lw_g (lw_at lw_m9 105 rfl) rfl
theorem q2149 : (Jvm.Cond.fieldLink "RulehearthModel" (367 : Nat) "RulehearthModel" "goalCount" "I") ∈ lw_all := lw_g (lw_at lw_m9 106 rfl) rfl
theorem q2150 : (Jvm.Cond.fieldLink "RulehearthModel" (125 : Nat) "RulehearthModel" "plan" "[I") ∈ lw_all := lw_g (lw_at lw_m9 107 rfl) rfl
theorem q2151 : (Jvm.Cond.fieldLink "RulehearthModel" (411 : Nat) "RulehearthModel" "best" "I") ∈ lw_all := lw_g (lw_at lw_m9 108 rfl) rfl
theorem q2152 : (Jvm.Cond.fieldLink "RulehearthModel" (423 : Nat) "RulehearthModel" "bestTag" "I") ∈ lw_all := lw_g (lw_at lw_m9 109 rfl) rfl
theorem q2153 : (Jvm.Cond.fieldLink "RulehearthModel" (426 : Nat) "RulehearthModel" "bestFact" "I") ∈ lw_all := lw_g (lw_at lw_m9 110 rfl) rfl
theorem q2154 : (Jvm.Cond.fieldLink "RulehearthModel" (128 : Nat) "RulehearthModel" "bestFacts" "[I") ∈ lw_all := lw_g (lw_at lw_m9 111 rfl) rfl
theorem q2155 : (Jvm.Cond.lays "RulehearthModel" "RulehearthModel" "thrown" "I") ∈ lw_all := lw_g (lw_at lw_m9 112 rfl) rfl
theorem q2156 : (Jvm.Cond.soleField "RulehearthModel" "thrown") ∈ lw_all := lw_g (lw_at lw_m9 113 rfl) rfl
theorem q2157 : (Jvm.Cond.laysFinal "RulehearthModel" "RulehearthModel" "at" "[I") ∈ lw_all := lw_g (lw_at lw_m9 114 rfl) rfl
theorem q2158 : (Jvm.Cond.soleField "RulehearthModel" "at") ∈ lw_all := lw_g (lw_at lw_m9 115 rfl) rfl
theorem q2159 : (Jvm.Cond.laysFinal "RulehearthModel" "RulehearthModel" "slots" "[I") ∈ lw_all := lw_g (lw_at lw_m9 116 rfl) rfl
theorem q2160 : (Jvm.Cond.soleField "RulehearthModel" "slots") ∈ lw_all := lw_g (lw_at lw_m9 117 rfl) rfl
theorem q2161 : (Jvm.Cond.laysFinal "RulehearthModel" "RulehearthModel" "numbers" "[I") ∈ lw_all := lw_g (lw_at lw_m9 118 rfl) rfl
theorem q2162 : (Jvm.Cond.soleField "RulehearthModel" "numbers") ∈ lw_all := lw_g (lw_at lw_m9 119 rfl) rfl
theorem q2163 : (Jvm.Cond.laysFinal "RulehearthModel" "RulehearthModel" "heads" "[I") ∈ lw_all := lw_g (lw_at lw_m9 120 rfl) rfl
theorem q2164 : (Jvm.Cond.soleField "RulehearthModel" "heads") ∈ lw_all := lw_g (lw_at lw_m9 121 rfl) rfl
theorem q2165 : (Jvm.Cond.laysFinal "RulehearthModel" "RulehearthModel" "headTerms" "[I") ∈ lw_all := lw_g (lw_at lw_m9 122 rfl) rfl
theorem q2166 : (Jvm.Cond.soleField "RulehearthModel" "headTerms") ∈ lw_all := lw_g (lw_at lw_m9 123 rfl) rfl
theorem q2167 : (Jvm.Cond.laysFinal "RulehearthModel" "RulehearthModel" "items" "[I") ∈ lw_all := lw_g (lw_at lw_m9 124 rfl) rfl
theorem q2168 : (Jvm.Cond.soleField "RulehearthModel" "items") ∈ lw_all := lw_g (lw_at lw_m9 125 rfl) rfl
theorem q2169 : (Jvm.Cond.laysFinal "RulehearthModel" "RulehearthModel" "kinds" "[I") ∈ lw_all := lw_g (lw_at lw_m9 126 rfl) rfl
theorem q2170 : (Jvm.Cond.soleField "RulehearthModel" "kinds") ∈ lw_all := lw_g (lw_at lw_m9 127 rfl) rfl
theorem q2171 : (Jvm.Cond.laysFinal "RulehearthModel" "RulehearthModel" "whats" "[I") ∈ lw_all := lw_g (lw_at lw_m9 128 rfl) rfl
theorem q2172 : (Jvm.Cond.soleField "RulehearthModel" "whats") ∈ lw_all := lw_g (lw_at lw_m9 129 rfl) rfl
theorem q2173 : (Jvm.Cond.laysFinal "RulehearthModel" "RulehearthModel" "terms" "[I") ∈ lw_all := lw_g (lw_at lw_m9 130 rfl) rfl
theorem q2174 : (Jvm.Cond.soleField "RulehearthModel" "terms") ∈ lw_all := lw_g (lw_at lw_m9 131 rfl) rfl
theorem q2175 : (Jvm.Cond.laysFinal "RulehearthModel" "RulehearthModel" "modules" "[I") ∈ lw_all := lw_g (lw_at lw_m9 132 rfl) rfl
theorem q2176 : (Jvm.Cond.soleField "RulehearthModel" "modules") ∈ lw_all := lw_g (lw_at lw_m9 133 rfl) rfl
theorem q2177 : (Jvm.Cond.laysFinal "RulehearthModel" "RulehearthModel" "saliences" "[I") ∈ lw_all := lw_g (lw_at lw_m9 134 rfl) rfl
theorem q2178 : (Jvm.Cond.soleField "RulehearthModel" "saliences") ∈ lw_all := lw_g (lw_at lw_m9 135 rfl) rfl
theorem q2179 : (Jvm.Cond.laysFinal "RulehearthModel" "RulehearthModel" "tells" "[I") ∈ lw_all := lw_g (lw_at lw_m9 136 rfl) rfl
theorem q2180 : (Jvm.Cond.soleField "RulehearthModel" "tells") ∈ lw_all := lw_g (lw_at lw_m9 137 rfl) rfl
theorem q2181 : (Jvm.Cond.laysFinal "RulehearthModel" "RulehearthModel" "told" "[I") ∈ lw_all := lw_g (lw_at lw_m9 138 rfl) rfl
theorem q2182 : (Jvm.Cond.soleField "RulehearthModel" "told") ∈ lw_all := lw_g (lw_at lw_m9 139 rfl) rfl
theorem q2183 : (Jvm.Cond.laysFinal "RulehearthModel" "RulehearthModel" "ends" "[I") ∈ lw_all := lw_g (lw_at lw_m9 140 rfl) rfl
theorem q2184 : (Jvm.Cond.soleField "RulehearthModel" "ends") ∈ lw_all := lw_g (lw_at lw_m9 141 rfl) rfl
theorem q2185 : (Jvm.Cond.laysFinal "RulehearthModel" "RulehearthModel" "facts" "[I") ∈ lw_all := lw_g (lw_at lw_m9 142 rfl) rfl
theorem q2186 : (Jvm.Cond.soleField "RulehearthModel" "facts") ∈ lw_all := lw_g (lw_at lw_m9 143 rfl) rfl
theorem q2187 : (Jvm.Cond.laysFinal "RulehearthModel" "RulehearthModel" "tags" "[I") ∈ lw_all := lw_g (lw_at lw_m9 144 rfl) rfl
theorem q2188 : (Jvm.Cond.soleField "RulehearthModel" "tags") ∈ lw_all := lw_g (lw_at lw_m9 145 rfl) rfl
theorem q2189 : (Jvm.Cond.laysFinal "RulehearthModel" "RulehearthModel" "stack" "[I") ∈ lw_all := lw_g (lw_at lw_m9 146 rfl) rfl
theorem q2190 : (Jvm.Cond.soleField "RulehearthModel" "stack") ∈ lw_all := lw_g (lw_at lw_m9 147 rfl) rfl
theorem q2191 : (Jvm.Cond.laysFinal "RulehearthModel" "RulehearthModel" "fired" "[I") ∈ lw_all := lw_g (lw_at lw_m9 148 rfl) rfl
theorem q2192 : (Jvm.Cond.soleField "RulehearthModel" "fired") ∈ lw_all := lw_g (lw_at lw_m9 149 rfl) rfl
theorem q2193 : (Jvm.Cond.laysFinal "RulehearthModel" "RulehearthModel" "savedNumbers" "[I") ∈ lw_all := lw_g (lw_at lw_m9 150 rfl) rfl
theorem q2194 : (Jvm.Cond.soleField "RulehearthModel" "savedNumbers") ∈ lw_all := lw_g (lw_at lw_m9 151 rfl) rfl
theorem q2195 : (Jvm.Cond.laysFinal "RulehearthModel" "RulehearthModel" "savedBodies" "[I") ∈ lw_all := lw_g (lw_at lw_m9 152 rfl) rfl
theorem q2196 : (Jvm.Cond.soleField "RulehearthModel" "savedBodies") ∈ lw_all := lw_g (lw_at lw_m9 153 rfl) rfl
theorem q2197 : (Jvm.Cond.laysFinal "RulehearthModel" "RulehearthModel" "savedFacts" "[I") ∈ lw_all := lw_g (lw_at lw_m9 154 rfl) rfl
theorem q2198 : (Jvm.Cond.soleField "RulehearthModel" "savedFacts") ∈ lw_all := lw_g (lw_at lw_m9 155 rfl) rfl
theorem q2199 : (Jvm.Cond.lays "RulehearthModel" "RulehearthModel" "begun" "I") ∈ lw_all := lw_g (lw_at lw_m9 156 rfl) rfl
theorem q2200 : (Jvm.Cond.soleField "RulehearthModel" "begun") ∈ lw_all := lw_g (lw_at lw_m9 157 rfl) rfl
theorem q2201 : (Jvm.Cond.lays "RulehearthModel" "RulehearthModel" "draft" "I") ∈ lw_all := lw_g (lw_at lw_m9 158 rfl) rfl
theorem q2202 : (Jvm.Cond.soleField "RulehearthModel" "draft") ∈ lw_all := lw_g (lw_at lw_m9 159 rfl) rfl
theorem q2203 : (Jvm.Cond.lays "RulehearthModel" "RulehearthModel" "typed" "I") ∈ lw_all := lw_g (lw_at lw_m9 160 rfl) rfl
theorem q2204 : (Jvm.Cond.soleField "RulehearthModel" "typed") ∈ lw_all := lw_g (lw_at lw_m9 161 rfl) rfl
theorem q2205 : (Jvm.Cond.laysFinal "RulehearthModel" "RulehearthModel" "strata" "[I") ∈ lw_all := lw_g (lw_at lw_m9 162 rfl) rfl
theorem q2206 : (Jvm.Cond.soleField "RulehearthModel" "strata") ∈ lw_all := lw_g (lw_at lw_m9 163 rfl) rfl
theorem q2207 : (Jvm.Cond.laysFinal "RulehearthModel" "RulehearthModel" "hadFacts" "[I") ∈ lw_all := lw_g (lw_at lw_m9 164 rfl) rfl
theorem q2208 : (Jvm.Cond.soleField "RulehearthModel" "hadFacts") ∈ lw_all := lw_g (lw_at lw_m9 165 rfl) rfl
theorem q2209 : (Jvm.Cond.laysFinal "RulehearthModel" "RulehearthModel" "hadTags" "[I") ∈ lw_all := lw_g (lw_at lw_m9 166 rfl) rfl
theorem q2210 : (Jvm.Cond.soleField "RulehearthModel" "hadTags") ∈ lw_all := lw_g (lw_at lw_m9 167 rfl) rfl
theorem q2211 : (Jvm.Cond.laysFinal "RulehearthModel" "RulehearthModel" "pending" "[I") ∈ lw_all := lw_g (lw_at lw_m9 168 rfl) rfl
theorem q2212 : (Jvm.Cond.soleField "RulehearthModel" "pending") ∈ lw_all := lw_g (lw_at lw_m9 169 rfl) rfl
theorem q2213 : (Jvm.Cond.lays "RulehearthModel" "RulehearthModel" "waiting" "I") ∈ lw_all := lw_g (lw_at lw_m9 170 rfl) rfl
theorem q2214 : (Jvm.Cond.soleField "RulehearthModel" "waiting") ∈ lw_all := lw_g (lw_at lw_m9 171 rfl) rfl
theorem q2215 : (Jvm.Cond.lays "RulehearthModel" "RulehearthModel" "isTooMuch" "Z") ∈ lw_all := lw_g (lw_at lw_m9 172 rfl) rfl
theorem q2216 : (Jvm.Cond.soleField "RulehearthModel" "isTooMuch") ∈ lw_all := lw_g (lw_at lw_m9 173 rfl) rfl
theorem q2217 : (Jvm.Cond.lays "RulehearthModel" "RulehearthModel" "matched" "I") ∈ lw_all := lw_g (lw_at lw_m9 174 rfl) rfl
theorem q2218 : (Jvm.Cond.soleField "RulehearthModel" "matched") ∈ lw_all := lw_g (lw_at lw_m9 175 rfl) rfl
theorem q2219 : (Jvm.Cond.lays "RulehearthModel" "RulehearthModel" "length" "I") ∈ lw_all := lw_g (lw_at lw_m9 176 rfl) rfl
theorem q2220 : (Jvm.Cond.soleField "RulehearthModel" "length") ∈ lw_all := lw_g (lw_at lw_m9 177 rfl) rfl
theorem q2221 : (Jvm.Cond.lays "RulehearthModel" "RulehearthModel" "hasBegun" "Z") ∈ lw_all := lw_g (lw_at lw_m9 178 rfl) rfl
theorem q2222 : (Jvm.Cond.soleField "RulehearthModel" "hasBegun") ∈ lw_all := lw_g (lw_at lw_m9 179 rfl) rfl
theorem q2223 : (Jvm.Cond.lays "RulehearthModel" "RulehearthModel" "deepest" "I") ∈ lw_all := lw_g (lw_at lw_m9 180 rfl) rfl
theorem q2224 : (Jvm.Cond.soleField "RulehearthModel" "deepest") ∈ lw_all := lw_g (lw_at lw_m9 181 rfl) rfl
theorem q2225 : (Jvm.Cond.laysFinal "RulehearthModel" "RulehearthModel" "order" "[I") ∈ lw_all := lw_g (lw_at lw_m9 182 rfl) rfl
theorem q2226 : (Jvm.Cond.soleField "RulehearthModel" "order") ∈ lw_all := lw_g (lw_at lw_m9 183 rfl) rfl
theorem q2227 : (Jvm.Cond.laysFinal "RulehearthModel" "RulehearthModel" "tried" "[I") ∈ lw_all := lw_g (lw_at lw_m9 184 rfl) rfl
theorem q2228 : (Jvm.Cond.soleField "RulehearthModel" "tried") ∈ lw_all := lw_g (lw_at lw_m9 185 rfl) rfl
theorem q2229 : (Jvm.Cond.laysFinal "RulehearthModel" "RulehearthModel" "values" "[I") ∈ lw_all := lw_g (lw_at lw_m9 186 rfl) rfl
theorem q2230 : (Jvm.Cond.soleField "RulehearthModel" "values") ∈ lw_all := lw_g (lw_at lw_m9 187 rfl) rfl
theorem q2231 : (Jvm.Cond.laysFinal "RulehearthModel" "RulehearthModel" "knownBy" "[I") ∈ lw_all := lw_g (lw_at lw_m9 188 rfl) rfl
theorem q2232 : (Jvm.Cond.soleField "RulehearthModel" "knownBy") ∈ lw_all := lw_g (lw_at lw_m9 189 rfl) rfl
theorem q2233 : (Jvm.Cond.lays "RulehearthModel" "RulehearthModel" "groups" "I") ∈ lw_all := lw_g (lw_at lw_m9 190 rfl) rfl
theorem q2234 : (Jvm.Cond.soleField "RulehearthModel" "groups") ∈ lw_all := lw_g (lw_at lw_m9 191 rfl) rfl
theorem q2235 : (Jvm.Cond.laysFinal "RulehearthModel" "RulehearthModel" "keys" "[I") ∈ lw_all := lw_g (lw_at lw_m9 192 rfl) rfl
theorem q2236 : (Jvm.Cond.soleField "RulehearthModel" "keys") ∈ lw_all := lw_g (lw_at lw_m9 193 rfl) rfl
theorem q2237 : (Jvm.Cond.laysFinal "RulehearthModel" "RulehearthModel" "lows" "[J") ∈ lw_all := lw_g (lw_at lw_m9 194 rfl) rfl
theorem q2238 : (Jvm.Cond.soleField "RulehearthModel" "lows") ∈ lw_all := lw_g (lw_at lw_m9 195 rfl) rfl
theorem q2239 : (Jvm.Cond.laysFinal "RulehearthModel" "RulehearthModel" "highs" "[J") ∈ lw_all := lw_g (lw_at lw_m9 196 rfl) rfl
theorem q2240 : (Jvm.Cond.soleField "RulehearthModel" "highs") ∈ lw_all := lw_g (lw_at lw_m9 197 rfl) rfl
theorem q2241 : (Jvm.Cond.laysFinal "RulehearthModel" "RulehearthModel" "groupDepths" "[I") ∈ lw_all := lw_g (lw_at lw_m9 198 rfl) rfl
theorem q2242 : (Jvm.Cond.soleField "RulehearthModel" "groupDepths") ∈ lw_all := lw_g (lw_at lw_m9 199 rfl) rfl
theorem q2243 : (Jvm.Cond.laysFinal "RulehearthModel" "RulehearthModel" "groupFacts" "[J") ∈ lw_all := lw_g (lw_at lw_m9 200 rfl) rfl
theorem q2244 : (Jvm.Cond.soleField "RulehearthModel" "groupFacts") ∈ lw_all := lw_g (lw_at lw_m9 201 rfl) rfl
theorem q2245 : (Jvm.Cond.laysFinal "RulehearthModel" "RulehearthModel" "depths" "[I") ∈ lw_all := lw_g (lw_at lw_m9 202 rfl) rfl
theorem q2246 : (Jvm.Cond.soleField "RulehearthModel" "depths") ∈ lw_all := lw_g (lw_at lw_m9 203 rfl) rfl
theorem q2247 : (Jvm.Cond.laysFinal "RulehearthModel" "RulehearthModel" "rests" "[J") ∈ lw_all := lw_g (lw_at lw_m9 204 rfl) rfl
theorem q2248 : (Jvm.Cond.soleField "RulehearthModel" "rests") ∈ lw_all := lw_g (lw_at lw_m9 205 rfl) rfl
theorem q2249 : (Jvm.Cond.laysFinal "RulehearthModel" "RulehearthModel" "reasons" "[I") ∈ lw_all := lw_g (lw_at lw_m9 206 rfl) rfl
theorem q2250 : (Jvm.Cond.soleField "RulehearthModel" "reasons") ∈ lw_all := lw_g (lw_at lw_m9 207 rfl) rfl
theorem q2251 : (Jvm.Cond.lays "RulehearthModel" "RulehearthModel" "reasonCount" "I") ∈ lw_all := lw_g (lw_at lw_m9 208 rfl) rfl
theorem q2252 : (Jvm.Cond.soleField "RulehearthModel" "reasonCount") ∈ lw_all := lw_g (lw_at lw_m9 209 rfl) rfl
theorem q2253 : (Jvm.Cond.laysFinal "RulehearthModel" "RulehearthModel" "goals" "[I") ∈ lw_all := lw_g (lw_at lw_m9 210 rfl) rfl
theorem q2254 : (Jvm.Cond.soleField "RulehearthModel" "goals") ∈ lw_all := lw_g (lw_at lw_m9 211 rfl) rfl
theorem q2255 : (Jvm.Cond.lays "RulehearthModel" "RulehearthModel" "goalCount" "I") ∈ lw_all := lw_g (lw_at lw_m9 212 rfl) rfl
theorem q2256 : (Jvm.Cond.soleField "RulehearthModel" "goalCount") ∈ lw_all := lw_g (lw_at lw_m9 213 rfl) rfl
theorem q2257 : (Jvm.Cond.laysFinal "RulehearthModel" "RulehearthModel" "plan" "[I") ∈ lw_all := lw_g (lw_at lw_m9 214 rfl) rfl
theorem q2258 : (Jvm.Cond.soleField "RulehearthModel" "plan") ∈ lw_all := lw_g (lw_at lw_m9 215 rfl) rfl
theorem q2259 : (Jvm.Cond.lays "RulehearthModel" "RulehearthModel" "best" "I") ∈ lw_all := lw_g (lw_at lw_m9 216 rfl) rfl
theorem q2260 : (Jvm.Cond.soleField "RulehearthModel" "best") ∈ lw_all := lw_g (lw_at lw_m9 217 rfl) rfl
theorem q2261 : (Jvm.Cond.lays "RulehearthModel" "RulehearthModel" "bestTag" "I") ∈ lw_all := lw_g (lw_at lw_m9 218 rfl) rfl
theorem q2262 : (Jvm.Cond.soleField "RulehearthModel" "bestTag") ∈ lw_all := lw_g (lw_at lw_m9 219 rfl) rfl
theorem q2263 : (Jvm.Cond.lays "RulehearthModel" "RulehearthModel" "bestFact" "I") ∈ lw_all := lw_g (lw_at lw_m9 220 rfl) rfl
theorem q2264 : (Jvm.Cond.soleField "RulehearthModel" "bestFact") ∈ lw_all := lw_g (lw_at lw_m9 221 rfl) rfl
theorem q2265 : (Jvm.Cond.laysFinal "RulehearthModel" "RulehearthModel" "bestFacts" "[I") ∈ lw_all := lw_g (lw_at lw_m9 222 rfl) rfl
theorem q2266 : (Jvm.Cond.soleField "RulehearthModel" "bestFacts") ∈ lw_all := lw_g (lw_at lw_m9 223 rfl) rfl
theorem q2267 : (Jvm.Cond.superclass "RulehearthModel" "java/lang/Object") ∈ lw_all := lw_g (lw_at lw_m9 224 rfl) rfl
theorem q2269 : (Jvm.Cond.instanceMethod ({ cls := "RulehearthModel", name := "thrown", desc := "()I" } : Jvm.MethodName)) ∈ lw_all := lw_g (lw_at lw_m9 226 rfl) rfl
theorem q2270 : (Jvm.Cond.selects "RulehearthModel" ({ cls := "RulehearthModel", name := "thrown", desc := "()I" } : Jvm.MethodName) ({ cls := "RulehearthModel", name := "thrown", desc := "()I" } : Jvm.MethodName)) ∈ lw_all := lw_g (lw_at lw_m9 227 rfl) rfl
theorem q2271 : (Jvm.Cond.code ({ cls := "RulehearthModel", name := "thrown", desc := "()I" } : Jvm.MethodName) prog_19_method_2_code (1 : Nat) (Option.some Jvm.ClassFile.FieldType.int)) ∈ lw_all := lw_g (lw_at lw_m9 228 rfl) rfl
theorem q2273 : (Jvm.Cond.instanceMethod ({ cls := "RulehearthModel", name := "relation", desc := "(I)I" } : Jvm.MethodName)) ∈ lw_all := lw_g (lw_at lw_m9 230 rfl) rfl
theorem q2274 : (Jvm.Cond.selects "RulehearthModel" ({ cls := "RulehearthModel", name := "relation", desc := "(I)I" } : Jvm.MethodName) ({ cls := "RulehearthModel", name := "relation", desc := "(I)I" } : Jvm.MethodName)) ∈ lw_all := lw_g (lw_at lw_m9 231 rfl) rfl
theorem q2275 : (Jvm.Cond.code ({ cls := "RulehearthModel", name := "relation", desc := "(I)I" } : Jvm.MethodName) prog_19_method_41_code (2 : Nat) (Option.some Jvm.ClassFile.FieldType.int)) ∈ lw_all := lw_g (lw_at lw_m9 232 rfl) rfl
theorem q2276 : (Jvm.Cond.methodLink "RulehearthModel" (135 : Nat) ({ cls := "RulehearthModel", name := "in", desc := "(III)Z" } : Jvm.MethodName)) ∈ lw_all := lw_g (lw_at lw_m9 233 rfl) rfl
theorem q2277 : (Jvm.Cond.static ({ cls := "RulehearthModel", name := "in", desc := "(III)Z" } : Jvm.MethodName)) ∈ lw_all := lw_g (lw_at lw_m9 234 rfl) rfl
theorem q2278 : (Jvm.Cond.code ({ cls := "RulehearthModel", name := "in", desc := "(III)Z" } : Jvm.MethodName) prog_19_method_4_code (3 : Nat) (Option.some Jvm.ClassFile.FieldType.boolean)) ∈ lw_all := lw_g (lw_at lw_m9 235 rfl) rfl
theorem q2279 : (Jvm.Cond.methodLink "RulehearthModel" (266 : Nat) ({ cls := "RulehearthModel", name := "goesWell", desc := "(I)Z" } : Jvm.MethodName)) ∈ lw_all := lw_g (lw_at lw_m9 236 rfl) rfl
theorem q2280 : (Jvm.Cond.privateMethod ({ cls := "RulehearthModel", name := "goesWell", desc := "(I)Z" } : Jvm.MethodName)) ∈ lw_tbl := lw_at lw_m9 237 rfl
theorem q2281 : (Jvm.Cond.instanceMethod ({ cls := "RulehearthModel", name := "goesWell", desc := "(I)Z" } : Jvm.MethodName)) ∈ lw_all := lw_g (lw_at lw_m9 238 rfl) rfl
theorem q2282 : (Jvm.Cond.code ({ cls := "RulehearthModel", name := "goesWell", desc := "(I)Z" } : Jvm.MethodName) prog_19_method_3_code (2 : Nat) (Option.some Jvm.ClassFile.FieldType.boolean)) ∈ lw_all := lw_g (lw_at lw_m9 239 rfl) rfl
theorem q2284 : (Jvm.Cond.instanceMethod ({ cls := "RulehearthModel", name := "tell", desc := "(II)I" } : Jvm.MethodName)) ∈ lw_all := lw_g (lw_at lw_m10 1 rfl) rfl
theorem q2285 : (Jvm.Cond.selects "RulehearthModel" ({ cls := "RulehearthModel", name := "tell", desc := "(II)I" } : Jvm.MethodName) ({ cls := "RulehearthModel", name := "tell", desc := "(II)I" } : Jvm.MethodName)) ∈ lw_all := lw_g (lw_at lw_m10 2 rfl) rfl
theorem q2286 : (Jvm.Cond.code ({ cls := "RulehearthModel", name := "tell", desc := "(II)I" } : Jvm.MethodName) prog_19_method_45_code (4 : Nat) (Option.some Jvm.ClassFile.FieldType.int)) ∈ lw_all := lw_g (lw_at lw_m10 3 rfl) rfl
theorem q2287 : (Jvm.Cond.methodLink "RulehearthModel" (272 : Nat) ({ cls := "RulehearthModel", name := "faultOf", desc := "(I)I" } : Jvm.MethodName)) ∈ lw_all := lw_g (lw_at lw_m10 4 rfl) rfl
theorem q2288 : (Jvm.Cond.privateMethod ({ cls := "RulehearthModel", name := "faultOf", desc := "(I)I" } : Jvm.MethodName)) ∈ lw_tbl := lw_at lw_m10 5 rfl
theorem q2289 : (Jvm.Cond.instanceMethod ({ cls := "RulehearthModel", name := "faultOf", desc := "(I)I" } : Jvm.MethodName)) ∈ lw_all := lw_g (lw_at lw_m10 6 rfl) rfl
theorem q2290 : (Jvm.Cond.code ({ cls := "RulehearthModel", name := "faultOf", desc := "(I)I" } : Jvm.MethodName) prog_19_method_6_code (4 : Nat) (Option.some Jvm.ClassFile.FieldType.int)) ∈ lw_all := lw_g (lw_at lw_m10 7 rfl) rfl
theorem q2291 : (Jvm.Cond.constant "RulehearthModel" (139 : Nat) (1000000 : Int32)) ∈ lw_all := lw_g (lw_at lw_m10 8 rfl) rfl
theorem q2292 : (Jvm.Cond.methodLink "RulehearthModel" (140 : Nat) ({ cls := "RulehearthModel", name := "isRelation", desc := "(I)Z" } : Jvm.MethodName)) ∈ lw_all := lw_g (lw_at lw_m10 9 rfl) rfl
theorem q2293 : (Jvm.Cond.privateMethod ({ cls := "RulehearthModel", name := "isRelation", desc := "(I)Z" } : Jvm.MethodName)) ∈ lw_tbl := lw_at lw_m10 10 rfl
theorem q2294 : (Jvm.Cond.instanceMethod ({ cls := "RulehearthModel", name := "isRelation", desc := "(I)Z" } : Jvm.MethodName)) ∈ lw_all := lw_g (lw_at lw_m10 11 rfl) rfl
theorem q2295 : (Jvm.Cond.code ({ cls := "RulehearthModel", name := "isRelation", desc := "(I)Z" } : Jvm.MethodName) prog_19_method_5_code (2 : Nat) (Option.some Jvm.ClassFile.FieldType.boolean)) ∈ lw_all := lw_g (lw_at lw_m10 12 rfl) rfl
theorem q2296 : (Jvm.Cond.methodLink "RulehearthModel" (275 : Nat) ({ cls := "RulehearthModel", name := "save", desc := "(I)V" } : Jvm.MethodName)) ∈ lw_all := lw_g (lw_at lw_m10 13 rfl) rfl
theorem q2297 : (Jvm.Cond.privateMethod ({ cls := "RulehearthModel", name := "save", desc := "(I)V" } : Jvm.MethodName)) ∈ lw_tbl := lw_at lw_m10 14 rfl
theorem q2298 : (Jvm.Cond.instanceMethod ({ cls := "RulehearthModel", name := "save", desc := "(I)V" } : Jvm.MethodName)) ∈ lw_all := lw_g (lw_at lw_m10 15 rfl) rfl
theorem q2299 : (Jvm.Cond.code ({ cls := "RulehearthModel", name := "save", desc := "(I)V" } : Jvm.MethodName) prog_19_method_10_code (4 : Nat) (Option.none : Option Jvm.ClassFile.FieldType)) ∈ lw_all := lw_g (lw_at lw_m10 16 rfl) rfl
theorem q2300 : (Jvm.Cond.methodLink "RulehearthModel" (144 : Nat) ({ cls := "RulehearthModel", name := "copy", desc := "([II[III)I" } : Jvm.MethodName)) ∈ lw_all := lw_g (lw_at lw_m10 17 rfl) rfl
theorem q2301 : (Jvm.Cond.static ({ cls := "RulehearthModel", name := "copy", desc := "([II[III)I" } : Jvm.MethodName)) ∈ lw_all := lw_g (lw_at lw_m10 18 rfl) rfl
theorem q2302 : (Jvm.Cond.code ({ cls := "RulehearthModel", name := "copy", desc := "([II[III)I" } : Jvm.MethodName) prog_19_method_9_code (6 : Nat) (Option.some Jvm.ClassFile.FieldType.int)) ∈ lw_all := lw_g (lw_at lw_m10 19 rfl) rfl
theorem q2303 : (Jvm.Cond.methodLink "RulehearthModel" (278 : Nat) ({ cls := "RulehearthModel", name := "tellFact", desc := "(II)V" } : Jvm.MethodName)) ∈ lw_all := lw_g (lw_at lw_m10 20 rfl) rfl
theorem q2304 : (Jvm.Cond.privateMethod ({ cls := "RulehearthModel", name := "tellFact", desc := "(II)V" } : Jvm.MethodName)) ∈ lw_tbl := lw_at lw_m10 21 rfl
theorem q2305 : (Jvm.Cond.instanceMethod ({ cls := "RulehearthModel", name := "tellFact", desc := "(II)V" } : Jvm.MethodName)) ∈ lw_all := lw_g (lw_at lw_m10 22 rfl) rfl
theorem q2306 : (Jvm.Cond.code ({ cls := "RulehearthModel", name := "tellFact", desc := "(II)V" } : Jvm.MethodName) prog_19_method_43_code (4 : Nat) (Option.none : Option Jvm.ClassFile.FieldType)) ∈ lw_all := lw_g (lw_at lw_m10 23 rfl) rfl
theorem q2307 : (Jvm.Cond.methodLink "RulehearthModel" (269 : Nat) ({ cls := "RulehearthModel", name := "toldAt", desc := "(I)I" } : Jvm.MethodName)) ∈ lw_all := lw_g (lw_at lw_m10 24 rfl) rfl
theorem q2308 : (Jvm.Cond.privateMethod ({ cls := "RulehearthModel", name := "toldAt", desc := "(I)I" } : Jvm.MethodName)) ∈ lw_tbl := lw_at lw_m10 25 rfl
theorem q2309 : (Jvm.Cond.instanceMethod ({ cls := "RulehearthModel", name := "toldAt", desc := "(I)I" } : Jvm.MethodName)) ∈ lw_all := lw_g (lw_at lw_m10 26 rfl) rfl
theorem q2310 : (Jvm.Cond.code ({ cls := "RulehearthModel", name := "toldAt", desc := "(I)I" } : Jvm.MethodName) prog_19_method_42_code (4 : Nat) (Option.some Jvm.ClassFile.FieldType.int)) ∈ lw_all := lw_g (lw_at lw_m10 27 rfl) rfl
theorem q2311 : (Jvm.Cond.methodLink "RulehearthModel" (281 : Nat) ({ cls := "RulehearthModel", name := "settledOr", desc := "(I)I" } : Jvm.MethodName)) ∈ lw_all := lw_g (lw_at lw_m10 28 rfl) rfl
theorem q2312 : (Jvm.Cond.privateMethod ({ cls := "RulehearthModel", name := "settledOr", desc := "(I)I" } : Jvm.MethodName)) ∈ lw_tbl := lw_at lw_m10 29 rfl
theorem q2313 : (Jvm.Cond.instanceMethod ({ cls := "RulehearthModel", name := "settledOr", desc := "(I)I" } : Jvm.MethodName)) ∈ lw_all := lw_g (lw_at lw_m10 30 rfl) rfl
theorem q2314 : (Jvm.Cond.code ({ cls := "RulehearthModel", name := "settledOr", desc := "(I)I" } : Jvm.MethodName) prog_19_method_46_code (2 : Nat) (Option.some Jvm.ClassFile.FieldType.int)) ∈ lw_all := lw_g (lw_at lw_m10 31 rfl) rfl
theorem q2315 : (Jvm.Cond.methodLink "RulehearthModel" (284 : Nat) ({ cls := "RulehearthModel", name := "settle", desc := "()Z" } : Jvm.MethodName)) ∈ lw_all := lw_g (lw_at lw_m10 32 rfl) rfl
theorem q2316 : (Jvm.Cond.privateMethod ({ cls := "RulehearthModel", name := "settle", desc := "()Z" } : Jvm.MethodName)) ∈ lw_tbl := lw_at lw_m10 33 rfl
theorem q2317 : (Jvm.Cond.instanceMethod ({ cls := "RulehearthModel", name := "settle", desc := "()Z" } : Jvm.MethodName)) ∈ lw_all := lw_g (lw_at lw_m10 34 rfl) rfl
theorem q2318 : (Jvm.Cond.code ({ cls := "RulehearthModel", name := "settle", desc := "()Z" } : Jvm.MethodName) prog_19_method_39_code (7 : Nat) (Option.some Jvm.ClassFile.FieldType.boolean)) ∈ lw_all := lw_g (lw_at lw_m10 35 rfl) rfl
theorem q2319 : (Jvm.Cond.methodLink "RulehearthModel" (257 : Nat) ({ cls := "RulehearthModel", name := "findStrata", desc := "()Z" } : Jvm.MethodName)) ∈ lw_all := lw_g (lw_at lw_m10 36 rfl) rfl
theorem q2320 : (Jvm.Cond.privateMethod ({ cls := "RulehearthModel", name := "findStrata", desc := "()Z" } : Jvm.MethodName)) ∈ lw_tbl := lw_at lw_m10 37 rfl
theorem q2321 : (Jvm.Cond.instanceMethod ({ cls := "RulehearthModel", name := "findStrata", desc := "()Z" } : Jvm.MethodName)) ∈ lw_all := lw_g (lw_at lw_m10 38 rfl) rfl
theorem q2322 : (Jvm.Cond.code ({ cls := "RulehearthModel", name := "findStrata", desc := "()Z" } : Jvm.MethodName) prog_19_method_34_code (4 : Nat) (Option.some Jvm.ClassFile.FieldType.boolean)) ∈ lw_all := lw_g (lw_at lw_m10 39 rfl) rfl
theorem q2323 : (Jvm.Cond.methodLink "RulehearthModel" (233 : Nat) ({ cls := "RulehearthModel", name := "leastStratum", desc := "(I)I" } : Jvm.MethodName)) ∈ lw_all := lw_g (lw_at lw_m10 40 rfl) rfl
theorem q2324 : (Jvm.Cond.privateMethod ({ cls := "RulehearthModel", name := "leastStratum", desc := "(I)I" } : Jvm.MethodName)) ∈ lw_tbl := lw_at lw_m10 41 rfl
theorem q2325 : (Jvm.Cond.instanceMethod ({ cls := "RulehearthModel", name := "leastStratum", desc := "(I)I" } : Jvm.MethodName)) ∈ lw_all := lw_g (lw_at lw_m10 42 rfl) rfl
theorem q2326 : (Jvm.Cond.code ({ cls := "RulehearthModel", name := "leastStratum", desc := "(I)I" } : Jvm.MethodName) prog_19_method_35_code (7 : Nat) (Option.some Jvm.ClassFile.FieldType.int)) ∈ lw_all := lw_g (lw_at lw_m10 43 rfl) rfl
theorem q2327 : (Jvm.Cond.methodLink "RulehearthModel" (148 : Nat) ({ cls := "RulehearthModel", name := "kindOf", desc := "(II)I" } : Jvm.MethodName)) ∈ lw_all := lw_g (lw_at lw_m10 44 rfl) rfl
theorem q2328 : (Jvm.Cond.privateMethod ({ cls := "RulehearthModel", name := "kindOf", desc := "(II)I" } : Jvm.MethodName)) ∈ lw_tbl := lw_at lw_m10 45 rfl
theorem q2329 : (Jvm.Cond.instanceMethod ({ cls := "RulehearthModel", name := "kindOf", desc := "(II)I" } : Jvm.MethodName)) ∈ lw_all := lw_g (lw_at lw_m10 46 rfl) rfl
theorem q2330 : (Jvm.Cond.code ({ cls := "RulehearthModel", name := "kindOf", desc := "(II)I" } : Jvm.MethodName) prog_19_method_12_code (3 : Nat) (Option.some Jvm.ClassFile.FieldType.int)) ∈ lw_all := lw_g (lw_at lw_m10 47 rfl) rfl
theorem q2331 : (Jvm.Cond.methodLink "RulehearthModel" (236 : Nat) ({ cls := "RulehearthModel", name := "isGathering", desc := "(I)Z" } : Jvm.MethodName)) ∈ lw_all := lw_g (lw_at lw_m10 48 rfl) rfl
theorem q2332 : (Jvm.Cond.privateMethod ({ cls := "RulehearthModel", name := "isGathering", desc := "(I)Z" } : Jvm.MethodName)) ∈ lw_tbl := lw_at lw_m10 49 rfl
theorem q2333 : (Jvm.Cond.instanceMethod ({ cls := "RulehearthModel", name := "isGathering", desc := "(I)Z" } : Jvm.MethodName)) ∈ lw_all := lw_g (lw_at lw_m10 50 rfl) rfl
theorem q2334 : (Jvm.Cond.code ({ cls := "RulehearthModel", name := "isGathering", desc := "(I)Z" } : Jvm.MethodName) prog_19_method_26_code (4 : Nat) (Option.some Jvm.ClassFile.FieldType.boolean)) ∈ lw_all := lw_g (lw_at lw_m10 51 rfl) rfl
theorem q2335 : (Jvm.Cond.methodLink "RulehearthModel" (152 : Nat) ({ cls := "RulehearthModel", name := "whatOf", desc := "(II)I" } : Jvm.MethodName)) ∈ lw_all := lw_g (lw_at lw_m10 52 rfl) rfl
theorem q2336 : (Jvm.Cond.privateMethod ({ cls := "RulehearthModel", name := "whatOf", desc := "(II)I" } : Jvm.MethodName)) ∈ lw_tbl := lw_at lw_m10 53 rfl
theorem q2337 : (Jvm.Cond.instanceMethod ({ cls := "RulehearthModel", name := "whatOf", desc := "(II)I" } : Jvm.MethodName)) ∈ lw_all := lw_g (lw_at lw_m10 54 rfl) rfl
theorem q2338 : (Jvm.Cond.code ({ cls := "RulehearthModel", name := "whatOf", desc := "(II)I" } : Jvm.MethodName) prog_19_method_13_code (3 : Nat) (Option.some Jvm.ClassFile.FieldType.int)) ∈ lw_all := lw_g (lw_at lw_m10 55 rfl) rfl
theorem q2339 : (Jvm.Cond.methodLink "RulehearthModel" (254 : Nat) ({ cls := "RulehearthModel", name := "insert", desc := "(I)V" } : Jvm.MethodName)) ∈ lw_all := lw_g (lw_at lw_m10 56 rfl) rfl
theorem q2340 : (Jvm.Cond.privateMethod ({ cls := "RulehearthModel", name := "insert", desc := "(I)V" } : Jvm.MethodName)) ∈ lw_tbl := lw_at lw_m10 57 rfl
theorem q2341 : (Jvm.Cond.instanceMethod ({ cls := "RulehearthModel", name := "insert", desc := "(I)V" } : Jvm.MethodName)) ∈ lw_all := lw_g (lw_at lw_m10 58 rfl) rfl
theorem q2342 : (Jvm.Cond.code ({ cls := "RulehearthModel", name := "insert", desc := "(I)V" } : Jvm.MethodName) prog_19_method_36_code (3 : Nat) (Option.none : Option Jvm.ClassFile.FieldType)) ∈ lw_all := lw_g (lw_at lw_m10 59 rfl) rfl
theorem q2343 : (Jvm.Cond.methodLink "RulehearthModel" (192 : Nat) ({ cls := "RulehearthModel", name := "indexOf", desc := "(I)I" } : Jvm.MethodName)) ∈ lw_all := lw_g (lw_at lw_m10 60 rfl) rfl
theorem q2344 : (Jvm.Cond.privateMethod ({ cls := "RulehearthModel", name := "indexOf", desc := "(I)I" } : Jvm.MethodName)) ∈ lw_tbl := lw_at lw_m10 61 rfl
theorem q2345 : (Jvm.Cond.instanceMethod ({ cls := "RulehearthModel", name := "indexOf", desc := "(I)I" } : Jvm.MethodName)) ∈ lw_all := lw_g (lw_at lw_m10 62 rfl) rfl
theorem q2346 : (Jvm.Cond.code ({ cls := "RulehearthModel", name := "indexOf", desc := "(I)I" } : Jvm.MethodName) prog_19_method_33_code (4 : Nat) (Option.some Jvm.ClassFile.FieldType.int)) ∈ lw_all := lw_g (lw_at lw_m10 63 rfl) rfl
theorem q2347 : (Jvm.Cond.methodLink "RulehearthModel" (260 : Nat) ({ cls := "RulehearthModel", name := "give", desc := "(I)Z" } : Jvm.MethodName)) ∈ lw_all := lw_g (lw_at lw_m10 64 rfl) rfl
theorem q2348 : (Jvm.Cond.privateMethod ({ cls := "RulehearthModel", name := "give", desc := "(I)Z" } : Jvm.MethodName)) ∈ lw_tbl := lw_at lw_m10 65 rfl
theorem q2349 : (Jvm.Cond.instanceMethod ({ cls := "RulehearthModel", name := "give", desc := "(I)Z" } : Jvm.MethodName)) ∈ lw_all := lw_g (lw_at lw_m10 66 rfl) rfl
theorem q2350 : (Jvm.Cond.code ({ cls := "RulehearthModel", name := "give", desc := "(I)Z" } : Jvm.MethodName) prog_19_method_38_code (3 : Nat) (Option.some Jvm.ClassFile.FieldType.boolean)) ∈ lw_all := lw_g (lw_at lw_m10 67 rfl) rfl
theorem q2351 : (Jvm.Cond.methodLink "RulehearthModel" (245 : Nat) ({ cls := "RulehearthModel", name := "gatherAll", desc := "(I)V" } : Jvm.MethodName)) ∈ lw_all := lw_g (lw_at lw_m10 68 rfl) rfl
theorem q2352 : (Jvm.Cond.privateMethod ({ cls := "RulehearthModel", name := "gatherAll", desc := "(I)V" } : Jvm.MethodName)) ∈ lw_tbl := lw_at lw_m10 69 rfl
theorem q2353 : (Jvm.Cond.instanceMethod ({ cls := "RulehearthModel", name := "gatherAll", desc := "(I)V" } : Jvm.MethodName)) ∈ lw_all := lw_g (lw_at lw_m10 70 rfl) rfl
theorem q2354 : (Jvm.Cond.code ({ cls := "RulehearthModel", name := "gatherAll", desc := "(I)V" } : Jvm.MethodName) prog_19_method_31_code (6 : Nat) (Option.none : Option Jvm.ClassFile.FieldType)) ∈ lw_all := lw_g (lw_at lw_m10 71 rfl) rfl
theorem q2355 : (Jvm.Cond.methodLink "RulehearthModel" (205 : Nat) ({ cls := "RulehearthModel", name := "gatheredSlot", desc := "(I)I" } : Jvm.MethodName)) ∈ lw_all := lw_g (lw_at lw_m10 72 rfl) rfl
theorem q2356 : (Jvm.Cond.privateMethod ({ cls := "RulehearthModel", name := "gatheredSlot", desc := "(I)I" } : Jvm.MethodName)) ∈ lw_tbl := lw_at lw_m10 73 rfl
theorem q2357 : (Jvm.Cond.instanceMethod ({ cls := "RulehearthModel", name := "gatheredSlot", desc := "(I)I" } : Jvm.MethodName)) ∈ lw_all := lw_g (lw_at lw_m10 74 rfl) rfl
theorem q2358 : (Jvm.Cond.code ({ cls := "RulehearthModel", name := "gatheredSlot", desc := "(I)I" } : Jvm.MethodName) prog_19_method_28_code (4 : Nat) (Option.some Jvm.ClassFile.FieldType.int)) ∈ lw_all := lw_g (lw_at lw_m10 75 rfl) rfl
theorem q2359 : (Jvm.Cond.methodLink "RulehearthModel" (211 : Nat) ({ cls := "RulehearthModel", name := "forget", desc := "()V" } : Jvm.MethodName)) ∈ lw_all := lw_g (lw_at lw_m10 76 rfl) rfl
theorem q2360 : (Jvm.Cond.privateMethod ({ cls := "RulehearthModel", name := "forget", desc := "()V" } : Jvm.MethodName)) ∈ lw_tbl := lw_at lw_m10 77 rfl
theorem q2361 : (Jvm.Cond.instanceMethod ({ cls := "RulehearthModel", name := "forget", desc := "()V" } : Jvm.MethodName)) ∈ lw_all := lw_g (lw_at lw_m10 78 rfl) rfl
theorem q2362 : (Jvm.Cond.code ({ cls := "RulehearthModel", name := "forget", desc := "()V" } : Jvm.MethodName) prog_19_method_16_code (2 : Nat) (Option.none : Option Jvm.ClassFile.FieldType)) ∈ lw_all := lw_g (lw_at lw_m10 79 rfl) rfl
theorem q2363 : (Jvm.Cond.methodLink "RulehearthModel" (214 : Nat) ({ cls := "RulehearthModel", name := "beginMatches", desc := "(II)V" } : Jvm.MethodName)) ∈ lw_all := lw_g (lw_at lw_m10 80 rfl) rfl
theorem q2364 : (Jvm.Cond.privateMethod ({ cls := "RulehearthModel", name := "beginMatches", desc := "(II)V" } : Jvm.MethodName)) ∈ lw_tbl := lw_at lw_m10 81 rfl
theorem q2365 : (Jvm.Cond.instanceMethod ({ cls := "RulehearthModel", name := "beginMatches", desc := "(II)V" } : Jvm.MethodName)) ∈ lw_all := lw_g (lw_at lw_m10 82 rfl) rfl
theorem q2366 : (Jvm.Cond.code ({ cls := "RulehearthModel", name := "beginMatches", desc := "(II)V" } : Jvm.MethodName) prog_19_method_17_code (4 : Nat) (Option.none : Option Jvm.ClassFile.FieldType)) ∈ lw_all := lw_g (lw_at lw_m10 83 rfl) rfl
theorem q2367 : (Jvm.Cond.methodLink "RulehearthModel" (218 : Nat) ({ cls := "RulehearthModel", name := "nextMatch", desc := "()Z" } : Jvm.MethodName)) ∈ lw_all := lw_g (lw_at lw_m10 84 rfl) rfl
theorem q2368 : (Jvm.Cond.privateMethod ({ cls := "RulehearthModel", name := "nextMatch", desc := "()Z" } : Jvm.MethodName)) ∈ lw_tbl := lw_at lw_m10 85 rfl
theorem q2369 : (Jvm.Cond.instanceMethod ({ cls := "RulehearthModel", name := "nextMatch", desc := "()Z" } : Jvm.MethodName)) ∈ lw_all := lw_g (lw_at lw_m10 86 rfl) rfl
theorem q2370 : (Jvm.Cond.code ({ cls := "RulehearthModel", name := "nextMatch", desc := "()Z" } : Jvm.MethodName) prog_19_method_25_code (2 : Nat) (Option.some Jvm.ClassFile.FieldType.boolean)) ∈ lw_all := lw_g (lw_at lw_m10 87 rfl) rfl
theorem q2371 : (Jvm.Cond.methodLink "RulehearthModel" (185 : Nat) ({ cls := "RulehearthModel", name := "unbind", desc := "(I)V" } : Jvm.MethodName)) ∈ lw_all := lw_g (lw_at lw_m10 88 rfl) rfl
theorem q2372 : (Jvm.Cond.privateMethod ({ cls := "RulehearthModel", name := "unbind", desc := "(I)V" } : Jvm.MethodName)) ∈ lw_tbl := lw_at lw_m10 89 rfl
theorem q2373 : (Jvm.Cond.instanceMethod ({ cls := "RulehearthModel", name := "unbind", desc := "(I)V" } : Jvm.MethodName)) ∈ lw_all := lw_g (lw_at lw_m10 90 rfl) rfl
theorem q2374 : (Jvm.Cond.code ({ cls := "RulehearthModel", name := "unbind", desc := "(I)V" } : Jvm.MethodName) prog_19_method_19_code (3 : Nat) (Option.none : Option Jvm.ClassFile.FieldType)) ∈ lw_all := lw_g (lw_at lw_m10 91 rfl) rfl
theorem q2375 : (Jvm.Cond.methodLink "RulehearthModel" (202 : Nat) ({ cls := "RulehearthModel", name := "advance", desc := "(I)Z" } : Jvm.MethodName)) ∈ lw_all := lw_g (lw_at lw_m10 92 rfl) rfl
theorem q2376 : (Jvm.Cond.privateMethod ({ cls := "RulehearthModel", name := "advance", desc := "(I)Z" } : Jvm.MethodName)) ∈ lw_tbl := lw_at lw_m10 93 rfl
theorem q2377 : (Jvm.Cond.instanceMethod ({ cls := "RulehearthModel", name := "advance", desc := "(I)Z" } : Jvm.MethodName)) ∈ lw_all := lw_g (lw_at lw_m10 94 rfl) rfl
theorem q2378 : (Jvm.Cond.code ({ cls := "RulehearthModel", name := "advance", desc := "(I)Z" } : Jvm.MethodName) prog_19_method_24_code (3 : Nat) (Option.some Jvm.ClassFile.FieldType.boolean)) ∈ lw_all := lw_g (lw_at lw_m10 95 rfl) rfl
theorem q2379 : (Jvm.Cond.methodLink "RulehearthModel" (195 : Nat) ({ cls := "RulehearthModel", name := "advanceAtom", desc := "(I)Z" } : Jvm.MethodName)) ∈ lw_all := lw_g (lw_at lw_m10 96 rfl) rfl
theorem q2380 : (Jvm.Cond.privateMethod ({ cls := "RulehearthModel", name := "advanceAtom", desc := "(I)Z" } : Jvm.MethodName)) ∈ lw_tbl := lw_at lw_m10 97 rfl
theorem q2381 : (Jvm.Cond.instanceMethod ({ cls := "RulehearthModel", name := "advanceAtom", desc := "(I)Z" } : Jvm.MethodName)) ∈ lw_all := lw_g (lw_at lw_m10 98 rfl) rfl
theorem q2382 : (Jvm.Cond.code ({ cls := "RulehearthModel", name := "advanceAtom", desc := "(I)Z" } : Jvm.MethodName) prog_19_method_22_code (4 : Nat) (Option.some Jvm.ClassFile.FieldType.boolean)) ∈ lw_all := lw_g (lw_at lw_m10 99 rfl) rfl
theorem q2383 : (Jvm.Cond.methodLink "RulehearthModel" (182 : Nat) ({ cls := "RulehearthModel", name := "fitsFact", desc := "(III)Z" } : Jvm.MethodName)) ∈ lw_all := lw_g (lw_at lw_m10 100 rfl) rfl
theorem q2384 : (Jvm.Cond.privateMethod ({ cls := "RulehearthModel", name := "fitsFact", desc := "(III)Z" } : Jvm.MethodName)) ∈ lw_tbl := lw_at lw_m10 101 rfl
theorem q2385 : (Jvm.Cond.instanceMethod ({ cls := "RulehearthModel", name := "fitsFact", desc := "(III)Z" } : Jvm.MethodName)) ∈ lw_all := lw_g (lw_at lw_m10 102 rfl) rfl
theorem q2386 : (Jvm.Cond.code ({ cls := "RulehearthModel", name := "fitsFact", desc := "(III)Z" } : Jvm.MethodName) prog_19_method_21_code (6 : Nat) (Option.some Jvm.ClassFile.FieldType.boolean)) ∈ lw_all := lw_g (lw_at lw_m10 103 rfl) rfl
theorem q2387 : (Jvm.Cond.methodLink "RulehearthModel" (172 : Nat) ({ cls := "RulehearthModel", name := "termOf", desc := "(III)I" } : Jvm.MethodName)) ∈ lw_all := lw_g (lw_at lw_m10 104 rfl) rfl
theorem q2388 : (Jvm.Cond.privateMethod ({ cls := "RulehearthModel", name := "termOf", desc := "(III)I" } : Jvm.MethodName)) ∈ lw_tbl := lw_at lw_m10 105 rfl
theorem q2389 : (Jvm.Cond.instanceMethod ({ cls := "RulehearthModel", name := "termOf", desc := "(III)I" } : Jvm.MethodName)) ∈ lw_all := lw_g (lw_at lw_m10 106 rfl) rfl
theorem q2390 : (Jvm.Cond.code ({ cls := "RulehearthModel", name := "termOf", desc := "(III)I" } : Jvm.MethodName) prog_19_method_14_code (4 : Nat) (Option.some Jvm.ClassFile.FieldType.int)) ∈ lw_all := lw_g (lw_at lw_m10 107 rfl) rfl
theorem q2391 : (Jvm.Cond.methodLink "RulehearthModel" (176 : Nat) ({ cls := "RulehearthModel", name := "slotOf", desc := "(II)I" } : Jvm.MethodName)) ∈ lw_all := lw_g (lw_at lw_m10 108 rfl) rfl
theorem q2392 : (Jvm.Cond.static ({ cls := "RulehearthModel", name := "slotOf", desc := "(II)I" } : Jvm.MethodName)) ∈ lw_all := lw_g (lw_at lw_m10 109 rfl) rfl
theorem q2393 : (Jvm.Cond.code ({ cls := "RulehearthModel", name := "slotOf", desc := "(II)I" } : Jvm.MethodName) prog_19_method_7_code (2 : Nat) (Option.some Jvm.ClassFile.FieldType.int)) ∈ lw_all := lw_g (lw_at lw_m10 110 rfl) rfl
theorem q2394 : (Jvm.Cond.methodLink "RulehearthModel" (179 : Nat) ({ cls := "RulehearthModel", name := "fits", desc := "(III)Z" } : Jvm.MethodName)) ∈ lw_all := lw_g (lw_at lw_m10 111 rfl) rfl
theorem q2395 : (Jvm.Cond.privateMethod ({ cls := "RulehearthModel", name := "fits", desc := "(III)Z" } : Jvm.MethodName)) ∈ lw_tbl := lw_at lw_m10 112 rfl
theorem q2396 : (Jvm.Cond.instanceMethod ({ cls := "RulehearthModel", name := "fits", desc := "(III)Z" } : Jvm.MethodName)) ∈ lw_all := lw_g (lw_at lw_m10 113 rfl) rfl
theorem q2397 : (Jvm.Cond.code ({ cls := "RulehearthModel", name := "fits", desc := "(III)Z" } : Jvm.MethodName) prog_19_method_20_code (4 : Nat) (Option.some Jvm.ClassFile.FieldType.boolean)) ∈ lw_all := lw_g (lw_at lw_m10 114 rfl) rfl
theorem q2398 : (Jvm.Cond.methodLink "RulehearthModel" (168 : Nat) ({ cls := "RulehearthModel", name := "valueOf", desc := "(I)I" } : Jvm.MethodName)) ∈ lw_all := lw_g (lw_at lw_m10 115 rfl) rfl
theorem q2399 : (Jvm.Cond.privateMethod ({ cls := "RulehearthModel", name := "valueOf", desc := "(I)I" } : Jvm.MethodName)) ∈ lw_tbl := lw_at lw_m10 116 rfl
theorem q2400 : (Jvm.Cond.instanceMethod ({ cls := "RulehearthModel", name := "valueOf", desc := "(I)I" } : Jvm.MethodName)) ∈ lw_all := lw_g (lw_at lw_m10 117 rfl) rfl
theorem q2401 : (Jvm.Cond.code ({ cls := "RulehearthModel", name := "valueOf", desc := "(I)I" } : Jvm.MethodName) prog_19_method_18_code (2 : Nat) (Option.some Jvm.ClassFile.FieldType.int)) ∈ lw_all := lw_g (lw_at lw_m10 118 rfl) rfl
theorem q2402 : (Jvm.Cond.methodLink "RulehearthModel" (198 : Nat) ({ cls := "RulehearthModel", name := "holds", desc := "(II)Z" } : Jvm.MethodName)) ∈ lw_all := lw_g (lw_at lw_m10 119 rfl) rfl
theorem q2403 : (Jvm.Cond.privateMethod ({ cls := "RulehearthModel", name := "holds", desc := "(II)Z" } : Jvm.MethodName)) ∈ lw_tbl := lw_at lw_m10 120 rfl
theorem q2404 : (Jvm.Cond.instanceMethod ({ cls := "RulehearthModel", name := "holds", desc := "(II)Z" } : Jvm.MethodName)) ∈ lw_all := lw_g (lw_at lw_m10 121 rfl) rfl
theorem q2405 : (Jvm.Cond.code ({ cls := "RulehearthModel", name := "holds", desc := "(II)Z" } : Jvm.MethodName) prog_19_method_23_code (7 : Nat) (Option.some Jvm.ClassFile.FieldType.boolean)) ∈ lw_all := lw_g (lw_at lw_m10 122 rfl) rfl
theorem q2406 : (Jvm.Cond.methodLink "RulehearthModel" (189 : Nat) ({ cls := "RulehearthModel", name := "weight", desc := "(I)I" } : Jvm.MethodName)) ∈ lw_all := lw_g (lw_at lw_m10 123 rfl) rfl
theorem q2407 : (Jvm.Cond.static ({ cls := "RulehearthModel", name := "weight", desc := "(I)I" } : Jvm.MethodName)) ∈ lw_all := lw_g (lw_at lw_m10 124 rfl) rfl
theorem q2408 : (Jvm.Cond.code ({ cls := "RulehearthModel", name := "weight", desc := "(I)I" } : Jvm.MethodName) prog_19_method_8_code (1 : Nat) (Option.some Jvm.ClassFile.FieldType.int)) ∈ lw_all := lw_g (lw_at lw_m10 125 rfl) rfl
theorem q2409 : (Jvm.Cond.methodLink "RulehearthModel" (222 : Nat) ({ cls := "RulehearthModel", name := "headFact", desc := "(I)I" } : Jvm.MethodName)) ∈ lw_all := lw_g (lw_at lw_m10 126 rfl) rfl
theorem q2410 : (Jvm.Cond.privateMethod ({ cls := "RulehearthModel", name := "headFact", desc := "(I)I" } : Jvm.MethodName)) ∈ lw_tbl := lw_at lw_m10 127 rfl
theorem q2411 : (Jvm.Cond.instanceMethod ({ cls := "RulehearthModel", name := "headFact", desc := "(I)I" } : Jvm.MethodName)) ∈ lw_all := lw_g (lw_at lw_m10 128 rfl) rfl
theorem q2412 : (Jvm.Cond.code ({ cls := "RulehearthModel", name := "headFact", desc := "(I)I" } : Jvm.MethodName) prog_19_method_27_code (5 : Nat) (Option.some Jvm.ClassFile.FieldType.int)) ∈ lw_all := lw_g (lw_at lw_m10 129 rfl) rfl
theorem q2413 : (Jvm.Cond.methodLink "RulehearthModel" (225 : Nat) ({ cls := "RulehearthModel", name := "matchDepth", desc := "()I" } : Jvm.MethodName)) ∈ lw_all := lw_g (lw_at lw_m10 130 rfl) rfl
theorem q2414 : (Jvm.Cond.privateMethod ({ cls := "RulehearthModel", name := "matchDepth", desc := "()I" } : Jvm.MethodName)) ∈ lw_tbl := lw_at lw_m10 131 rfl
theorem q2415 : (Jvm.Cond.instanceMethod ({ cls := "RulehearthModel", name := "matchDepth", desc := "()I" } : Jvm.MethodName)) ∈ lw_all := lw_g (lw_at lw_m10 132 rfl) rfl
theorem q2416 : (Jvm.Cond.code ({ cls := "RulehearthModel", name := "matchDepth", desc := "()I" } : Jvm.MethodName) prog_19_method_30_code (4 : Nat) (Option.some Jvm.ClassFile.FieldType.int)) ∈ lw_all := lw_g (lw_at lw_m10 133 rfl) rfl
theorem q2417 : (Jvm.Cond.methodLink "RulehearthModel" (229 : Nat) ({ cls := "RulehearthModel", name := "matchFacts", desc := "()J" } : Jvm.MethodName)) ∈ lw_all := lw_g (lw_at lw_m10 134 rfl) rfl
theorem q2418 : (Jvm.Cond.privateMethod ({ cls := "RulehearthModel", name := "matchFacts", desc := "()J" } : Jvm.MethodName)) ∈ lw_tbl := lw_at lw_m10 135 rfl
theorem q2419 : (Jvm.Cond.instanceMethod ({ cls := "RulehearthModel", name := "matchFacts", desc := "()J" } : Jvm.MethodName)) ∈ lw_all := lw_g (lw_at lw_m10 136 rfl) rfl
theorem q2420 : (Jvm.Cond.code ({ cls := "RulehearthModel", name := "matchFacts", desc := "()J" } : Jvm.MethodName) prog_19_method_29_code (4 : Nat) (Option.some Jvm.ClassFile.FieldType.long)) ∈ lw_all := lw_g (lw_at lw_m10 137 rfl) rfl
theorem q2421 : (Jvm.Cond.methodLink "RulehearthModel" (248 : Nat) ({ cls := "RulehearthModel", name := "groupFact", desc := "(II)I" } : Jvm.MethodName)) ∈ lw_all := lw_g (lw_at lw_m10 138 rfl) rfl
theorem q2422 : (Jvm.Cond.privateMethod ({ cls := "RulehearthModel", name := "groupFact", desc := "(II)I" } : Jvm.MethodName)) ∈ lw_tbl := lw_at lw_m10 139 rfl
theorem q2423 : (Jvm.Cond.instanceMethod ({ cls := "RulehearthModel", name := "groupFact", desc := "(II)I" } : Jvm.MethodName)) ∈ lw_all := lw_g (lw_at lw_m10 140 rfl) rfl
theorem q2424 : (Jvm.Cond.code ({ cls := "RulehearthModel", name := "groupFact", desc := "(II)I" } : Jvm.MethodName) prog_19_method_32_code (11 : Nat) (Option.some Jvm.ClassFile.FieldType.int)) ∈ lw_all := lw_g (lw_at lw_m10 141 rfl) rfl
theorem q2425 : (Jvm.Cond.methodLink "RulehearthModel" (251 : Nat) ({ cls := "RulehearthModel", name := "expect", desc := "(I)V" } : Jvm.MethodName)) ∈ lw_all := lw_g (lw_at lw_m10 142 rfl) rfl
theorem q2426 : (Jvm.Cond.privateMethod ({ cls := "RulehearthModel", name := "expect", desc := "(I)V" } : Jvm.MethodName)) ∈ lw_tbl := lw_at lw_m10 143 rfl
theorem q2427 : (Jvm.Cond.instanceMethod ({ cls := "RulehearthModel", name := "expect", desc := "(I)V" } : Jvm.MethodName)) ∈ lw_all := lw_g (lw_at lw_m10 144 rfl) rfl
theorem q2428 : (Jvm.Cond.code ({ cls := "RulehearthModel", name := "expect", desc := "(I)V" } : Jvm.MethodName) prog_19_method_37_code (4 : Nat) (Option.none : Option Jvm.ClassFile.FieldType)) ∈ lw_all := lw_g (lw_at lw_m10 145 rfl) rfl
theorem q2429 : (Jvm.Cond.methodLink "RulehearthModel" (263 : Nat) ({ cls := "RulehearthModel", name := "giveTags", desc := "(I)V" } : Jvm.MethodName)) ∈ lw_all := lw_g (lw_at lw_m10 146 rfl) rfl
theorem q2430 : (Jvm.Cond.privateMethod ({ cls := "RulehearthModel", name := "giveTags", desc := "(I)V" } : Jvm.MethodName)) ∈ lw_tbl := lw_at lw_m10 147 rfl
theorem q2431 : (Jvm.Cond.instanceMethod ({ cls := "RulehearthModel", name := "giveTags", desc := "(I)V" } : Jvm.MethodName)) ∈ lw_all := lw_g (lw_at lw_m10 148 rfl) rfl
theorem q2432 : (Jvm.Cond.code ({ cls := "RulehearthModel", name := "giveTags", desc := "(I)V" } : Jvm.MethodName) prog_19_method_40_code (5 : Nat) (Option.none : Option Jvm.ClassFile.FieldType)) ∈ lw_all := lw_g (lw_at lw_m10 149 rfl) rfl
theorem q2433 : (Jvm.Cond.methodLink "RulehearthModel" (287 : Nat) ({ cls := "RulehearthModel", name := "bringBack", desc := "(I)V" } : Jvm.MethodName)) ∈ lw_all := lw_g (lw_at lw_m10 150 rfl) rfl
theorem q2434 : (Jvm.Cond.privateMethod ({ cls := "RulehearthModel", name := "bringBack", desc := "(I)V" } : Jvm.MethodName)) ∈ lw_tbl := lw_at lw_m10 151 rfl
theorem q2435 : (Jvm.Cond.instanceMethod ({ cls := "RulehearthModel", name := "bringBack", desc := "(I)V" } : Jvm.MethodName)) ∈ lw_all := lw_g (lw_at lw_m10 152 rfl) rfl
theorem q2436 : (Jvm.Cond.code ({ cls := "RulehearthModel", name := "bringBack", desc := "(I)V" } : Jvm.MethodName) prog_19_method_11_code (4 : Nat) (Option.none : Option Jvm.ClassFile.FieldType)) ∈ lw_all := lw_g (lw_at lw_m10 153 rfl) rfl
theorem q2438 : (Jvm.Cond.instanceMethod ({ cls := "RulehearthModel", name := "take", desc := "(I)I" } : Jvm.MethodName)) ∈ lw_all := lw_g (lw_at lw_m10 155 rfl) rfl
theorem q2439 : (Jvm.Cond.selects "RulehearthModel" ({ cls := "RulehearthModel", name := "take", desc := "(I)I" } : Jvm.MethodName) ({ cls := "RulehearthModel", name := "take", desc := "(I)I" } : Jvm.MethodName)) ∈ lw_all := lw_g (lw_at lw_m10 156 rfl) rfl
theorem q2440 : (Jvm.Cond.code ({ cls := "RulehearthModel", name := "take", desc := "(I)I" } : Jvm.MethodName) prog_19_method_47_code (3 : Nat) (Option.some Jvm.ClassFile.FieldType.int)) ∈ lw_all := lw_g (lw_at lw_m10 157 rfl) rfl
theorem q2441 : (Jvm.Cond.methodLink "RulehearthModel" (290 : Nat) ({ cls := "RulehearthModel", name := "takeFact", desc := "(I)V" } : Jvm.MethodName)) ∈ lw_all := lw_g (lw_at lw_m10 158 rfl) rfl
theorem q2442 : (Jvm.Cond.privateMethod ({ cls := "RulehearthModel", name := "takeFact", desc := "(I)V" } : Jvm.MethodName)) ∈ lw_tbl := lw_at lw_m10 159 rfl
theorem q2443 : (Jvm.Cond.instanceMethod ({ cls := "RulehearthModel", name := "takeFact", desc := "(I)V" } : Jvm.MethodName)) ∈ lw_all := lw_g (lw_at lw_m10 160 rfl) rfl
theorem q2444 : (Jvm.Cond.code ({ cls := "RulehearthModel", name := "takeFact", desc := "(I)V" } : Jvm.MethodName) prog_19_method_44_code (3 : Nat) (Option.none : Option Jvm.ClassFile.FieldType)) ∈ lw_all := lw_g (lw_at lw_m10 161 rfl) rfl
theorem q2446 : (Jvm.Cond.instanceMethod ({ cls := "RulehearthModel", name := "stands", desc := "(I)Z" } : Jvm.MethodName)) ∈ lw_all := lw_g (lw_at lw_m10 163 rfl) rfl
theorem q2447 : (Jvm.Cond.selects "RulehearthModel" ({ cls := "RulehearthModel", name := "stands", desc := "(I)Z" } : Jvm.MethodName) ({ cls := "RulehearthModel", name := "stands", desc := "(I)Z" } : Jvm.MethodName)) ∈ lw_all := lw_g (lw_at lw_m10 164 rfl) rfl
theorem q2448 : (Jvm.Cond.code ({ cls := "RulehearthModel", name := "stands", desc := "(I)Z" } : Jvm.MethodName) prog_19_method_48_code (2 : Nat) (Option.some Jvm.ClassFile.FieldType.boolean)) ∈ lw_all := lw_g (lw_at lw_m10 165 rfl) rfl
theorem q2449 : (Jvm.Cond.methodLink "RulehearthModel" (293 : Nat) ({ cls := "RulehearthModel", name := "standsByRounds", desc := "(I)Z" } : Jvm.MethodName)) ∈ lw_all := lw_g (lw_at lw_m10 166 rfl) rfl
theorem q2450 : (Jvm.Cond.instanceMethod ({ cls := "RulehearthModel", name := "standsByRounds", desc := "(I)Z" } : Jvm.MethodName)) ∈ lw_all := lw_g (lw_at lw_m10 167 rfl) rfl
theorem q2451 : (Jvm.Cond.selects "RulehearthModel" ({ cls := "RulehearthModel", name := "standsByRounds", desc := "(I)Z" } : Jvm.MethodName) ({ cls := "RulehearthModel", name := "standsByRounds", desc := "(I)Z" } : Jvm.MethodName)) ∈ lw_all := lw_g (lw_at lw_m10 168 rfl) rfl
theorem q2452 : (Jvm.Cond.code ({ cls := "RulehearthModel", name := "standsByRounds", desc := "(I)Z" } : Jvm.MethodName) prog_19_method_49_code (2 : Nat) (Option.some Jvm.ClassFile.FieldType.boolean)) ∈ lw_all := lw_g (lw_at lw_m10 169 rfl) rfl
theorem q2455 : (Jvm.Cond.instanceMethod ({ cls := "RulehearthModel", name := "endOf", desc := "(I)I" } : Jvm.MethodName)) ∈ lw_all := lw_g (lw_at lw_m10 172 rfl) rfl
theorem q2456 : (Jvm.Cond.selects "RulehearthModel" ({ cls := "RulehearthModel", name := "endOf", desc := "(I)I" } : Jvm.MethodName) ({ cls := "RulehearthModel", name := "endOf", desc := "(I)I" } : Jvm.MethodName)) ∈ lw_all := lw_g (lw_at lw_m10 173 rfl) rfl
theorem q2457 : (Jvm.Cond.code ({ cls := "RulehearthModel", name := "endOf", desc := "(I)I" } : Jvm.MethodName) prog_19_method_50_code (3 : Nat) (Option.some Jvm.ClassFile.FieldType.int)) ∈ lw_all := lw_g (lw_at lw_m10 174 rfl) rfl
theorem q2459 : (Jvm.Cond.instanceMethod ({ cls := "RulehearthModel", name := "tag", desc := "(I)I" } : Jvm.MethodName)) ∈ lw_all := lw_g (lw_at lw_m10 176 rfl) rfl
theorem q2460 : (Jvm.Cond.selects "RulehearthModel" ({ cls := "RulehearthModel", name := "tag", desc := "(I)I" } : Jvm.MethodName) ({ cls := "RulehearthModel", name := "tag", desc := "(I)I" } : Jvm.MethodName)) ∈ lw_all := lw_g (lw_at lw_m10 177 rfl) rfl
theorem q2461 : (Jvm.Cond.code ({ cls := "RulehearthModel", name := "tag", desc := "(I)I" } : Jvm.MethodName) prog_19_method_51_code (3 : Nat) (Option.some Jvm.ClassFile.FieldType.int)) ∈ lw_all := lw_g (lw_at lw_m10 178 rfl) rfl
theorem q2463 : (Jvm.Cond.instanceMethod ({ cls := "RulehearthModel", name := "standing", desc := "()I" } : Jvm.MethodName)) ∈ lw_all := lw_g (lw_at lw_m10 180 rfl) rfl
theorem q2464 : (Jvm.Cond.selects "RulehearthModel" ({ cls := "RulehearthModel", name := "standing", desc := "()I" } : Jvm.MethodName) ({ cls := "RulehearthModel", name := "standing", desc := "()I" } : Jvm.MethodName)) ∈ lw_all := lw_g (lw_at lw_m10 181 rfl) rfl
theorem q2465 : (Jvm.Cond.code ({ cls := "RulehearthModel", name := "standing", desc := "()I" } : Jvm.MethodName) prog_19_method_52_code (1 : Nat) (Option.some Jvm.ClassFile.FieldType.int)) ∈ lw_all := lw_g (lw_at lw_m10 182 rfl) rfl
theorem q2467 : (Jvm.Cond.instanceMethod ({ cls := "RulehearthModel", name := "standingAt", desc := "(I)I" } : Jvm.MethodName)) ∈ lw_all := lw_g (lw_at lw_m10 184 rfl) rfl
theorem q2468 : (Jvm.Cond.selects "RulehearthModel" ({ cls := "RulehearthModel", name := "standingAt", desc := "(I)I" } : Jvm.MethodName) ({ cls := "RulehearthModel", name := "standingAt", desc := "(I)I" } : Jvm.MethodName)) ∈ lw_all := lw_g (lw_at lw_m10 185 rfl) rfl
theorem q2469 : (Jvm.Cond.code ({ cls := "RulehearthModel", name := "standingAt", desc := "(I)I" } : Jvm.MethodName) prog_19_method_53_code (2 : Nat) (Option.some Jvm.ClassFile.FieldType.int)) ∈ lw_all := lw_g (lw_at lw_m10 186 rfl) rfl
theorem q2471 : (Jvm.Cond.instanceMethod ({ cls := "RulehearthModel", name := "rule", desc := "(I)V" } : Jvm.MethodName)) ∈ lw_all := lw_g (lw_at lw_m10 188 rfl) rfl
theorem q2472 : (Jvm.Cond.selects "RulehearthModel" ({ cls := "RulehearthModel", name := "rule", desc := "(I)V" } : Jvm.MethodName) ({ cls := "RulehearthModel", name := "rule", desc := "(I)V" } : Jvm.MethodName)) ∈ lw_all := lw_g (lw_at lw_m10 189 rfl) rfl
theorem q2473 : (Jvm.Cond.code ({ cls := "RulehearthModel", name := "rule", desc := "(I)V" } : Jvm.MethodName) prog_19_method_57_code (2 : Nat) (Option.none : Option Jvm.ClassFile.FieldType)) ∈ lw_all := lw_g (lw_at lw_m10 190 rfl) rfl
theorem q2474 : (Jvm.Cond.methodLink "RulehearthModel" (305 : Nat) ({ cls := "RulehearthModel", name := "beginDraft", desc := "(II)V" } : Jvm.MethodName)) ∈ lw_all := lw_g (lw_at lw_m10 191 rfl) rfl
theorem q2475 : (Jvm.Cond.privateMethod ({ cls := "RulehearthModel", name := "beginDraft", desc := "(II)V" } : Jvm.MethodName)) ∈ lw_tbl := lw_at lw_m10 192 rfl
theorem q2476 : (Jvm.Cond.instanceMethod ({ cls := "RulehearthModel", name := "beginDraft", desc := "(II)V" } : Jvm.MethodName)) ∈ lw_all := lw_g (lw_at lw_m10 193 rfl) rfl
theorem q2477 : (Jvm.Cond.code ({ cls := "RulehearthModel", name := "beginDraft", desc := "(II)V" } : Jvm.MethodName) prog_19_method_56_code (4 : Nat) (Option.none : Option Jvm.ClassFile.FieldType)) ∈ lw_all := lw_g (lw_at lw_m10 194 rfl) rfl
theorem q2479 : (Jvm.Cond.instanceMethod ({ cls := "RulehearthModel", name := "deed", desc := "(IIZI)V" } : Jvm.MethodName)) ∈ lw_all := lw_g (lw_at lw_m10 196 rfl) rfl
theorem q2480 : (Jvm.Cond.selects "RulehearthModel" ({ cls := "RulehearthModel", name := "deed", desc := "(IIZI)V" } : Jvm.MethodName) ({ cls := "RulehearthModel", name := "deed", desc := "(IIZI)V" } : Jvm.MethodName)) ∈ lw_all := lw_g (lw_at lw_m10 197 rfl) rfl
theorem q2481 : (Jvm.Cond.code ({ cls := "RulehearthModel", name := "deed", desc := "(IIZI)V" } : Jvm.MethodName) prog_19_method_58_code (6 : Nat) (Option.none : Option Jvm.ClassFile.FieldType)) ∈ lw_all := lw_g (lw_at lw_m10 198 rfl) rfl
theorem q2483 : (Jvm.Cond.instanceMethod ({ cls := "RulehearthModel", name := "variable", desc := "(I)V" } : Jvm.MethodName)) ∈ lw_all := lw_g (lw_at lw_m10 200 rfl) rfl
theorem q2484 : (Jvm.Cond.selects "RulehearthModel" ({ cls := "RulehearthModel", name := "variable", desc := "(I)V" } : Jvm.MethodName) ({ cls := "RulehearthModel", name := "variable", desc := "(I)V" } : Jvm.MethodName)) ∈ lw_all := lw_g (lw_at lw_m10 201 rfl) rfl
theorem q2485 : (Jvm.Cond.code ({ cls := "RulehearthModel", name := "variable", desc := "(I)V" } : Jvm.MethodName) prog_19_method_60_code (2 : Nat) (Option.none : Option Jvm.ClassFile.FieldType)) ∈ lw_all := lw_g (lw_at lw_m10 202 rfl) rfl
theorem q2486 : (Jvm.Cond.methodLink "RulehearthModel" (308 : Nat) ({ cls := "RulehearthModel", name := "lacksTerm", desc := "()Z" } : Jvm.MethodName)) ∈ lw_all := lw_g (lw_at lw_m10 203 rfl) rfl
theorem q2487 : (Jvm.Cond.privateMethod ({ cls := "RulehearthModel", name := "lacksTerm", desc := "()Z" } : Jvm.MethodName)) ∈ lw_tbl := lw_at lw_m10 204 rfl
theorem q2488 : (Jvm.Cond.instanceMethod ({ cls := "RulehearthModel", name := "lacksTerm", desc := "()Z" } : Jvm.MethodName)) ∈ lw_all := lw_g (lw_at lw_m10 205 rfl) rfl
theorem q2489 : (Jvm.Cond.code ({ cls := "RulehearthModel", name := "lacksTerm", desc := "()Z" } : Jvm.MethodName) prog_19_method_54_code (1 : Nat) (Option.some Jvm.ClassFile.FieldType.boolean)) ∈ lw_all := lw_g (lw_at lw_m10 206 rfl) rfl
theorem q2490 : (Jvm.Cond.methodLink "RulehearthModel" (299 : Nat) ({ cls := "RulehearthModel", name := "termsOf", desc := "(II)I" } : Jvm.MethodName)) ∈ lw_all := lw_g (lw_at lw_m10 207 rfl) rfl
theorem q2491 : (Jvm.Cond.privateMethod ({ cls := "RulehearthModel", name := "termsOf", desc := "(II)I" } : Jvm.MethodName)) ∈ lw_tbl := lw_at lw_m10 208 rfl
theorem q2492 : (Jvm.Cond.instanceMethod ({ cls := "RulehearthModel", name := "termsOf", desc := "(II)I" } : Jvm.MethodName)) ∈ lw_all := lw_g (lw_at lw_m10 209 rfl) rfl
theorem q2493 : (Jvm.Cond.code ({ cls := "RulehearthModel", name := "termsOf", desc := "(II)I" } : Jvm.MethodName) prog_19_method_15_code (4 : Nat) (Option.some Jvm.ClassFile.FieldType.int)) ∈ lw_all := lw_g (lw_at lw_m10 210 rfl) rfl
theorem q2494 : (Jvm.Cond.methodLink "RulehearthModel" (311 : Nat) ({ cls := "RulehearthModel", name := "addTerm", desc := "(I)V" } : Jvm.MethodName)) ∈ lw_all := lw_g (lw_at lw_m10 211 rfl) rfl
theorem q2495 : (Jvm.Cond.privateMethod ({ cls := "RulehearthModel", name := "addTerm", desc := "(I)V" } : Jvm.MethodName)) ∈ lw_tbl := lw_at lw_m10 212 rfl
theorem q2496 : (Jvm.Cond.instanceMethod ({ cls := "RulehearthModel", name := "addTerm", desc := "(I)V" } : Jvm.MethodName)) ∈ lw_all := lw_g (lw_at lw_m10 213 rfl) rfl
theorem q2497 : (Jvm.Cond.code ({ cls := "RulehearthModel", name := "addTerm", desc := "(I)V" } : Jvm.MethodName) prog_19_method_59_code (2 : Nat) (Option.none : Option Jvm.ClassFile.FieldType)) ∈ lw_all := lw_g (lw_at lw_m10 214 rfl) rfl
theorem q2499 : (Jvm.Cond.instanceMethod ({ cls := "RulehearthModel", name := "value", desc := "(I)V" } : Jvm.MethodName)) ∈ lw_all := lw_g (lw_at lw_m10 216 rfl) rfl
theorem q2500 : (Jvm.Cond.selects "RulehearthModel" ({ cls := "RulehearthModel", name := "value", desc := "(I)V" } : Jvm.MethodName) ({ cls := "RulehearthModel", name := "value", desc := "(I)V" } : Jvm.MethodName)) ∈ lw_all := lw_g (lw_at lw_m10 217 rfl) rfl
theorem q2501 : (Jvm.Cond.code ({ cls := "RulehearthModel", name := "value", desc := "(I)V" } : Jvm.MethodName) prog_19_method_61_code (2 : Nat) (Option.none : Option Jvm.ClassFile.FieldType)) ∈ lw_all := lw_g (lw_at lw_m10 218 rfl) rfl
theorem q2503 : (Jvm.Cond.instanceMethod ({ cls := "RulehearthModel", name := "gather", desc := "(II)V" } : Jvm.MethodName)) ∈ lw_all := lw_g (lw_at lw_m10 220 rfl) rfl
theorem q2504 : (Jvm.Cond.selects "RulehearthModel" ({ cls := "RulehearthModel", name := "gather", desc := "(II)V" } : Jvm.MethodName) ({ cls := "RulehearthModel", name := "gather", desc := "(II)V" } : Jvm.MethodName)) ∈ lw_all := lw_g (lw_at lw_m10 221 rfl) rfl
theorem q2505 : (Jvm.Cond.code ({ cls := "RulehearthModel", name := "gather", desc := "(II)V" } : Jvm.MethodName) prog_19_method_62_code (5 : Nat) (Option.none : Option Jvm.ClassFile.FieldType)) ∈ lw_all := lw_g (lw_at lw_m10 222 rfl) rfl
theorem q2507 : (Jvm.Cond.instanceMethod ({ cls := "RulehearthModel", name := "atom", desc := "(I)V" } : Jvm.MethodName)) ∈ lw_all := lw_g (lw_at lw_m10 224 rfl) rfl
theorem q2508 : (Jvm.Cond.selects "RulehearthModel" ({ cls := "RulehearthModel", name := "atom", desc := "(I)V" } : Jvm.MethodName) ({ cls := "RulehearthModel", name := "atom", desc := "(I)V" } : Jvm.MethodName)) ∈ lw_all := lw_g (lw_at lw_m10 225 rfl) rfl
theorem q2509 : (Jvm.Cond.code ({ cls := "RulehearthModel", name := "atom", desc := "(I)V" } : Jvm.MethodName) prog_19_method_65_code (2 : Nat) (Option.none : Option Jvm.ClassFile.FieldType)) ∈ lw_all := lw_g (lw_at lw_m10 226 rfl) rfl
theorem q2510 : (Jvm.Cond.methodLink "RulehearthModel" (314 : Nat) ({ cls := "RulehearthModel", name := "canAdd", desc := "()Z" } : Jvm.MethodName)) ∈ lw_all := lw_g (lw_at lw_m10 227 rfl) rfl
theorem q2511 : (Jvm.Cond.privateMethod ({ cls := "RulehearthModel", name := "canAdd", desc := "()Z" } : Jvm.MethodName)) ∈ lw_tbl := lw_at lw_m10 228 rfl
theorem q2512 : (Jvm.Cond.instanceMethod ({ cls := "RulehearthModel", name := "canAdd", desc := "()Z" } : Jvm.MethodName)) ∈ lw_all := lw_g (lw_at lw_m10 229 rfl) rfl
theorem q2513 : (Jvm.Cond.code ({ cls := "RulehearthModel", name := "canAdd", desc := "()Z" } : Jvm.MethodName) prog_19_method_63_code (1 : Nat) (Option.some Jvm.ClassFile.FieldType.boolean)) ∈ lw_all := lw_g (lw_at lw_m10 230 rfl) rfl
theorem q2514 : (Jvm.Cond.methodLink "RulehearthModel" (317 : Nat) ({ cls := "RulehearthModel", name := "atomsOf", desc := "(I)I" } : Jvm.MethodName)) ∈ lw_all := lw_g (lw_at lw_m10 231 rfl) rfl
theorem q2515 : (Jvm.Cond.privateMethod ({ cls := "RulehearthModel", name := "atomsOf", desc := "(I)I" } : Jvm.MethodName)) ∈ lw_tbl := lw_at lw_m10 232 rfl
theorem q2516 : (Jvm.Cond.instanceMethod ({ cls := "RulehearthModel", name := "atomsOf", desc := "(I)I" } : Jvm.MethodName)) ∈ lw_all := lw_g (lw_at lw_m10 233 rfl) rfl
theorem q2517 : (Jvm.Cond.code ({ cls := "RulehearthModel", name := "atomsOf", desc := "(I)I" } : Jvm.MethodName) prog_19_method_55_code (4 : Nat) (Option.some Jvm.ClassFile.FieldType.int)) ∈ lw_all := lw_g (lw_at lw_m10 234 rfl) rfl
theorem q2518 : (Jvm.Cond.methodLink "RulehearthModel" (320 : Nat) ({ cls := "RulehearthModel", name := "addItem", desc := "(II)V" } : Jvm.MethodName)) ∈ lw_all := lw_g (lw_at lw_m10 235 rfl) rfl
theorem q2519 : (Jvm.Cond.privateMethod ({ cls := "RulehearthModel", name := "addItem", desc := "(II)V" } : Jvm.MethodName)) ∈ lw_tbl := lw_at lw_m10 236 rfl
theorem q2520 : (Jvm.Cond.instanceMethod ({ cls := "RulehearthModel", name := "addItem", desc := "(II)V" } : Jvm.MethodName)) ∈ lw_all := lw_g (lw_at lw_m10 237 rfl) rfl
theorem q2521 : (Jvm.Cond.code ({ cls := "RulehearthModel", name := "addItem", desc := "(II)V" } : Jvm.MethodName) prog_19_method_64_code (3 : Nat) (Option.none : Option Jvm.ClassFile.FieldType)) ∈ lw_all := lw_g (lw_at lw_m10 238 rfl) rfl
theorem q2523 : (Jvm.Cond.instanceMethod ({ cls := "RulehearthModel", name := "not", desc := "(I)V" } : Jvm.MethodName)) ∈ lw_all := lw_g (lw_at lw_m11 0 rfl) rfl
theorem q2524 : (Jvm.Cond.selects "RulehearthModel" ({ cls := "RulehearthModel", name := "not", desc := "(I)V" } : Jvm.MethodName) ({ cls := "RulehearthModel", name := "not", desc := "(I)V" } : Jvm.MethodName)) ∈ lw_all := lw_g (lw_at lw_m11 1 rfl) rfl
theorem q2525 : (Jvm.Cond.code ({ cls := "RulehearthModel", name := "not", desc := "(I)V" } : Jvm.MethodName) prog_19_method_66_code (2 : Nat) (Option.none : Option Jvm.ClassFile.FieldType)) ∈ lw_all := lw_g (lw_at lw_m11 2 rfl) rfl
theorem q2527 : (Jvm.Cond.instanceMethod ({ cls := "RulehearthModel", name := "test", desc := "(I)V" } : Jvm.MethodName)) ∈ lw_all := lw_g (lw_at lw_m11 4 rfl) rfl
theorem q2528 : (Jvm.Cond.selects "RulehearthModel" ({ cls := "RulehearthModel", name := "test", desc := "(I)V" } : Jvm.MethodName) ({ cls := "RulehearthModel", name := "test", desc := "(I)V" } : Jvm.MethodName)) ∈ lw_all := lw_g (lw_at lw_m11 5 rfl) rfl
theorem q2529 : (Jvm.Cond.code ({ cls := "RulehearthModel", name := "test", desc := "(I)V" } : Jvm.MethodName) prog_19_method_67_code (2 : Nat) (Option.none : Option Jvm.ClassFile.FieldType)) ∈ lw_all := lw_g (lw_at lw_m11 6 rfl) rfl
theorem q2531 : (Jvm.Cond.instanceMethod ({ cls := "RulehearthModel", name := "plus", desc := "()V" } : Jvm.MethodName)) ∈ lw_all := lw_g (lw_at lw_m11 8 rfl) rfl
theorem q2532 : (Jvm.Cond.selects "RulehearthModel" ({ cls := "RulehearthModel", name := "plus", desc := "()V" } : Jvm.MethodName) ({ cls := "RulehearthModel", name := "plus", desc := "()V" } : Jvm.MethodName)) ∈ lw_all := lw_g (lw_at lw_m11 9 rfl) rfl
theorem q2533 : (Jvm.Cond.code ({ cls := "RulehearthModel", name := "plus", desc := "()V" } : Jvm.MethodName) prog_19_method_68_code (1 : Nat) (Option.none : Option Jvm.ClassFile.FieldType)) ∈ lw_all := lw_g (lw_at lw_m11 10 rfl) rfl
theorem q2535 : (Jvm.Cond.instanceMethod ({ cls := "RulehearthModel", name := "done", desc := "()I" } : Jvm.MethodName)) ∈ lw_all := lw_g (lw_at lw_m11 12 rfl) rfl
theorem q2536 : (Jvm.Cond.selects "RulehearthModel" ({ cls := "RulehearthModel", name := "done", desc := "()I" } : Jvm.MethodName) ({ cls := "RulehearthModel", name := "done", desc := "()I" } : Jvm.MethodName)) ∈ lw_all := lw_g (lw_at lw_m11 13 rfl) rfl
theorem q2537 : (Jvm.Cond.code ({ cls := "RulehearthModel", name := "done", desc := "()I" } : Jvm.MethodName) prog_19_method_71_code (3 : Nat) (Option.some Jvm.ClassFile.FieldType.int)) ∈ lw_all := lw_g (lw_at lw_m11 14 rfl) rfl
theorem q2538 : (Jvm.Cond.methodLink "RulehearthModel" (323 : Nat) ({ cls := "RulehearthModel", name := "isSound", desc := "()Z" } : Jvm.MethodName)) ∈ lw_all := lw_g (lw_at lw_m11 15 rfl) rfl
theorem q2539 : (Jvm.Cond.privateMethod ({ cls := "RulehearthModel", name := "isSound", desc := "()Z" } : Jvm.MethodName)) ∈ lw_tbl := lw_at lw_m11 16 rfl
theorem q2540 : (Jvm.Cond.instanceMethod ({ cls := "RulehearthModel", name := "isSound", desc := "()Z" } : Jvm.MethodName)) ∈ lw_all := lw_g (lw_at lw_m11 17 rfl) rfl
theorem q2541 : (Jvm.Cond.code ({ cls := "RulehearthModel", name := "isSound", desc := "()Z" } : Jvm.MethodName) prog_19_method_69_code (10 : Nat) (Option.some Jvm.ClassFile.FieldType.boolean)) ∈ lw_all := lw_g (lw_at lw_m11 18 rfl) rfl
theorem q2542 : (Jvm.Cond.methodLink "RulehearthModel" (326 : Nat) ({ cls := "RulehearthModel", name := "copyBody", desc := "(II)V" } : Jvm.MethodName)) ∈ lw_all := lw_g (lw_at lw_m11 19 rfl) rfl
theorem q2543 : (Jvm.Cond.privateMethod ({ cls := "RulehearthModel", name := "copyBody", desc := "(II)V" } : Jvm.MethodName)) ∈ lw_tbl := lw_at lw_m11 20 rfl
theorem q2544 : (Jvm.Cond.instanceMethod ({ cls := "RulehearthModel", name := "copyBody", desc := "(II)V" } : Jvm.MethodName)) ∈ lw_all := lw_g (lw_at lw_m11 21 rfl) rfl
theorem q2545 : (Jvm.Cond.code ({ cls := "RulehearthModel", name := "copyBody", desc := "(II)V" } : Jvm.MethodName) prog_19_method_70_code (4 : Nat) (Option.none : Option Jvm.ClassFile.FieldType)) ∈ lw_all := lw_g (lw_at lw_m11 22 rfl) rfl
theorem q2547 : (Jvm.Cond.instanceMethod ({ cls := "RulehearthModel", name := "cancel", desc := "()Z" } : Jvm.MethodName)) ∈ lw_all := lw_g (lw_at lw_m11 24 rfl) rfl
theorem q2548 : (Jvm.Cond.selects "RulehearthModel" ({ cls := "RulehearthModel", name := "cancel", desc := "()Z" } : Jvm.MethodName) ({ cls := "RulehearthModel", name := "cancel", desc := "()Z" } : Jvm.MethodName)) ∈ lw_all := lw_g (lw_at lw_m11 25 rfl) rfl
theorem q2549 : (Jvm.Cond.code ({ cls := "RulehearthModel", name := "cancel", desc := "()Z" } : Jvm.MethodName) prog_19_method_72_code (2 : Nat) (Option.some Jvm.ClassFile.FieldType.boolean)) ∈ lw_all := lw_g (lw_at lw_m11 26 rfl) rfl
theorem q2551 : (Jvm.Cond.instanceMethod ({ cls := "RulehearthModel", name := "drop", desc := "(I)I" } : Jvm.MethodName)) ∈ lw_all := lw_g (lw_at lw_m11 28 rfl) rfl
theorem q2552 : (Jvm.Cond.selects "RulehearthModel" ({ cls := "RulehearthModel", name := "drop", desc := "(I)I" } : Jvm.MethodName) ({ cls := "RulehearthModel", name := "drop", desc := "(I)I" } : Jvm.MethodName)) ∈ lw_all := lw_g (lw_at lw_m11 29 rfl) rfl
theorem q2553 : (Jvm.Cond.code ({ cls := "RulehearthModel", name := "drop", desc := "(I)I" } : Jvm.MethodName) prog_19_method_75_code (4 : Nat) (Option.some Jvm.ClassFile.FieldType.int)) ∈ lw_all := lw_g (lw_at lw_m11 30 rfl) rfl
theorem q2554 : (Jvm.Cond.methodLink "RulehearthModel" (332 : Nat) ({ cls := "RulehearthModel", name := "ruleAt", desc := "(I)I" } : Jvm.MethodName)) ∈ lw_all := lw_g (lw_at lw_m11 31 rfl) rfl
theorem q2555 : (Jvm.Cond.privateMethod ({ cls := "RulehearthModel", name := "ruleAt", desc := "(I)I" } : Jvm.MethodName)) ∈ lw_tbl := lw_at lw_m11 32 rfl
theorem q2556 : (Jvm.Cond.instanceMethod ({ cls := "RulehearthModel", name := "ruleAt", desc := "(I)I" } : Jvm.MethodName)) ∈ lw_all := lw_g (lw_at lw_m11 33 rfl) rfl
theorem q2557 : (Jvm.Cond.code ({ cls := "RulehearthModel", name := "ruleAt", desc := "(I)I" } : Jvm.MethodName) prog_19_method_74_code (2 : Nat) (Option.some Jvm.ClassFile.FieldType.int)) ∈ lw_all := lw_g (lw_at lw_m11 34 rfl) rfl
theorem q2558 : (Jvm.Cond.methodLink "RulehearthModel" (329 : Nat) ({ cls := "RulehearthModel", name := "placeOf", desc := "(III)I" } : Jvm.MethodName)) ∈ lw_all := lw_g (lw_at lw_m11 35 rfl) rfl
theorem q2559 : (Jvm.Cond.privateMethod ({ cls := "RulehearthModel", name := "placeOf", desc := "(III)I" } : Jvm.MethodName)) ∈ lw_tbl := lw_at lw_m11 36 rfl
theorem q2560 : (Jvm.Cond.instanceMethod ({ cls := "RulehearthModel", name := "placeOf", desc := "(III)I" } : Jvm.MethodName)) ∈ lw_all := lw_g (lw_at lw_m11 37 rfl) rfl
theorem q2561 : (Jvm.Cond.code ({ cls := "RulehearthModel", name := "placeOf", desc := "(III)I" } : Jvm.MethodName) prog_19_method_73_code (6 : Nat) (Option.some Jvm.ClassFile.FieldType.int)) ∈ lw_all := lw_g (lw_at lw_m11 38 rfl) rfl
theorem q2563 : (Jvm.Cond.instanceMethod ({ cls := "RulehearthModel", name := "dropDeed", desc := "(I)I" } : Jvm.MethodName)) ∈ lw_all := lw_g (lw_at lw_m11 40 rfl) rfl
theorem q2564 : (Jvm.Cond.selects "RulehearthModel" ({ cls := "RulehearthModel", name := "dropDeed", desc := "(I)I" } : Jvm.MethodName) ({ cls := "RulehearthModel", name := "dropDeed", desc := "(I)I" } : Jvm.MethodName)) ∈ lw_all := lw_g (lw_at lw_m11 41 rfl) rfl
theorem q2565 : (Jvm.Cond.code ({ cls := "RulehearthModel", name := "dropDeed", desc := "(I)I" } : Jvm.MethodName) prog_19_method_76_code (4 : Nat) (Option.some Jvm.ClassFile.FieldType.int)) ∈ lw_all := lw_g (lw_at lw_m11 42 rfl) rfl
theorem q2567 : (Jvm.Cond.instanceMethod ({ cls := "RulehearthModel", name := "stratum", desc := "(I)I" } : Jvm.MethodName)) ∈ lw_all := lw_g (lw_at lw_m11 44 rfl) rfl
theorem q2568 : (Jvm.Cond.selects "RulehearthModel" ({ cls := "RulehearthModel", name := "stratum", desc := "(I)I" } : Jvm.MethodName) ({ cls := "RulehearthModel", name := "stratum", desc := "(I)I" } : Jvm.MethodName)) ∈ lw_all := lw_g (lw_at lw_m11 45 rfl) rfl
theorem q2569 : (Jvm.Cond.code ({ cls := "RulehearthModel", name := "stratum", desc := "(I)I" } : Jvm.MethodName) prog_19_method_77_code (3 : Nat) (Option.some Jvm.ClassFile.FieldType.int)) ∈ lw_all := lw_g (lw_at lw_m11 46 rfl) rfl
theorem q2571 : (Jvm.Cond.instanceMethod ({ cls := "RulehearthModel", name := "depth", desc := "(I)I" } : Jvm.MethodName)) ∈ lw_all := lw_g (lw_at lw_m11 48 rfl) rfl
theorem q2572 : (Jvm.Cond.selects "RulehearthModel" ({ cls := "RulehearthModel", name := "depth", desc := "(I)I" } : Jvm.MethodName) ({ cls := "RulehearthModel", name := "depth", desc := "(I)I" } : Jvm.MethodName)) ∈ lw_all := lw_g (lw_at lw_m11 49 rfl) rfl
theorem q2573 : (Jvm.Cond.code ({ cls := "RulehearthModel", name := "depth", desc := "(I)I" } : Jvm.MethodName) prog_19_method_81_code (3 : Nat) (Option.some Jvm.ClassFile.FieldType.int)) ∈ lw_all := lw_g (lw_at lw_m11 50 rfl) rfl
theorem q2574 : (Jvm.Cond.methodLink "RulehearthModel" (341 : Nat) ({ cls := "RulehearthModel", name := "findDepths", desc := "()V" } : Jvm.MethodName)) ∈ lw_all := lw_g (lw_at lw_m11 51 rfl) rfl
theorem q2575 : (Jvm.Cond.privateMethod ({ cls := "RulehearthModel", name := "findDepths", desc := "()V" } : Jvm.MethodName)) ∈ lw_tbl := lw_at lw_m11 52 rfl
theorem q2576 : (Jvm.Cond.instanceMethod ({ cls := "RulehearthModel", name := "findDepths", desc := "()V" } : Jvm.MethodName)) ∈ lw_all := lw_g (lw_at lw_m11 53 rfl) rfl
theorem q2577 : (Jvm.Cond.code ({ cls := "RulehearthModel", name := "findDepths", desc := "()V" } : Jvm.MethodName) prog_19_method_79_code (3 : Nat) (Option.none : Option Jvm.ClassFile.FieldType)) ∈ lw_all := lw_g (lw_at lw_m11 54 rfl) rfl
theorem q2578 : (Jvm.Cond.methodLink "RulehearthModel" (335 : Nat) ({ cls := "RulehearthModel", name := "lowerBy", desc := "(I)Z" } : Jvm.MethodName)) ∈ lw_all := lw_g (lw_at lw_m11 55 rfl) rfl
theorem q2579 : (Jvm.Cond.privateMethod ({ cls := "RulehearthModel", name := "lowerBy", desc := "(I)Z" } : Jvm.MethodName)) ∈ lw_tbl := lw_at lw_m11 56 rfl
theorem q2580 : (Jvm.Cond.instanceMethod ({ cls := "RulehearthModel", name := "lowerBy", desc := "(I)Z" } : Jvm.MethodName)) ∈ lw_all := lw_g (lw_at lw_m11 57 rfl) rfl
theorem q2581 : (Jvm.Cond.code ({ cls := "RulehearthModel", name := "lowerBy", desc := "(I)Z" } : Jvm.MethodName) prog_19_method_80_code (4 : Nat) (Option.some Jvm.ClassFile.FieldType.boolean)) ∈ lw_all := lw_g (lw_at lw_m11 58 rfl) rfl
theorem q2582 : (Jvm.Cond.methodLink "RulehearthModel" (338 : Nat) ({ cls := "RulehearthModel", name := "lower", desc := "(II)Z" } : Jvm.MethodName)) ∈ lw_all := lw_g (lw_at lw_m11 59 rfl) rfl
theorem q2583 : (Jvm.Cond.privateMethod ({ cls := "RulehearthModel", name := "lower", desc := "(II)Z" } : Jvm.MethodName)) ∈ lw_tbl := lw_at lw_m11 60 rfl
theorem q2584 : (Jvm.Cond.instanceMethod ({ cls := "RulehearthModel", name := "lower", desc := "(II)Z" } : Jvm.MethodName)) ∈ lw_all := lw_g (lw_at lw_m11 61 rfl) rfl
theorem q2585 : (Jvm.Cond.code ({ cls := "RulehearthModel", name := "lower", desc := "(II)Z" } : Jvm.MethodName) prog_19_method_78_code (5 : Nat) (Option.some Jvm.ClassFile.FieldType.boolean)) ∈ lw_all := lw_g (lw_at lw_m11 62 rfl) rfl
theorem q2587 : (Jvm.Cond.instanceMethod ({ cls := "RulehearthModel", name := "why", desc := "(I)I" } : Jvm.MethodName)) ∈ lw_all := lw_g (lw_at lw_m11 64 rfl) rfl
theorem q2588 : (Jvm.Cond.selects "RulehearthModel" ({ cls := "RulehearthModel", name := "why", desc := "(I)I" } : Jvm.MethodName) ({ cls := "RulehearthModel", name := "why", desc := "(I)I" } : Jvm.MethodName)) ∈ lw_all := lw_g (lw_at lw_m11 65 rfl) rfl
theorem q2589 : (Jvm.Cond.code ({ cls := "RulehearthModel", name := "why", desc := "(I)I" } : Jvm.MethodName) prog_19_method_85_code (3 : Nat) (Option.some Jvm.ClassFile.FieldType.int)) ∈ lw_all := lw_g (lw_at lw_m11 66 rfl) rfl
theorem q2590 : (Jvm.Cond.methodLink "RulehearthModel" (354 : Nat) ({ cls := "RulehearthModel", name := "findReasons", desc := "(I)I" } : Jvm.MethodName)) ∈ lw_all := lw_g (lw_at lw_m11 67 rfl) rfl
theorem q2591 : (Jvm.Cond.privateMethod ({ cls := "RulehearthModel", name := "findReasons", desc := "(I)I" } : Jvm.MethodName)) ∈ lw_tbl := lw_at lw_m11 68 rfl
theorem q2592 : (Jvm.Cond.instanceMethod ({ cls := "RulehearthModel", name := "findReasons", desc := "(I)I" } : Jvm.MethodName)) ∈ lw_all := lw_g (lw_at lw_m11 69 rfl) rfl
theorem q2593 : (Jvm.Cond.code ({ cls := "RulehearthModel", name := "findReasons", desc := "(I)I" } : Jvm.MethodName) prog_19_method_84_code (4 : Nat) (Option.some Jvm.ClassFile.FieldType.int)) ∈ lw_all := lw_g (lw_at lw_m11 70 rfl) rfl
theorem q2594 : (Jvm.Cond.methodLink "RulehearthModel" (351 : Nat) ({ cls := "RulehearthModel", name := "givesWith", desc := "(III)Z" } : Jvm.MethodName)) ∈ lw_all := lw_g (lw_at lw_m11 71 rfl) rfl
theorem q2595 : (Jvm.Cond.privateMethod ({ cls := "RulehearthModel", name := "givesWith", desc := "(III)Z" } : Jvm.MethodName)) ∈ lw_tbl := lw_at lw_m11 72 rfl
theorem q2596 : (Jvm.Cond.instanceMethod ({ cls := "RulehearthModel", name := "givesWith", desc := "(III)Z" } : Jvm.MethodName)) ∈ lw_all := lw_g (lw_at lw_m11 73 rfl) rfl
theorem q2597 : (Jvm.Cond.code ({ cls := "RulehearthModel", name := "givesWith", desc := "(III)Z" } : Jvm.MethodName) prog_19_method_82_code (5 : Nat) (Option.some Jvm.ClassFile.FieldType.boolean)) ∈ lw_all := lw_g (lw_at lw_m11 74 rfl) rfl
theorem q2598 : (Jvm.Cond.methodLink "RulehearthModel" (347 : Nat) ({ cls := "RulehearthModel", name := "layReasons", desc := "(J)V" } : Jvm.MethodName)) ∈ lw_all := lw_g (lw_at lw_m11 75 rfl) rfl
theorem q2599 : (Jvm.Cond.privateMethod ({ cls := "RulehearthModel", name := "layReasons", desc := "(J)V" } : Jvm.MethodName)) ∈ lw_tbl := lw_at lw_m11 76 rfl
theorem q2600 : (Jvm.Cond.instanceMethod ({ cls := "RulehearthModel", name := "layReasons", desc := "(J)V" } : Jvm.MethodName)) ∈ lw_all := lw_g (lw_at lw_m11 77 rfl) rfl
theorem q2601 : (Jvm.Cond.code ({ cls := "RulehearthModel", name := "layReasons", desc := "(J)V" } : Jvm.MethodName) prog_19_method_83_code (4 : Nat) (Option.none : Option Jvm.ClassFile.FieldType)) ∈ lw_all := lw_g (lw_at lw_m11 78 rfl) rfl
theorem q2603 : (Jvm.Cond.instanceMethod ({ cls := "RulehearthModel", name := "reasons", desc := "(I)I" } : Jvm.MethodName)) ∈ lw_all := lw_g (lw_at lw_m11 80 rfl) rfl
theorem q2604 : (Jvm.Cond.selects "RulehearthModel" ({ cls := "RulehearthModel", name := "reasons", desc := "(I)I" } : Jvm.MethodName) ({ cls := "RulehearthModel", name := "reasons", desc := "(I)I" } : Jvm.MethodName)) ∈ lw_all := lw_g (lw_at lw_m11 81 rfl) rfl
theorem q2605 : (Jvm.Cond.code ({ cls := "RulehearthModel", name := "reasons", desc := "(I)I" } : Jvm.MethodName) prog_19_method_86_code (3 : Nat) (Option.some Jvm.ClassFile.FieldType.int)) ∈ lw_all := lw_g (lw_at lw_m11 82 rfl) rfl
theorem q2607 : (Jvm.Cond.instanceMethod ({ cls := "RulehearthModel", name := "reasonAt", desc := "(II)I" } : Jvm.MethodName)) ∈ lw_all := lw_g (lw_at lw_m11 84 rfl) rfl
theorem q2608 : (Jvm.Cond.selects "RulehearthModel" ({ cls := "RulehearthModel", name := "reasonAt", desc := "(II)I" } : Jvm.MethodName) ({ cls := "RulehearthModel", name := "reasonAt", desc := "(II)I" } : Jvm.MethodName)) ∈ lw_all := lw_g (lw_at lw_m11 85 rfl) rfl
theorem q2609 : (Jvm.Cond.code ({ cls := "RulehearthModel", name := "reasonAt", desc := "(II)I" } : Jvm.MethodName) prog_19_method_87_code (6 : Nat) (Option.some Jvm.ClassFile.FieldType.int)) ∈ lw_all := lw_g (lw_at lw_m11 86 rfl) rfl
theorem q2611 : (Jvm.Cond.instanceMethod ({ cls := "RulehearthModel", name := "dependsOn", desc := "(II)Z" } : Jvm.MethodName)) ∈ lw_all := lw_g (lw_at lw_m11 88 rfl) rfl
theorem q2612 : (Jvm.Cond.selects "RulehearthModel" ({ cls := "RulehearthModel", name := "dependsOn", desc := "(II)Z" } : Jvm.MethodName) ({ cls := "RulehearthModel", name := "dependsOn", desc := "(II)Z" } : Jvm.MethodName)) ∈ lw_all := lw_g (lw_at lw_m11 89 rfl) rfl
theorem q2613 : (Jvm.Cond.code ({ cls := "RulehearthModel", name := "dependsOn", desc := "(II)Z" } : Jvm.MethodName) prog_19_method_89_code (6 : Nat) (Option.some Jvm.ClassFile.FieldType.boolean)) ∈ lw_all := lw_g (lw_at lw_m11 90 rfl) rfl
theorem q2614 : (Jvm.Cond.methodLink "RulehearthModel" (357 : Nat) ({ cls := "RulehearthModel", name := "findRests", desc := "()V" } : Jvm.MethodName)) ∈ lw_all := lw_g (lw_at lw_m11 91 rfl) rfl
theorem q2615 : (Jvm.Cond.privateMethod ({ cls := "RulehearthModel", name := "findRests", desc := "()V" } : Jvm.MethodName)) ∈ lw_tbl := lw_at lw_m11 92 rfl
theorem q2616 : (Jvm.Cond.instanceMethod ({ cls := "RulehearthModel", name := "findRests", desc := "()V" } : Jvm.MethodName)) ∈ lw_all := lw_g (lw_at lw_m11 93 rfl) rfl
theorem q2617 : (Jvm.Cond.code ({ cls := "RulehearthModel", name := "findRests", desc := "()V" } : Jvm.MethodName) prog_19_method_88_code (3 : Nat) (Option.none : Option Jvm.ClassFile.FieldType)) ∈ lw_all := lw_g (lw_at lw_m11 94 rfl) rfl
theorem q2619 : (Jvm.Cond.instanceMethod ({ cls := "RulehearthModel", name := "whyNot", desc := "(II)I" } : Jvm.MethodName)) ∈ lw_all := lw_g (lw_at lw_m11 96 rfl) rfl
theorem q2620 : (Jvm.Cond.selects "RulehearthModel" ({ cls := "RulehearthModel", name := "whyNot", desc := "(II)I" } : Jvm.MethodName) ({ cls := "RulehearthModel", name := "whyNot", desc := "(II)I" } : Jvm.MethodName)) ∈ lw_all := lw_g (lw_at lw_m11 97 rfl) rfl
theorem q2621 : (Jvm.Cond.code ({ cls := "RulehearthModel", name := "whyNot", desc := "(II)I" } : Jvm.MethodName) prog_19_method_91_code (6 : Nat) (Option.some Jvm.ClassFile.FieldType.int)) ∈ lw_all := lw_g (lw_at lw_m11 98 rfl) rfl
theorem q2622 : (Jvm.Cond.methodLink "RulehearthModel" (360 : Nat) ({ cls := "RulehearthModel", name := "layHead", desc := "(IIII)Z" } : Jvm.MethodName)) ∈ lw_all := lw_g (lw_at lw_m11 99 rfl) rfl
theorem q2623 : (Jvm.Cond.privateMethod ({ cls := "RulehearthModel", name := "layHead", desc := "(IIII)Z" } : Jvm.MethodName)) ∈ lw_tbl := lw_at lw_m11 100 rfl
theorem q2624 : (Jvm.Cond.instanceMethod ({ cls := "RulehearthModel", name := "layHead", desc := "(IIII)Z" } : Jvm.MethodName)) ∈ lw_all := lw_g (lw_at lw_m11 101 rfl) rfl
theorem q2625 : (Jvm.Cond.code ({ cls := "RulehearthModel", name := "layHead", desc := "(IIII)Z" } : Jvm.MethodName) prog_19_method_90_code (8 : Nat) (Option.some Jvm.ClassFile.FieldType.boolean)) ∈ lw_all := lw_g (lw_at lw_m11 102 rfl) rfl
theorem q2627 : (Jvm.Cond.instanceMethod ({ cls := "RulehearthModel", name := "answers", desc := "(IIII)I" } : Jvm.MethodName)) ∈ lw_all := lw_g (lw_at lw_m11 104 rfl) rfl
theorem q2628 : (Jvm.Cond.selects "RulehearthModel" ({ cls := "RulehearthModel", name := "answers", desc := "(IIII)I" } : Jvm.MethodName) ({ cls := "RulehearthModel", name := "answers", desc := "(IIII)I" } : Jvm.MethodName)) ∈ lw_all := lw_g (lw_at lw_m11 105 rfl) rfl
theorem q2629 : (Jvm.Cond.code ({ cls := "RulehearthModel", name := "answers", desc := "(IIII)I" } : Jvm.MethodName) prog_19_method_93_code (9 : Nat) (Option.some Jvm.ClassFile.FieldType.int)) ∈ lw_all := lw_g (lw_at lw_m11 106 rfl) rfl
theorem q2630 : (Jvm.Cond.methodLink "RulehearthModel" (364 : Nat) ({ cls := "RulehearthModel", name := "isGoal", desc := "(IIII)Z" } : Jvm.MethodName)) ∈ lw_all := lw_g (lw_at lw_m11 107 rfl) rfl
theorem q2631 : (Jvm.Cond.privateMethod ({ cls := "RulehearthModel", name := "isGoal", desc := "(IIII)Z" } : Jvm.MethodName)) ∈ lw_tbl := lw_at lw_m11 108 rfl
theorem q2632 : (Jvm.Cond.instanceMethod ({ cls := "RulehearthModel", name := "isGoal", desc := "(IIII)Z" } : Jvm.MethodName)) ∈ lw_all := lw_g (lw_at lw_m11 109 rfl) rfl
theorem q2633 : (Jvm.Cond.code ({ cls := "RulehearthModel", name := "isGoal", desc := "(IIII)Z" } : Jvm.MethodName) prog_19_method_92_code (6 : Nat) (Option.some Jvm.ClassFile.FieldType.boolean)) ∈ lw_all := lw_g (lw_at lw_m11 110 rfl) rfl
theorem q2635 : (Jvm.Cond.instanceMethod ({ cls := "RulehearthModel", name := "goals", desc := "(IIII)I" } : Jvm.MethodName)) ∈ lw_all := lw_g (lw_at lw_m11 112 rfl) rfl
theorem q2636 : (Jvm.Cond.selects "RulehearthModel" ({ cls := "RulehearthModel", name := "goals", desc := "(IIII)I" } : Jvm.MethodName) ({ cls := "RulehearthModel", name := "goals", desc := "(IIII)I" } : Jvm.MethodName)) ∈ lw_all := lw_g (lw_at lw_m11 113 rfl) rfl
theorem q2637 : (Jvm.Cond.code ({ cls := "RulehearthModel", name := "goals", desc := "(IIII)I" } : Jvm.MethodName) prog_19_method_98_code (6 : Nat) (Option.some Jvm.ClassFile.FieldType.int)) ∈ lw_all := lw_g (lw_at lw_m11 114 rfl) rfl
theorem q2638 : (Jvm.Cond.methodLink "RulehearthModel" (374 : Nat) ({ cls := "RulehearthModel", name := "goalOf", desc := "(IIII)I" } : Jvm.MethodName)) ∈ lw_all := lw_g (lw_at lw_m11 115 rfl) rfl
theorem q2639 : (Jvm.Cond.static ({ cls := "RulehearthModel", name := "goalOf", desc := "(IIII)I" } : Jvm.MethodName)) ∈ lw_all := lw_g (lw_at lw_m11 116 rfl) rfl
theorem q2640 : (Jvm.Cond.code ({ cls := "RulehearthModel", name := "goalOf", desc := "(IIII)I" } : Jvm.MethodName) prog_19_method_95_code (4 : Nat) (Option.some Jvm.ClassFile.FieldType.int)) ∈ lw_all := lw_g (lw_at lw_m11 117 rfl) rfl
theorem q2641 : (Jvm.Cond.constant "RulehearthModel" (370 : Nat) (1030301 : Int32)) ∈ lw_all := lw_g (lw_at lw_m11 118 rfl) rfl
theorem q2642 : (Jvm.Cond.methodLink "RulehearthModel" (378 : Nat) ({ cls := "RulehearthModel", name := "addGoal", desc := "(I)V" } : Jvm.MethodName)) ∈ lw_all := lw_g (lw_at lw_m11 119 rfl) rfl
theorem q2643 : (Jvm.Cond.privateMethod ({ cls := "RulehearthModel", name := "addGoal", desc := "(I)V" } : Jvm.MethodName)) ∈ lw_tbl := lw_at lw_m11 120 rfl
theorem q2644 : (Jvm.Cond.instanceMethod ({ cls := "RulehearthModel", name := "addGoal", desc := "(I)V" } : Jvm.MethodName)) ∈ lw_all := lw_g (lw_at lw_m11 121 rfl) rfl
theorem q2645 : (Jvm.Cond.code ({ cls := "RulehearthModel", name := "addGoal", desc := "(I)V" } : Jvm.MethodName) prog_19_method_94_code (4 : Nat) (Option.none : Option Jvm.ClassFile.FieldType)) ∈ lw_all := lw_g (lw_at lw_m11 122 rfl) rfl
theorem q2646 : (Jvm.Cond.methodLink "RulehearthModel" (381 : Nat) ({ cls := "RulehearthModel", name := "setUp", desc := "(I)V" } : Jvm.MethodName)) ∈ lw_all := lw_g (lw_at lw_m11 123 rfl) rfl
theorem q2647 : (Jvm.Cond.privateMethod ({ cls := "RulehearthModel", name := "setUp", desc := "(I)V" } : Jvm.MethodName)) ∈ lw_tbl := lw_at lw_m11 124 rfl
theorem q2648 : (Jvm.Cond.instanceMethod ({ cls := "RulehearthModel", name := "setUp", desc := "(I)V" } : Jvm.MethodName)) ∈ lw_all := lw_g (lw_at lw_m11 125 rfl) rfl
theorem q2649 : (Jvm.Cond.code ({ cls := "RulehearthModel", name := "setUp", desc := "(I)V" } : Jvm.MethodName) prog_19_method_97_code (8 : Nat) (Option.none : Option Jvm.ClassFile.FieldType)) ∈ lw_all := lw_g (lw_at lw_m11 126 rfl) rfl
theorem q2650 : (Jvm.Cond.methodLink "RulehearthModel" (371 : Nat) ({ cls := "RulehearthModel", name := "openValue", desc := "(III)I" } : Jvm.MethodName)) ∈ lw_all := lw_g (lw_at lw_m11 127 rfl) rfl
theorem q2651 : (Jvm.Cond.privateMethod ({ cls := "RulehearthModel", name := "openValue", desc := "(III)I" } : Jvm.MethodName)) ∈ lw_tbl := lw_at lw_m11 128 rfl
theorem q2652 : (Jvm.Cond.instanceMethod ({ cls := "RulehearthModel", name := "openValue", desc := "(III)I" } : Jvm.MethodName)) ∈ lw_all := lw_g (lw_at lw_m11 129 rfl) rfl
theorem q2653 : (Jvm.Cond.code ({ cls := "RulehearthModel", name := "openValue", desc := "(III)I" } : Jvm.MethodName) prog_19_method_96_code (4 : Nat) (Option.some Jvm.ClassFile.FieldType.int)) ∈ lw_all := lw_g (lw_at lw_m11 130 rfl) rfl
theorem q2655 : (Jvm.Cond.instanceMethod ({ cls := "RulehearthModel", name := "beginnings", desc := "()I" } : Jvm.MethodName)) ∈ lw_all := lw_g (lw_at lw_m11 132 rfl) rfl
theorem q2656 : (Jvm.Cond.selects "RulehearthModel" ({ cls := "RulehearthModel", name := "beginnings", desc := "()I" } : Jvm.MethodName) ({ cls := "RulehearthModel", name := "beginnings", desc := "()I" } : Jvm.MethodName)) ∈ lw_all := lw_g (lw_at lw_m11 133 rfl) rfl
theorem q2657 : (Jvm.Cond.code ({ cls := "RulehearthModel", name := "beginnings", desc := "()I" } : Jvm.MethodName) prog_19_method_102_code (3 : Nat) (Option.some Jvm.ClassFile.FieldType.int)) ∈ lw_all := lw_g (lw_at lw_m11 134 rfl) rfl
theorem q2658 : (Jvm.Cond.methodLink "RulehearthModel" (390 : Nat) ({ cls := "RulehearthModel", name := "alikeAhead", desc := "(I)I" } : Jvm.MethodName)) ∈ lw_all := lw_g (lw_at lw_m11 135 rfl) rfl
theorem q2659 : (Jvm.Cond.privateMethod ({ cls := "RulehearthModel", name := "alikeAhead", desc := "(I)I" } : Jvm.MethodName)) ∈ lw_tbl := lw_at lw_m11 136 rfl
theorem q2660 : (Jvm.Cond.instanceMethod ({ cls := "RulehearthModel", name := "alikeAhead", desc := "(I)I" } : Jvm.MethodName)) ∈ lw_all := lw_g (lw_at lw_m11 137 rfl) rfl
theorem q2661 : (Jvm.Cond.code ({ cls := "RulehearthModel", name := "alikeAhead", desc := "(I)I" } : Jvm.MethodName) prog_19_method_101_code (6 : Nat) (Option.some Jvm.ClassFile.FieldType.int)) ∈ lw_all := lw_g (lw_at lw_m11 138 rfl) rfl
theorem q2662 : (Jvm.Cond.methodLink "RulehearthModel" (387 : Nat) ({ cls := "RulehearthModel", name := "areAlike", desc := "(III)Z" } : Jvm.MethodName)) ∈ lw_all := lw_g (lw_at lw_m11 139 rfl) rfl
theorem q2663 : (Jvm.Cond.privateMethod ({ cls := "RulehearthModel", name := "areAlike", desc := "(III)Z" } : Jvm.MethodName)) ∈ lw_tbl := lw_at lw_m11 140 rfl
theorem q2664 : (Jvm.Cond.instanceMethod ({ cls := "RulehearthModel", name := "areAlike", desc := "(III)Z" } : Jvm.MethodName)) ∈ lw_all := lw_g (lw_at lw_m11 141 rfl) rfl
theorem q2665 : (Jvm.Cond.code ({ cls := "RulehearthModel", name := "areAlike", desc := "(III)Z" } : Jvm.MethodName) prog_19_method_100_code (8 : Nat) (Option.some Jvm.ClassFile.FieldType.boolean)) ∈ lw_all := lw_g (lw_at lw_m11 142 rfl) rfl
theorem q2666 : (Jvm.Cond.methodLink "RulehearthModel" (384 : Nat) ({ cls := "RulehearthModel", name := "renamed", desc := "(II)I" } : Jvm.MethodName)) ∈ lw_all := lw_g (lw_at lw_m11 143 rfl) rfl
theorem q2667 : (Jvm.Cond.privateMethod ({ cls := "RulehearthModel", name := "renamed", desc := "(II)I" } : Jvm.MethodName)) ∈ lw_tbl := lw_at lw_m11 144 rfl
theorem q2668 : (Jvm.Cond.instanceMethod ({ cls := "RulehearthModel", name := "renamed", desc := "(II)I" } : Jvm.MethodName)) ∈ lw_all := lw_g (lw_at lw_m11 145 rfl) rfl
theorem q2669 : (Jvm.Cond.code ({ cls := "RulehearthModel", name := "renamed", desc := "(II)I" } : Jvm.MethodName) prog_19_method_99_code (9 : Nat) (Option.some Jvm.ClassFile.FieldType.int)) ∈ lw_all := lw_g (lw_at lw_m11 146 rfl) rfl
theorem q2671 : (Jvm.Cond.instanceMethod ({ cls := "RulehearthModel", name := "matches", desc := "(II)I" } : Jvm.MethodName)) ∈ lw_all := lw_g (lw_at lw_m11 148 rfl) rfl
theorem q2672 : (Jvm.Cond.selects "RulehearthModel" ({ cls := "RulehearthModel", name := "matches", desc := "(II)I" } : Jvm.MethodName) ({ cls := "RulehearthModel", name := "matches", desc := "(II)I" } : Jvm.MethodName)) ∈ lw_all := lw_g (lw_at lw_m11 149 rfl) rfl
theorem q2673 : (Jvm.Cond.code ({ cls := "RulehearthModel", name := "matches", desc := "(II)I" } : Jvm.MethodName) prog_19_method_104_code (4 : Nat) (Option.some Jvm.ClassFile.FieldType.int)) ∈ lw_all := lw_g (lw_at lw_m11 150 rfl) rfl
theorem q2674 : (Jvm.Cond.methodLink "RulehearthModel" (393 : Nat) ({ cls := "RulehearthModel", name := "countMatches", desc := "()I" } : Jvm.MethodName)) ∈ lw_all := lw_g (lw_at lw_m11 151 rfl) rfl
theorem q2675 : (Jvm.Cond.privateMethod ({ cls := "RulehearthModel", name := "countMatches", desc := "()I" } : Jvm.MethodName)) ∈ lw_tbl := lw_at lw_m11 152 rfl
theorem q2676 : (Jvm.Cond.instanceMethod ({ cls := "RulehearthModel", name := "countMatches", desc := "()I" } : Jvm.MethodName)) ∈ lw_all := lw_g (lw_at lw_m11 153 rfl) rfl
theorem q2677 : (Jvm.Cond.code ({ cls := "RulehearthModel", name := "countMatches", desc := "()I" } : Jvm.MethodName) prog_19_method_103_code (2 : Nat) (Option.some Jvm.ClassFile.FieldType.int)) ∈ lw_all := lw_g (lw_at lw_m11 154 rfl) rfl
theorem q2679 : (Jvm.Cond.instanceMethod ({ cls := "RulehearthModel", name := "planAt", desc := "(II)I" } : Jvm.MethodName)) ∈ lw_all := lw_g (lw_at lw_m11 156 rfl) rfl
theorem q2680 : (Jvm.Cond.selects "RulehearthModel" ({ cls := "RulehearthModel", name := "planAt", desc := "(II)I" } : Jvm.MethodName) ({ cls := "RulehearthModel", name := "planAt", desc := "(II)I" } : Jvm.MethodName)) ∈ lw_all := lw_g (lw_at lw_m11 157 rfl) rfl
theorem q2681 : (Jvm.Cond.code ({ cls := "RulehearthModel", name := "planAt", desc := "(II)I" } : Jvm.MethodName) prog_19_method_109_code (4 : Nat) (Option.some Jvm.ClassFile.FieldType.int)) ∈ lw_all := lw_g (lw_at lw_m11 158 rfl) rfl
theorem q2682 : (Jvm.Cond.methodLink "RulehearthModel" (405 : Nat) ({ cls := "RulehearthModel", name := "findPlan", desc := "(I)V" } : Jvm.MethodName)) ∈ lw_all := lw_g (lw_at lw_m11 159 rfl) rfl
theorem q2683 : (Jvm.Cond.privateMethod ({ cls := "RulehearthModel", name := "findPlan", desc := "(I)V" } : Jvm.MethodName)) ∈ lw_tbl := lw_at lw_m11 160 rfl
theorem q2684 : (Jvm.Cond.instanceMethod ({ cls := "RulehearthModel", name := "findPlan", desc := "(I)V" } : Jvm.MethodName)) ∈ lw_all := lw_g (lw_at lw_m11 161 rfl) rfl
theorem q2685 : (Jvm.Cond.code ({ cls := "RulehearthModel", name := "findPlan", desc := "(I)V" } : Jvm.MethodName) prog_19_method_108_code (6 : Nat) (Option.none : Option Jvm.ClassFile.FieldType)) ∈ lw_all := lw_g (lw_at lw_m11 162 rfl) rfl
theorem q2686 : (Jvm.Cond.methodLink "RulehearthModel" (402 : Nat) ({ cls := "RulehearthModel", name := "nextAtom", desc := "(III)I" } : Jvm.MethodName)) ∈ lw_all := lw_g (lw_at lw_m11 163 rfl) rfl
theorem q2687 : (Jvm.Cond.privateMethod ({ cls := "RulehearthModel", name := "nextAtom", desc := "(III)I" } : Jvm.MethodName)) ∈ lw_tbl := lw_at lw_m11 164 rfl
theorem q2688 : (Jvm.Cond.instanceMethod ({ cls := "RulehearthModel", name := "nextAtom", desc := "(III)I" } : Jvm.MethodName)) ∈ lw_all := lw_g (lw_at lw_m11 165 rfl) rfl
theorem q2689 : (Jvm.Cond.code ({ cls := "RulehearthModel", name := "nextAtom", desc := "(III)I" } : Jvm.MethodName) prog_19_method_107_code (8 : Nat) (Option.some Jvm.ClassFile.FieldType.int)) ∈ lw_all := lw_g (lw_at lw_m11 166 rfl) rfl
theorem q2690 : (Jvm.Cond.methodLink "RulehearthModel" (396 : Nat) ({ cls := "RulehearthModel", name := "variablesOf", desc := "(II)I" } : Jvm.MethodName)) ∈ lw_all := lw_g (lw_at lw_m11 167 rfl) rfl
theorem q2691 : (Jvm.Cond.privateMethod ({ cls := "RulehearthModel", name := "variablesOf", desc := "(II)I" } : Jvm.MethodName)) ∈ lw_tbl := lw_at lw_m11 168 rfl
theorem q2692 : (Jvm.Cond.instanceMethod ({ cls := "RulehearthModel", name := "variablesOf", desc := "(II)I" } : Jvm.MethodName)) ∈ lw_all := lw_g (lw_at lw_m11 169 rfl) rfl
theorem q2693 : (Jvm.Cond.code ({ cls := "RulehearthModel", name := "variablesOf", desc := "(II)I" } : Jvm.MethodName) prog_19_method_106_code (6 : Nat) (Option.some Jvm.ClassFile.FieldType.int)) ∈ lw_all := lw_g (lw_at lw_m11 170 rfl) rfl
theorem q2694 : (Jvm.Cond.methodLink "RulehearthModel" (399 : Nat) ({ cls := "RulehearthModel", name := "standingOf", desc := "(I)I" } : Jvm.MethodName)) ∈ lw_all := lw_g (lw_at lw_m11 171 rfl) rfl
theorem q2695 : (Jvm.Cond.privateMethod ({ cls := "RulehearthModel", name := "standingOf", desc := "(I)I" } : Jvm.MethodName)) ∈ lw_tbl := lw_at lw_m11 172 rfl
theorem q2696 : (Jvm.Cond.instanceMethod ({ cls := "RulehearthModel", name := "standingOf", desc := "(I)I" } : Jvm.MethodName)) ∈ lw_all := lw_g (lw_at lw_m11 173 rfl) rfl
theorem q2697 : (Jvm.Cond.code ({ cls := "RulehearthModel", name := "standingOf", desc := "(I)I" } : Jvm.MethodName) prog_19_method_105_code (4 : Nat) (Option.some Jvm.ClassFile.FieldType.int)) ∈ lw_all := lw_g (lw_at lw_m11 174 rfl) rfl
theorem q2699 : (Jvm.Cond.instanceMethod ({ cls := "RulehearthModel", name := "work", desc := "(IZ)I" } : Jvm.MethodName)) ∈ lw_all := lw_g (lw_at lw_m11 176 rfl) rfl
theorem q2700 : (Jvm.Cond.selects "RulehearthModel" ({ cls := "RulehearthModel", name := "work", desc := "(IZ)I" } : Jvm.MethodName) ({ cls := "RulehearthModel", name := "work", desc := "(IZ)I" } : Jvm.MethodName)) ∈ lw_all := lw_g (lw_at lw_m11 177 rfl) rfl
theorem q2701 : (Jvm.Cond.code ({ cls := "RulehearthModel", name := "work", desc := "(IZ)I" } : Jvm.MethodName) prog_19_method_110_code (8 : Nat) (Option.some Jvm.ClassFile.FieldType.int)) ∈ lw_all := lw_g (lw_at lw_m11 178 rfl) rfl
theorem q2703 : (Jvm.Cond.instanceMethod ({ cls := "RulehearthModel", name := "agenda", desc := "(I)I" } : Jvm.MethodName)) ∈ lw_all := lw_g (lw_at lw_m11 180 rfl) rfl
theorem q2704 : (Jvm.Cond.selects "RulehearthModel" ({ cls := "RulehearthModel", name := "agenda", desc := "(I)I" } : Jvm.MethodName) ({ cls := "RulehearthModel", name := "agenda", desc := "(I)I" } : Jvm.MethodName)) ∈ lw_all := lw_g (lw_at lw_m11 181 rfl) rfl
theorem q2705 : (Jvm.Cond.code ({ cls := "RulehearthModel", name := "agenda", desc := "(I)I" } : Jvm.MethodName) prog_19_method_116_code (2 : Nat) (Option.some Jvm.ClassFile.FieldType.int)) ∈ lw_all := lw_g (lw_at lw_m11 182 rfl) rfl
theorem q2706 : (Jvm.Cond.methodLink "RulehearthModel" (429 : Nat) ({ cls := "RulehearthModel", name := "findBest", desc := "(I)I" } : Jvm.MethodName)) ∈ lw_all := lw_g (lw_at lw_m11 183 rfl) rfl
theorem q2707 : (Jvm.Cond.privateMethod ({ cls := "RulehearthModel", name := "findBest", desc := "(I)I" } : Jvm.MethodName)) ∈ lw_tbl := lw_at lw_m11 184 rfl
theorem q2708 : (Jvm.Cond.instanceMethod ({ cls := "RulehearthModel", name := "findBest", desc := "(I)I" } : Jvm.MethodName)) ∈ lw_all := lw_g (lw_at lw_m11 185 rfl) rfl
theorem q2709 : (Jvm.Cond.code ({ cls := "RulehearthModel", name := "findBest", desc := "(I)I" } : Jvm.MethodName) prog_19_method_114_code (4 : Nat) (Option.some Jvm.ClassFile.FieldType.int)) ∈ lw_all := lw_g (lw_at lw_m11 186 rfl) rfl
theorem q2710 : (Jvm.Cond.methodLink "RulehearthModel" (414 : Nat) ({ cls := "RulehearthModel", name := "canFire", desc := "()Z" } : Jvm.MethodName)) ∈ lw_all := lw_g (lw_at lw_m11 187 rfl) rfl
theorem q2711 : (Jvm.Cond.privateMethod ({ cls := "RulehearthModel", name := "canFire", desc := "()Z" } : Jvm.MethodName)) ∈ lw_tbl := lw_at lw_m11 188 rfl
theorem q2712 : (Jvm.Cond.instanceMethod ({ cls := "RulehearthModel", name := "canFire", desc := "()Z" } : Jvm.MethodName)) ∈ lw_all := lw_g (lw_at lw_m11 189 rfl) rfl
theorem q2713 : (Jvm.Cond.code ({ cls := "RulehearthModel", name := "canFire", desc := "()Z" } : Jvm.MethodName) prog_19_method_112_code (3 : Nat) (Option.some Jvm.ClassFile.FieldType.boolean)) ∈ lw_all := lw_g (lw_at lw_m11 190 rfl) rfl
theorem q2714 : (Jvm.Cond.methodLink "RulehearthModel" (408 : Nat) ({ cls := "RulehearthModel", name := "tagOf", desc := "(I)I" } : Jvm.MethodName)) ∈ lw_all := lw_g (lw_at lw_m11 191 rfl) rfl
theorem q2715 : (Jvm.Cond.privateMethod ({ cls := "RulehearthModel", name := "tagOf", desc := "(I)I" } : Jvm.MethodName)) ∈ lw_tbl := lw_at lw_m11 192 rfl
theorem q2716 : (Jvm.Cond.instanceMethod ({ cls := "RulehearthModel", name := "tagOf", desc := "(I)I" } : Jvm.MethodName)) ∈ lw_all := lw_g (lw_at lw_m11 193 rfl) rfl
theorem q2717 : (Jvm.Cond.code ({ cls := "RulehearthModel", name := "tagOf", desc := "(I)I" } : Jvm.MethodName) prog_19_method_111_code (4 : Nat) (Option.some Jvm.ClassFile.FieldType.int)) ∈ lw_all := lw_g (lw_at lw_m11 194 rfl) rfl
theorem q2718 : (Jvm.Cond.methodLink "RulehearthModel" (417 : Nat) ({ cls := "RulehearthModel", name := "compare", desc := "(I)V" } : Jvm.MethodName)) ∈ lw_all := lw_g (lw_at lw_m11 195 rfl) rfl
theorem q2719 : (Jvm.Cond.privateMethod ({ cls := "RulehearthModel", name := "compare", desc := "(I)V" } : Jvm.MethodName)) ∈ lw_tbl := lw_at lw_m11 196 rfl
theorem q2720 : (Jvm.Cond.instanceMethod ({ cls := "RulehearthModel", name := "compare", desc := "(I)V" } : Jvm.MethodName)) ∈ lw_all := lw_g (lw_at lw_m11 197 rfl) rfl
theorem q2721 : (Jvm.Cond.code ({ cls := "RulehearthModel", name := "compare", desc := "(I)V" } : Jvm.MethodName) prog_19_method_115_code (5 : Nat) (Option.none : Option Jvm.ClassFile.FieldType)) ∈ lw_all := lw_g (lw_at lw_m11 198 rfl) rfl
theorem q2722 : (Jvm.Cond.methodLink "RulehearthModel" (420 : Nat) ({ cls := "RulehearthModel", name := "greatestTag", desc := "()I" } : Jvm.MethodName)) ∈ lw_all := lw_g (lw_at lw_m11 199 rfl) rfl
theorem q2723 : (Jvm.Cond.privateMethod ({ cls := "RulehearthModel", name := "greatestTag", desc := "()I" } : Jvm.MethodName)) ∈ lw_tbl := lw_at lw_m11 200 rfl
theorem q2724 : (Jvm.Cond.instanceMethod ({ cls := "RulehearthModel", name := "greatestTag", desc := "()I" } : Jvm.MethodName)) ∈ lw_all := lw_g (lw_at lw_m11 201 rfl) rfl
theorem q2725 : (Jvm.Cond.code ({ cls := "RulehearthModel", name := "greatestTag", desc := "()I" } : Jvm.MethodName) prog_19_method_113_code (2 : Nat) (Option.some Jvm.ClassFile.FieldType.int)) ∈ lw_all := lw_g (lw_at lw_m11 202 rfl) rfl
theorem q2727 : (Jvm.Cond.instanceMethod ({ cls := "RulehearthModel", name := "next", desc := "()I" } : Jvm.MethodName)) ∈ lw_all := lw_g (lw_at lw_m11 204 rfl) rfl
theorem q2728 : (Jvm.Cond.selects "RulehearthModel" ({ cls := "RulehearthModel", name := "next", desc := "()I" } : Jvm.MethodName) ({ cls := "RulehearthModel", name := "next", desc := "()I" } : Jvm.MethodName)) ∈ lw_all := lw_g (lw_at lw_m11 205 rfl) rfl
theorem q2729 : (Jvm.Cond.code ({ cls := "RulehearthModel", name := "next", desc := "()I" } : Jvm.MethodName) prog_19_method_118_code (1 : Nat) (Option.some Jvm.ClassFile.FieldType.int)) ∈ lw_all := lw_g (lw_at lw_m11 206 rfl) rfl
theorem q2730 : (Jvm.Cond.methodLink "RulehearthModel" (432 : Nat) ({ cls := "RulehearthModel", name := "findNext", desc := "()I" } : Jvm.MethodName)) ∈ lw_all := lw_g (lw_at lw_m11 207 rfl) rfl
theorem q2731 : (Jvm.Cond.privateMethod ({ cls := "RulehearthModel", name := "findNext", desc := "()I" } : Jvm.MethodName)) ∈ lw_tbl := lw_at lw_m11 208 rfl
theorem q2732 : (Jvm.Cond.instanceMethod ({ cls := "RulehearthModel", name := "findNext", desc := "()I" } : Jvm.MethodName)) ∈ lw_all := lw_g (lw_at lw_m11 209 rfl) rfl
theorem q2733 : (Jvm.Cond.code ({ cls := "RulehearthModel", name := "findNext", desc := "()I" } : Jvm.MethodName) prog_19_method_117_code (2 : Nat) (Option.some Jvm.ClassFile.FieldType.int)) ∈ lw_all := lw_g (lw_at lw_m11 210 rfl) rfl
theorem q2735 : (Jvm.Cond.instanceMethod ({ cls := "RulehearthModel", name := "nextFact", desc := "()I" } : Jvm.MethodName)) ∈ lw_all := lw_g (lw_at lw_m11 212 rfl) rfl
theorem q2736 : (Jvm.Cond.selects "RulehearthModel" ({ cls := "RulehearthModel", name := "nextFact", desc := "()I" } : Jvm.MethodName) ({ cls := "RulehearthModel", name := "nextFact", desc := "()I" } : Jvm.MethodName)) ∈ lw_all := lw_g (lw_at lw_m11 213 rfl) rfl
theorem q2737 : (Jvm.Cond.code ({ cls := "RulehearthModel", name := "nextFact", desc := "()I" } : Jvm.MethodName) prog_19_method_119_code (1 : Nat) (Option.some Jvm.ClassFile.FieldType.int)) ∈ lw_all := lw_g (lw_at lw_m11 214 rfl) rfl
theorem q2739 : (Jvm.Cond.instanceMethod ({ cls := "RulehearthModel", name := "fire", desc := "()I" } : Jvm.MethodName)) ∈ lw_all := lw_g (lw_at lw_m11 216 rfl) rfl
theorem q2740 : (Jvm.Cond.selects "RulehearthModel" ({ cls := "RulehearthModel", name := "fire", desc := "()I" } : Jvm.MethodName) ({ cls := "RulehearthModel", name := "fire", desc := "()I" } : Jvm.MethodName)) ∈ lw_all := lw_g (lw_at lw_m11 217 rfl) rfl
theorem q2741 : (Jvm.Cond.code ({ cls := "RulehearthModel", name := "fire", desc := "()I" } : Jvm.MethodName) prog_19_method_121_code (2 : Nat) (Option.some Jvm.ClassFile.FieldType.int)) ∈ lw_all := lw_g (lw_at lw_m11 218 rfl) rfl
theorem q2742 : (Jvm.Cond.methodLink "RulehearthModel" (435 : Nat) ({ cls := "RulehearthModel", name := "fireOnce", desc := "()I" } : Jvm.MethodName)) ∈ lw_all := lw_g (lw_at lw_m11 219 rfl) rfl
theorem q2743 : (Jvm.Cond.privateMethod ({ cls := "RulehearthModel", name := "fireOnce", desc := "()I" } : Jvm.MethodName)) ∈ lw_tbl := lw_at lw_m11 220 rfl
theorem q2744 : (Jvm.Cond.instanceMethod ({ cls := "RulehearthModel", name := "fireOnce", desc := "()I" } : Jvm.MethodName)) ∈ lw_all := lw_g (lw_at lw_m11 221 rfl) rfl
theorem q2745 : (Jvm.Cond.code ({ cls := "RulehearthModel", name := "fireOnce", desc := "()I" } : Jvm.MethodName) prog_19_method_120_code (4 : Nat) (Option.some Jvm.ClassFile.FieldType.int)) ∈ lw_all := lw_g (lw_at lw_m11 222 rfl) rfl
theorem q2747 : (Jvm.Cond.instanceMethod ({ cls := "RulehearthModel", name := "run", desc := "(I)I" } : Jvm.MethodName)) ∈ lw_all := lw_g (lw_at lw_m11 224 rfl) rfl
theorem q2748 : (Jvm.Cond.selects "RulehearthModel" ({ cls := "RulehearthModel", name := "run", desc := "(I)I" } : Jvm.MethodName) ({ cls := "RulehearthModel", name := "run", desc := "(I)I" } : Jvm.MethodName)) ∈ lw_all := lw_g (lw_at lw_m11 225 rfl) rfl
theorem q2749 : (Jvm.Cond.code ({ cls := "RulehearthModel", name := "run", desc := "(I)I" } : Jvm.MethodName) prog_19_method_122_code (3 : Nat) (Option.some Jvm.ClassFile.FieldType.int)) ∈ lw_all := lw_g (lw_at lw_m11 226 rfl) rfl
theorem q2751 : (Jvm.Cond.instanceMethod ({ cls := "RulehearthModel", name := "focus", desc := "(I)I" } : Jvm.MethodName)) ∈ lw_all := lw_g (lw_at lw_m11 228 rfl) rfl
theorem q2752 : (Jvm.Cond.selects "RulehearthModel" ({ cls := "RulehearthModel", name := "focus", desc := "(I)I" } : Jvm.MethodName) ({ cls := "RulehearthModel", name := "focus", desc := "(I)I" } : Jvm.MethodName)) ∈ lw_all := lw_g (lw_at lw_m11 229 rfl) rfl
theorem q2753 : (Jvm.Cond.code ({ cls := "RulehearthModel", name := "focus", desc := "(I)I" } : Jvm.MethodName) prog_19_method_123_code (2 : Nat) (Option.some Jvm.ClassFile.FieldType.int)) ∈ lw_all := lw_g (lw_at lw_m11 230 rfl) rfl
theorem q2755 : (Jvm.Cond.instanceMethod ({ cls := "RulehearthModel", name := "focused", desc := "()I" } : Jvm.MethodName)) ∈ lw_all := lw_g (lw_at lw_m11 232 rfl) rfl
theorem q2756 : (Jvm.Cond.selects "RulehearthModel" ({ cls := "RulehearthModel", name := "focused", desc := "()I" } : Jvm.MethodName) ({ cls := "RulehearthModel", name := "focused", desc := "()I" } : Jvm.MethodName)) ∈ lw_all := lw_g (lw_at lw_m11 233 rfl) rfl
theorem q2757 : (Jvm.Cond.code ({ cls := "RulehearthModel", name := "focused", desc := "()I" } : Jvm.MethodName) prog_19_method_124_code (1 : Nat) (Option.some Jvm.ClassFile.FieldType.int)) ∈ lw_all := lw_g (lw_at lw_m11 234 rfl) rfl
theorem q2759 : (Jvm.Cond.instanceMethod ({ cls := "RulehearthModel", name := "tick", desc := "(I)I" } : Jvm.MethodName)) ∈ lw_all := lw_g (lw_at lw_m11 236 rfl) rfl
theorem q2760 : (Jvm.Cond.selects "RulehearthModel" ({ cls := "RulehearthModel", name := "tick", desc := "(I)I" } : Jvm.MethodName) ({ cls := "RulehearthModel", name := "tick", desc := "(I)I" } : Jvm.MethodName)) ∈ lw_all := lw_g (lw_at lw_m11 237 rfl) rfl
theorem q2761 : (Jvm.Cond.code ({ cls := "RulehearthModel", name := "tick", desc := "(I)I" } : Jvm.MethodName) prog_19_method_126_code (4 : Nat) (Option.some Jvm.ClassFile.FieldType.int)) ∈ lw_all := lw_g (lw_at lw_m11 238 rfl) rfl
theorem q2762 : (Jvm.Cond.methodLink "RulehearthModel" (438 : Nat) ({ cls := "RulehearthModel", name := "beginTick", desc := "()I" } : Jvm.MethodName)) ∈ lw_all := lw_g (lw_at lw_m11 239 rfl) rfl
theorem q2763 : (Jvm.Cond.privateMethod ({ cls := "RulehearthModel", name := "beginTick", desc := "()I" } : Jvm.MethodName)) ∈ lw_tbl := lw_at lw_m12 0 rfl
theorem q2764 : (Jvm.Cond.instanceMethod ({ cls := "RulehearthModel", name := "beginTick", desc := "()I" } : Jvm.MethodName)) ∈ lw_all := lw_g (lw_at lw_m12 1 rfl) rfl
theorem q2765 : (Jvm.Cond.code ({ cls := "RulehearthModel", name := "beginTick", desc := "()I" } : Jvm.MethodName) prog_19_method_125_code (3 : Nat) (Option.some Jvm.ClassFile.FieldType.int)) ∈ lw_all := lw_g (lw_at lw_m12 2 rfl) rfl
theorem q2767 : (Jvm.Cond.instanceMethod ({ cls := "RulehearthModel", name := "now", desc := "()I" } : Jvm.MethodName)) ∈ lw_all := lw_g (lw_at lw_m12 4 rfl) rfl
theorem q2768 : (Jvm.Cond.selects "RulehearthModel" ({ cls := "RulehearthModel", name := "now", desc := "()I" } : Jvm.MethodName) ({ cls := "RulehearthModel", name := "now", desc := "()I" } : Jvm.MethodName)) ∈ lw_all := lw_g (lw_at lw_m12 5 rfl) rfl
theorem q2769 : (Jvm.Cond.code ({ cls := "RulehearthModel", name := "now", desc := "()I" } : Jvm.MethodName) prog_19_method_127_code (1 : Nat) (Option.some Jvm.ClassFile.FieldType.int)) ∈ lw_all := lw_g (lw_at lw_m12 6 rfl) rfl
theorem q2771 : (Jvm.Cond.instanceMethod ({ cls := "RulehearthModel", name := "begin", desc := "()I" } : Jvm.MethodName)) ∈ lw_all := lw_g (lw_at lw_m12 8 rfl) rfl
theorem q2772 : (Jvm.Cond.selects "RulehearthModel" ({ cls := "RulehearthModel", name := "begin", desc := "()I" } : Jvm.MethodName) ({ cls := "RulehearthModel", name := "begin", desc := "()I" } : Jvm.MethodName)) ∈ lw_all := lw_g (lw_at lw_m12 9 rfl) rfl
theorem q2773 : (Jvm.Cond.code ({ cls := "RulehearthModel", name := "begin", desc := "()I" } : Jvm.MethodName) prog_19_method_128_code (1 : Nat) (Option.some Jvm.ClassFile.FieldType.int)) ∈ lw_all := lw_g (lw_at lw_m12 10 rfl) rfl
theorem q2775 : (Jvm.Cond.instanceMethod ({ cls := "RulehearthModel", name := "commit", desc := "()I" } : Jvm.MethodName)) ∈ lw_all := lw_g (lw_at lw_m12 12 rfl) rfl
theorem q2776 : (Jvm.Cond.selects "RulehearthModel" ({ cls := "RulehearthModel", name := "commit", desc := "()I" } : Jvm.MethodName) ({ cls := "RulehearthModel", name := "commit", desc := "()I" } : Jvm.MethodName)) ∈ lw_all := lw_g (lw_at lw_m12 13 rfl) rfl
theorem q2777 : (Jvm.Cond.code ({ cls := "RulehearthModel", name := "commit", desc := "()I" } : Jvm.MethodName) prog_19_method_129_code (1 : Nat) (Option.some Jvm.ClassFile.FieldType.int)) ∈ lw_all := lw_g (lw_at lw_m12 14 rfl) rfl
theorem q2779 : (Jvm.Cond.instanceMethod ({ cls := "RulehearthModel", name := "rollBack", desc := "()I" } : Jvm.MethodName)) ∈ lw_all := lw_g (lw_at lw_m12 16 rfl) rfl
theorem q2780 : (Jvm.Cond.selects "RulehearthModel" ({ cls := "RulehearthModel", name := "rollBack", desc := "()I" } : Jvm.MethodName) ({ cls := "RulehearthModel", name := "rollBack", desc := "()I" } : Jvm.MethodName)) ∈ lw_all := lw_g (lw_at lw_m12 17 rfl) rfl
theorem q2781 : (Jvm.Cond.code ({ cls := "RulehearthModel", name := "rollBack", desc := "()I" } : Jvm.MethodName) prog_19_method_130_code (1 : Nat) (Option.some Jvm.ClassFile.FieldType.int)) ∈ lw_all := lw_g (lw_at lw_m12 18 rfl) rfl
theorem q2803 : (Jvm.Cond.castable "RulehearthModel" "java/lang/Object") ∈ lw_tbl := lw_at lw_m12 40 rfl
theorem in_X4 : ∀ w ∈ wsX40, w ∈ lw_all := lw_in wsX40 [2155, 2157, 2159, 2161, 2163, 2165, 2167, 2169, 2171, 2173, 2175, 2177, 2179, 2181, 2183, 2185, 2187, 2189, 2191, 2193, 2195, 2197, 2199, 2201, 2203, 2205, 2207, 2209, 2211, 2213, 2215, 2217, 2219, 2221, 2223, 2225, 2227, 2229, 2231, 2233, 2235, 2237, 2239, 2241, 2243, 2245, 2247, 2249, 2251, 2253, 2255, 2257, 2259, 2261, 2263, 2265] (by decide +kernel) (by decide +kernel)
def RJ18 : String := "java/lang/IllegalStateException"
def TJ18 : u_T := fun k => match k with
  | 0 => ("java/lang/Throwable", "cause", "Ljava/lang/Throwable;", false)
  | 1 => ("java/lang/Throwable", "stackTrace", "[Ljava/lang/StackTraceElement;", false)
  | 2 => ("java/lang/Throwable", "suppressedExceptions", "Ljava/util/List;", false)
  | 3 => ("java/lang/Throwable", "detailMessage", "Ljava/lang/String;", false)
  | 4 => ("java/lang/Throwable", "backtrace", "Ljava/lang/Object;", false)
  | _ => ("java/lang/Throwable", "depth", "I", false)
def tyJ18 : Nat → FieldType := fun k => match k with
  | 0 => .object "java/lang/Throwable"
  | 1 => .array (.object "java/lang/StackTraceElement")
  | 2 => .object "java/util/List"
  | 3 => .object "java/lang/String"
  | 4 => .object "java/lang/Object"
  | _ => .int
abbrev wsJ180 : List Cond := u_ws RJ18 TJ18 6
theorem nmJ18 : ∀ a, a < 6 → ∀ b, b < 6 → a ≠ b → (TJ18 a).2.1 ≠ (TJ18 b).2.1 := by decide +kernel
theorem tyJ18_ok : ∀ k, k < 6 → parseFieldDescriptor (TJ18 k).2.2.1 = some (tyJ18 k) := by decide +kernel
theorem q148 : (Jvm.Cond.initialized "java/lang/IllegalStateException") ∈ lw_all := lw_g (lw_at lw_m1 25 rfl) rfl
theorem q231 : (Jvm.Cond.selects "java/lang/IllegalStateException" ({ cls := "java/lang/Throwable", name := "fillInStackTrace", desc := "()Ljava/lang/Throwable;" } : Jvm.MethodName) ({ cls := "java/lang/Throwable", name := "fillInStackTrace", desc := "()Ljava/lang/Throwable;" } : Jvm.MethodName)) ∈ lw_all := lw_g (lw_at lw_m1 108 rfl) rfl
theorem q671 : (Jvm.Cond.selects "java/lang/IllegalStateException" ({ cls := "java/lang/Object", name := "getClass", desc := "()Ljava/lang/Class;" } : Jvm.MethodName) ({ cls := "java/lang/Object", name := "getClass", desc := "()Ljava/lang/Class;" } : Jvm.MethodName)) ∈ lw_all := lw_g (lw_at lw_m3 68 rfl) rfl
theorem q812 : (Jvm.Cond.selects "java/lang/IllegalStateException" ({ cls := "java/lang/Object", name := "equals", desc := "(Ljava/lang/Object;)Z" } : Jvm.MethodName) ({ cls := "java/lang/Object", name := "equals", desc := "(Ljava/lang/Object;)Z" } : Jvm.MethodName)) ∈ lw_all := lw_g (lw_at lw_m3 209 rfl) rfl
theorem q1067 : (Jvm.Cond.instantiable "java/lang/IllegalStateException" (6 : Nat)) ∈ lw_all := lw_g (lw_at lw_m4 224 rfl) rfl
theorem q1068 : (Jvm.Cond.castable "java/lang/IllegalStateException" "java/lang/IllegalStateException") ∈ lw_tbl := lw_at lw_m4 225 rfl
theorem q1069 : (Jvm.Cond.selects "java/lang/IllegalStateException" ({ cls := "java/lang/Throwable", name := "fillInStackTrace", desc := "(I)Ljava/lang/Throwable;" } : Jvm.MethodName) ({ cls := "java/lang/Throwable", name := "fillInStackTrace", desc := "(I)Ljava/lang/Throwable;" } : Jvm.MethodName)) ∈ lw_all := lw_g (lw_at lw_m4 226 rfl) rfl
theorem q1070 : (Jvm.Cond.lays "java/lang/IllegalStateException" "java/lang/Throwable" "cause" "Ljava/lang/Throwable;") ∈ lw_all := lw_g (lw_at lw_m4 227 rfl) rfl
theorem q1071 : (Jvm.Cond.lays "java/lang/IllegalStateException" "java/lang/Throwable" "stackTrace" "[Ljava/lang/StackTraceElement;") ∈ lw_all := lw_g (lw_at lw_m4 228 rfl) rfl
theorem q1072 : (Jvm.Cond.lays "java/lang/IllegalStateException" "java/lang/Throwable" "suppressedExceptions" "Ljava/util/List;") ∈ lw_all := lw_g (lw_at lw_m4 229 rfl) rfl
theorem q1073 : (Jvm.Cond.lays "java/lang/IllegalStateException" "java/lang/Throwable" "detailMessage" "Ljava/lang/String;") ∈ lw_all := lw_g (lw_at lw_m4 230 rfl) rfl
theorem q1074 : (Jvm.Cond.lays "java/lang/IllegalStateException" "java/lang/Throwable" "backtrace" "Ljava/lang/Object;") ∈ lw_all := lw_g (lw_at lw_m4 231 rfl) rfl
theorem q1076 : (Jvm.Cond.instanceMethod ({ cls := "java/lang/IllegalStateException", name := "<init>", desc := "(Ljava/lang/String;Ljava/lang/Throwable;)V" } : Jvm.MethodName)) ∈ lw_all := lw_g (lw_at lw_m4 233 rfl) rfl
theorem q1077 : (Jvm.Cond.code ({ cls := "java/lang/IllegalStateException", name := "<init>", desc := "(Ljava/lang/String;Ljava/lang/Throwable;)V" } : Jvm.MethodName) prog_29_method_3_code (3 : Nat) (Option.none : Option Jvm.ClassFile.FieldType)) ∈ lw_all := lw_g (lw_at lw_m4 234 rfl) rfl
theorem q1078 : (Jvm.Cond.methodLink "java/lang/IllegalStateException" (10 : Nat) ({ cls := "java/lang/RuntimeException", name := "<init>", desc := "(Ljava/lang/String;Ljava/lang/Throwable;)V" } : Jvm.MethodName)) ∈ lw_all := lw_g (lw_at lw_m4 235 rfl) rfl
theorem q1087 : (Jvm.Cond.lays "java/lang/IllegalStateException" "java/lang/Throwable" "depth" "I") ∈ lw_all := lw_g (lw_at lw_m5 4 rfl) rfl
theorem q1088 : (Jvm.Cond.superclass "java/lang/IllegalStateException" "java/lang/RuntimeException") ∈ lw_all := lw_g (lw_at lw_m5 5 rfl) rfl
theorem q1128 : (Jvm.Cond.instanceMethod ({ cls := "java/lang/IllegalStateException", name := "<init>", desc := "()V" } : Jvm.MethodName)) ∈ lw_all := lw_g (lw_at lw_m5 45 rfl) rfl
theorem q1129 : (Jvm.Cond.code ({ cls := "java/lang/IllegalStateException", name := "<init>", desc := "()V" } : Jvm.MethodName) prog_29_method_1_code (1 : Nat) (Option.none : Option Jvm.ClassFile.FieldType)) ∈ lw_all := lw_g (lw_at lw_m5 46 rfl) rfl
theorem q1130 : (Jvm.Cond.methodLink "java/lang/IllegalStateException" (1 : Nat) ({ cls := "java/lang/RuntimeException", name := "<init>", desc := "()V" } : Jvm.MethodName)) ∈ lw_all := lw_g (lw_at lw_m5 47 rfl) rfl
theorem q2804 : (Jvm.Cond.castable "java/lang/IllegalStateException" "java/lang/Object") ∈ lw_tbl := lw_at lw_m12 41 rfl
theorem in_J18 : ∀ w ∈ wsJ180, w ∈ lw_all := lw_in wsJ180 [1070, 1071, 1072, 1073, 1074, 1087] (by decide +kernel) (by decide +kernel)
def RJ19 : String := "java/lang/IndexOutOfBoundsException"
def TJ19 : u_T := fun k => match k with
  | 0 => ("java/lang/Throwable", "cause", "Ljava/lang/Throwable;", false)
  | 1 => ("java/lang/Throwable", "stackTrace", "[Ljava/lang/StackTraceElement;", false)
  | 2 => ("java/lang/Throwable", "suppressedExceptions", "Ljava/util/List;", false)
  | 3 => ("java/lang/Throwable", "detailMessage", "Ljava/lang/String;", false)
  | 4 => ("java/lang/Throwable", "backtrace", "Ljava/lang/Object;", false)
  | _ => ("java/lang/Throwable", "depth", "I", false)
def tyJ19 : Nat → FieldType := fun k => match k with
  | 0 => .object "java/lang/Throwable"
  | 1 => .array (.object "java/lang/StackTraceElement")
  | 2 => .object "java/util/List"
  | 3 => .object "java/lang/String"
  | 4 => .object "java/lang/Object"
  | _ => .int
abbrev wsJ190 : List Cond := u_ws RJ19 TJ19 6
theorem nmJ19 : ∀ a, a < 6 → ∀ b, b < 6 → a ≠ b → (TJ19 a).2.1 ≠ (TJ19 b).2.1 := by decide +kernel
theorem tyJ19_ok : ∀ k, k < 6 → parseFieldDescriptor (TJ19 k).2.2.1 = some (tyJ19 k) := by decide +kernel
theorem q149 : (Jvm.Cond.initialized "java/lang/IndexOutOfBoundsException") ∈ lw_all := lw_g (lw_at lw_m1 26 rfl) rfl
theorem q232 : (Jvm.Cond.selects "java/lang/IndexOutOfBoundsException" ({ cls := "java/lang/Throwable", name := "fillInStackTrace", desc := "()Ljava/lang/Throwable;" } : Jvm.MethodName) ({ cls := "java/lang/Throwable", name := "fillInStackTrace", desc := "()Ljava/lang/Throwable;" } : Jvm.MethodName)) ∈ lw_all := lw_g (lw_at lw_m1 109 rfl) rfl
theorem q672 : (Jvm.Cond.selects "java/lang/IndexOutOfBoundsException" ({ cls := "java/lang/Object", name := "getClass", desc := "()Ljava/lang/Class;" } : Jvm.MethodName) ({ cls := "java/lang/Object", name := "getClass", desc := "()Ljava/lang/Class;" } : Jvm.MethodName)) ∈ lw_all := lw_g (lw_at lw_m3 69 rfl) rfl
theorem q813 : (Jvm.Cond.selects "java/lang/IndexOutOfBoundsException" ({ cls := "java/lang/Object", name := "equals", desc := "(Ljava/lang/Object;)Z" } : Jvm.MethodName) ({ cls := "java/lang/Object", name := "equals", desc := "(Ljava/lang/Object;)Z" } : Jvm.MethodName)) ∈ lw_all := lw_g (lw_at lw_m3 210 rfl) rfl
theorem q1160 : (Jvm.Cond.instanceMethod ({ cls := "java/lang/IndexOutOfBoundsException", name := "<init>", desc := "(Ljava/lang/String;)V" } : Jvm.MethodName)) ∈ lw_all := lw_g (lw_at lw_m5 77 rfl) rfl
theorem q1161 : (Jvm.Cond.code ({ cls := "java/lang/IndexOutOfBoundsException", name := "<init>", desc := "(Ljava/lang/String;)V" } : Jvm.MethodName) prog_30_method_2_code (2 : Nat) (Option.none : Option Jvm.ClassFile.FieldType)) ∈ lw_all := lw_g (lw_at lw_m5 78 rfl) rfl
theorem q1162 : (Jvm.Cond.methodLink "java/lang/IndexOutOfBoundsException" (7 : Nat) ({ cls := "java/lang/RuntimeException", name := "<init>", desc := "(Ljava/lang/String;)V" } : Jvm.MethodName)) ∈ lw_all := lw_g (lw_at lw_m5 79 rfl) rfl
theorem q1171 : (Jvm.Cond.declares ({ cls := "java/lang/IndexOutOfBoundsException", name := "<init>", desc := "()V" } : Jvm.MethodName)) ∈ lw_tbl := lw_at lw_m5 88 rfl
theorem q1172 : (Jvm.Cond.declares ({ cls := "java/lang/IndexOutOfBoundsException", name := "<init>", desc := "(Ljava/lang/String;)V" } : Jvm.MethodName)) ∈ lw_tbl := lw_at lw_m5 89 rfl
theorem q1187 : (Jvm.Cond.instantiable "java/lang/IndexOutOfBoundsException" (6 : Nat)) ∈ lw_all := lw_g (lw_at lw_m5 104 rfl) rfl
theorem q1188 : (Jvm.Cond.castable "java/lang/IndexOutOfBoundsException" "java/lang/IndexOutOfBoundsException") ∈ lw_tbl := lw_at lw_m5 105 rfl
theorem q1189 : (Jvm.Cond.selects "java/lang/IndexOutOfBoundsException" ({ cls := "java/lang/Throwable", name := "fillInStackTrace", desc := "(I)Ljava/lang/Throwable;" } : Jvm.MethodName) ({ cls := "java/lang/Throwable", name := "fillInStackTrace", desc := "(I)Ljava/lang/Throwable;" } : Jvm.MethodName)) ∈ lw_all := lw_g (lw_at lw_m5 106 rfl) rfl
theorem q1190 : (Jvm.Cond.lays "java/lang/IndexOutOfBoundsException" "java/lang/Throwable" "cause" "Ljava/lang/Throwable;") ∈ lw_all := lw_g (lw_at lw_m5 107 rfl) rfl
theorem q1191 : (Jvm.Cond.lays "java/lang/IndexOutOfBoundsException" "java/lang/Throwable" "stackTrace" "[Ljava/lang/StackTraceElement;") ∈ lw_all := lw_g (lw_at lw_m5 108 rfl) rfl
theorem q1192 : (Jvm.Cond.lays "java/lang/IndexOutOfBoundsException" "java/lang/Throwable" "suppressedExceptions" "Ljava/util/List;") ∈ lw_all := lw_g (lw_at lw_m5 109 rfl) rfl
theorem q1193 : (Jvm.Cond.lays "java/lang/IndexOutOfBoundsException" "java/lang/Throwable" "detailMessage" "Ljava/lang/String;") ∈ lw_all := lw_g (lw_at lw_m5 110 rfl) rfl
theorem q1194 : (Jvm.Cond.lays "java/lang/IndexOutOfBoundsException" "java/lang/Throwable" "backtrace" "Ljava/lang/Object;") ∈ lw_all := lw_g (lw_at lw_m5 111 rfl) rfl
theorem q1196 : (Jvm.Cond.instanceMethod ({ cls := "java/lang/IndexOutOfBoundsException", name := "<init>", desc := "()V" } : Jvm.MethodName)) ∈ lw_all := lw_g (lw_at lw_m5 113 rfl) rfl
theorem q1197 : (Jvm.Cond.code ({ cls := "java/lang/IndexOutOfBoundsException", name := "<init>", desc := "()V" } : Jvm.MethodName) prog_30_method_1_code (1 : Nat) (Option.none : Option Jvm.ClassFile.FieldType)) ∈ lw_all := lw_g (lw_at lw_m5 114 rfl) rfl
theorem q1198 : (Jvm.Cond.methodLink "java/lang/IndexOutOfBoundsException" (1 : Nat) ({ cls := "java/lang/RuntimeException", name := "<init>", desc := "()V" } : Jvm.MethodName)) ∈ lw_all := lw_g (lw_at lw_m5 115 rfl) rfl
theorem q1199 : (Jvm.Cond.lays "java/lang/IndexOutOfBoundsException" "java/lang/Throwable" "depth" "I") ∈ lw_all := lw_g (lw_at lw_m5 116 rfl) rfl
theorem q1200 : (Jvm.Cond.superclass "java/lang/IndexOutOfBoundsException" "java/lang/RuntimeException") ∈ lw_all := lw_g (lw_at lw_m5 117 rfl) rfl
theorem q2806 : (Jvm.Cond.castable "java/lang/IndexOutOfBoundsException" "java/lang/Object") ∈ lw_tbl := lw_at lw_m12 43 rfl
theorem in_J19 : ∀ w ∈ wsJ190, w ∈ lw_all := lw_in wsJ190 [1190, 1191, 1192, 1193, 1194, 1199] (by decide +kernel) (by decide +kernel)
def RJ20 : String := "java/lang/ArrayIndexOutOfBoundsException"
def TJ20 : u_T := fun k => match k with
  | 0 => ("java/lang/Throwable", "backtrace", "Ljava/lang/Object;", false)
  | 1 => ("java/lang/Throwable", "detailMessage", "Ljava/lang/String;", false)
  | 2 => ("java/lang/Throwable", "cause", "Ljava/lang/Throwable;", false)
  | 3 => ("java/lang/Throwable", "stackTrace", "[Ljava/lang/StackTraceElement;", false)
  | 4 => ("java/lang/Throwable", "depth", "I", false)
  | _ => ("java/lang/Throwable", "suppressedExceptions", "Ljava/util/List;", false)
def tyJ20 : Nat → FieldType := fun k => match k with
  | 0 => .object "java/lang/Object"
  | 1 => .object "java/lang/String"
  | 2 => .object "java/lang/Throwable"
  | 3 => .array (.object "java/lang/StackTraceElement")
  | 4 => .int
  | _ => .object "java/util/List"
abbrev wsJ200 : List Cond := u_ws RJ20 TJ20 6
theorem nmJ20 : ∀ a, a < 6 → ∀ b, b < 6 → a ≠ b → (TJ20 a).2.1 ≠ (TJ20 b).2.1 := by decide +kernel
theorem tyJ20_ok : ∀ k, k < 6 → parseFieldDescriptor (TJ20 k).2.2.1 = some (tyJ20 k) := by decide +kernel
theorem q150 : (Jvm.Cond.initialized "java/lang/ArrayIndexOutOfBoundsException") ∈ lw_all := lw_g (lw_at lw_m1 27 rfl) rfl
theorem q230 : (Jvm.Cond.selects "java/lang/ArrayIndexOutOfBoundsException" ({ cls := "java/lang/Throwable", name := "fillInStackTrace", desc := "()Ljava/lang/Throwable;" } : Jvm.MethodName) ({ cls := "java/lang/Throwable", name := "fillInStackTrace", desc := "()Ljava/lang/Throwable;" } : Jvm.MethodName)) ∈ lw_all := lw_g (lw_at lw_m1 107 rfl) rfl
theorem q669 : (Jvm.Cond.selects "java/lang/ArrayIndexOutOfBoundsException" ({ cls := "java/lang/Object", name := "getClass", desc := "()Ljava/lang/Class;" } : Jvm.MethodName) ({ cls := "java/lang/Object", name := "getClass", desc := "()Ljava/lang/Class;" } : Jvm.MethodName)) ∈ lw_all := lw_g (lw_at lw_m3 66 rfl) rfl
theorem q810 : (Jvm.Cond.selects "java/lang/ArrayIndexOutOfBoundsException" ({ cls := "java/lang/Object", name := "equals", desc := "(Ljava/lang/Object;)Z" } : Jvm.MethodName) ({ cls := "java/lang/Object", name := "equals", desc := "(Ljava/lang/Object;)Z" } : Jvm.MethodName)) ∈ lw_all := lw_g (lw_at lw_m3 207 rfl) rfl
theorem q1156 : (Jvm.Cond.instantiable "java/lang/ArrayIndexOutOfBoundsException" (6 : Nat)) ∈ lw_all := lw_g (lw_at lw_m5 73 rfl) rfl
theorem q1157 : (Jvm.Cond.instanceMethod ({ cls := "java/lang/ArrayIndexOutOfBoundsException", name := "<init>", desc := "(Ljava/lang/String;)V" } : Jvm.MethodName)) ∈ lw_all := lw_g (lw_at lw_m5 74 rfl) rfl
theorem q1158 : (Jvm.Cond.code ({ cls := "java/lang/ArrayIndexOutOfBoundsException", name := "<init>", desc := "(Ljava/lang/String;)V" } : Jvm.MethodName) prog_23_method_2_code (2 : Nat) (Option.none : Option Jvm.ClassFile.FieldType)) ∈ lw_all := lw_g (lw_at lw_m5 75 rfl) rfl
theorem q1159 : (Jvm.Cond.methodLink "java/lang/ArrayIndexOutOfBoundsException" (7 : Nat) ({ cls := "java/lang/IndexOutOfBoundsException", name := "<init>", desc := "(Ljava/lang/String;)V" } : Jvm.MethodName)) ∈ lw_all := lw_g (lw_at lw_m5 76 rfl) rfl
theorem q1163 : (Jvm.Cond.lays "java/lang/ArrayIndexOutOfBoundsException" "java/lang/Throwable" "backtrace" "Ljava/lang/Object;") ∈ lw_all := lw_g (lw_at lw_m5 80 rfl) rfl
theorem q1164 : (Jvm.Cond.lays "java/lang/ArrayIndexOutOfBoundsException" "java/lang/Throwable" "detailMessage" "Ljava/lang/String;") ∈ lw_all := lw_g (lw_at lw_m5 81 rfl) rfl
theorem q1165 : (Jvm.Cond.lays "java/lang/ArrayIndexOutOfBoundsException" "java/lang/Throwable" "cause" "Ljava/lang/Throwable;") ∈ lw_all := lw_g (lw_at lw_m5 82 rfl) rfl
theorem q1166 : (Jvm.Cond.lays "java/lang/ArrayIndexOutOfBoundsException" "java/lang/Throwable" "stackTrace" "[Ljava/lang/StackTraceElement;") ∈ lw_all := lw_g (lw_at lw_m5 83 rfl) rfl
theorem q1167 : (Jvm.Cond.lays "java/lang/ArrayIndexOutOfBoundsException" "java/lang/Throwable" "depth" "I") ∈ lw_all := lw_g (lw_at lw_m5 84 rfl) rfl
theorem q1168 : (Jvm.Cond.lays "java/lang/ArrayIndexOutOfBoundsException" "java/lang/Throwable" "suppressedExceptions" "Ljava/util/List;") ∈ lw_all := lw_g (lw_at lw_m5 85 rfl) rfl
theorem q1169 : (Jvm.Cond.superclass "java/lang/ArrayIndexOutOfBoundsException" "java/lang/IndexOutOfBoundsException") ∈ lw_all := lw_g (lw_at lw_m5 86 rfl) rfl
theorem q1170 : (Jvm.Cond.castable "java/lang/ArrayIndexOutOfBoundsException" "java/lang/ArrayIndexOutOfBoundsException") ∈ lw_tbl := lw_at lw_m5 87 rfl
theorem q1173 : (Jvm.Cond.selects "java/lang/ArrayIndexOutOfBoundsException" ({ cls := "java/lang/Throwable", name := "fillInStackTrace", desc := "(I)Ljava/lang/Throwable;" } : Jvm.MethodName) ({ cls := "java/lang/Throwable", name := "fillInStackTrace", desc := "(I)Ljava/lang/Throwable;" } : Jvm.MethodName)) ∈ lw_all := lw_g (lw_at lw_m5 90 rfl) rfl
theorem q2794 : (Jvm.Cond.castable "java/lang/ArrayIndexOutOfBoundsException" "java/lang/IndexOutOfBoundsException") ∈ lw_tbl := lw_at lw_m12 31 rfl
theorem q2805 : (Jvm.Cond.castable "java/lang/ArrayIndexOutOfBoundsException" "java/lang/Object") ∈ lw_tbl := lw_at lw_m12 42 rfl
theorem in_J20 : ∀ w ∈ wsJ200, w ∈ lw_all := lw_in wsJ200 [1163, 1164, 1165, 1166, 1167, 1168] (by decide +kernel) (by decide +kernel)
def RJ21 : String := "java/util/Objects"
theorem q151 : (Jvm.Cond.initialized "java/util/Objects") ∈ lw_all := lw_g (lw_at lw_m1 28 rfl) rfl
theorem q733 : (Jvm.Cond.static ({ cls := "java/util/Objects", name := "checkIndex", desc := "(II)I" } : Jvm.MethodName)) ∈ lw_all := lw_g (lw_at lw_m3 130 rfl) rfl
theorem q734 : (Jvm.Cond.code ({ cls := "java/util/Objects", name := "checkIndex", desc := "(II)I" } : Jvm.MethodName) prog_51_method_17_code (2 : Nat) (Option.some Jvm.ClassFile.FieldType.int)) ∈ lw_all := lw_g (lw_at lw_m3 131 rfl) rfl
theorem q735 : (Jvm.Cond.methodLink "java/util/Objects" (105 : Nat) ({ cls := "jdk/internal/util/Preconditions", name := "checkIndex", desc := "(IILjava/util/function/BiFunction;)I" } : Jvm.MethodName)) ∈ lw_all := lw_g (lw_at lw_m3 132 rfl) rfl
def RX5 : String := "Rulehearth$DraftException"
def TX5 : u_T := fun k => match k with
  | 0 => ("java/lang/Throwable", "cause", "Ljava/lang/Throwable;", false)
  | 1 => ("java/lang/Throwable", "stackTrace", "[Ljava/lang/StackTraceElement;", false)
  | 2 => ("java/lang/Throwable", "suppressedExceptions", "Ljava/util/List;", false)
  | 3 => ("java/lang/Throwable", "detailMessage", "Ljava/lang/String;", false)
  | 4 => ("java/lang/Throwable", "backtrace", "Ljava/lang/Object;", false)
  | _ => ("java/lang/Throwable", "depth", "I", false)
def tyX5 : Nat → FieldType := fun k => match k with
  | 0 => .object "java/lang/Throwable"
  | 1 => .array (.object "java/lang/StackTraceElement")
  | 2 => .object "java/util/List"
  | 3 => .object "java/lang/String"
  | 4 => .object "java/lang/Object"
  | _ => .int
abbrev wsX50 : List Cond := u_ws RX5 TX5 6
theorem nmX5 : ∀ a, a < 6 → ∀ b, b < 6 → a ≠ b → (TX5 a).2.1 ≠ (TX5 b).2.1 := by decide +kernel
theorem tyX5_ok : ∀ k, k < 6 → parseFieldDescriptor (TX5 k).2.2.1 = some (tyX5 k) := by decide +kernel
theorem q152 : (Jvm.Cond.initialized "Rulehearth$DraftException") ∈ lw_all := lw_g (lw_at lw_m1 29 rfl) rfl
theorem q229 : (Jvm.Cond.selects "Rulehearth$DraftException" ({ cls := "java/lang/Throwable", name := "fillInStackTrace", desc := "()Ljava/lang/Throwable;" } : Jvm.MethodName) ({ cls := "java/lang/Throwable", name := "fillInStackTrace", desc := "()Ljava/lang/Throwable;" } : Jvm.MethodName)) ∈ lw_all := lw_g (lw_at lw_m1 106 rfl) rfl
theorem q657 : (Jvm.Cond.selects "Rulehearth$DraftException" ({ cls := "java/lang/Object", name := "getClass", desc := "()Ljava/lang/Class;" } : Jvm.MethodName) ({ cls := "java/lang/Object", name := "getClass", desc := "()Ljava/lang/Class;" } : Jvm.MethodName)) ∈ lw_all := lw_g (lw_at lw_m3 54 rfl) rfl
theorem q798 : (Jvm.Cond.selects "Rulehearth$DraftException" ({ cls := "java/lang/Object", name := "equals", desc := "(Ljava/lang/Object;)Z" } : Jvm.MethodName) ({ cls := "java/lang/Object", name := "equals", desc := "(Ljava/lang/Object;)Z" } : Jvm.MethodName)) ∈ lw_all := lw_g (lw_at lw_m3 195 rfl) rfl
theorem q1239 : (Jvm.Cond.instantiable "Rulehearth$DraftException" (6 : Nat)) ∈ lw_all := lw_g (lw_at lw_m5 156 rfl) rfl
theorem q1240 : (Jvm.Cond.castable "Rulehearth$DraftException" "Rulehearth$DraftException") ∈ lw_tbl := lw_at lw_m5 157 rfl
theorem q1241 : (Jvm.Cond.selects "Rulehearth$DraftException" ({ cls := "java/lang/Throwable", name := "fillInStackTrace", desc := "(I)Ljava/lang/Throwable;" } : Jvm.MethodName) ({ cls := "java/lang/Throwable", name := "fillInStackTrace", desc := "(I)Ljava/lang/Throwable;" } : Jvm.MethodName)) ∈ lw_all := lw_g (lw_at lw_m5 158 rfl) rfl
theorem q1242 : (Jvm.Cond.lays "Rulehearth$DraftException" "java/lang/Throwable" "cause" "Ljava/lang/Throwable;") ∈ lw_all := lw_g (lw_at lw_m5 159 rfl) rfl
theorem q1243 : (Jvm.Cond.lays "Rulehearth$DraftException" "java/lang/Throwable" "stackTrace" "[Ljava/lang/StackTraceElement;") ∈ lw_all := lw_g (lw_at lw_m5 160 rfl) rfl
theorem q1244 : (Jvm.Cond.lays "Rulehearth$DraftException" "java/lang/Throwable" "suppressedExceptions" "Ljava/util/List;") ∈ lw_all := lw_g (lw_at lw_m5 161 rfl) rfl
theorem q1245 : (Jvm.Cond.lays "Rulehearth$DraftException" "java/lang/Throwable" "detailMessage" "Ljava/lang/String;") ∈ lw_all := lw_g (lw_at lw_m5 162 rfl) rfl
theorem q1246 : (Jvm.Cond.lays "Rulehearth$DraftException" "java/lang/Throwable" "backtrace" "Ljava/lang/Object;") ∈ lw_all := lw_g (lw_at lw_m5 163 rfl) rfl
theorem q1249 : (Jvm.Cond.instanceMethod ({ cls := "Rulehearth$DraftException", name := "<init>", desc := "(Ljava/lang/String;)V" } : Jvm.MethodName)) ∈ lw_all := lw_g (lw_at lw_m5 166 rfl) rfl
theorem q1250 : (Jvm.Cond.code ({ cls := "Rulehearth$DraftException", name := "<init>", desc := "(Ljava/lang/String;)V" } : Jvm.MethodName) prog_6_method_1_code (2 : Nat) (Option.none : Option Jvm.ClassFile.FieldType)) ∈ lw_all := lw_g (lw_at lw_m5 167 rfl) rfl
theorem q1251 : (Jvm.Cond.methodLink "Rulehearth$DraftException" (1 : Nat) ({ cls := "java/lang/Exception", name := "<init>", desc := "(Ljava/lang/String;)V" } : Jvm.MethodName)) ∈ lw_all := lw_g (lw_at lw_m5 168 rfl) rfl
theorem q1252 : (Jvm.Cond.lays "Rulehearth$DraftException" "java/lang/Throwable" "depth" "I") ∈ lw_all := lw_g (lw_at lw_m5 169 rfl) rfl
theorem q1253 : (Jvm.Cond.superclass "Rulehearth$DraftException" "java/lang/Exception") ∈ lw_all := lw_g (lw_at lw_m5 170 rfl) rfl
theorem q2807 : (Jvm.Cond.castable "Rulehearth$DraftException" "java/lang/Object") ∈ lw_tbl := lw_at lw_m12 44 rfl
theorem in_X5 : ∀ w ∈ wsX50, w ∈ lw_all := lw_in wsX50 [1242, 1243, 1244, 1245, 1246, 1252] (by decide +kernel) (by decide +kernel)
def RX6 : String := "Rulehearth$CrowdException"
def TX6 : u_T := fun k => match k with
  | 0 => ("java/lang/Throwable", "cause", "Ljava/lang/Throwable;", false)
  | 1 => ("java/lang/Throwable", "stackTrace", "[Ljava/lang/StackTraceElement;", false)
  | 2 => ("java/lang/Throwable", "suppressedExceptions", "Ljava/util/List;", false)
  | 3 => ("java/lang/Throwable", "detailMessage", "Ljava/lang/String;", false)
  | 4 => ("java/lang/Throwable", "backtrace", "Ljava/lang/Object;", false)
  | _ => ("java/lang/Throwable", "depth", "I", false)
def tyX6 : Nat → FieldType := fun k => match k with
  | 0 => .object "java/lang/Throwable"
  | 1 => .array (.object "java/lang/StackTraceElement")
  | 2 => .object "java/util/List"
  | 3 => .object "java/lang/String"
  | 4 => .object "java/lang/Object"
  | _ => .int
abbrev wsX60 : List Cond := u_ws RX6 TX6 6
theorem nmX6 : ∀ a, a < 6 → ∀ b, b < 6 → a ≠ b → (TX6 a).2.1 ≠ (TX6 b).2.1 := by decide +kernel
theorem tyX6_ok : ∀ k, k < 6 → parseFieldDescriptor (TX6 k).2.2.1 = some (tyX6 k) := by decide +kernel
theorem q153 : (Jvm.Cond.initialized "Rulehearth$CrowdException") ∈ lw_all := lw_g (lw_at lw_m1 30 rfl) rfl
theorem q228 : (Jvm.Cond.selects "Rulehearth$CrowdException" ({ cls := "java/lang/Throwable", name := "fillInStackTrace", desc := "()Ljava/lang/Throwable;" } : Jvm.MethodName) ({ cls := "java/lang/Throwable", name := "fillInStackTrace", desc := "()Ljava/lang/Throwable;" } : Jvm.MethodName)) ∈ lw_all := lw_g (lw_at lw_m1 105 rfl) rfl
theorem q655 : (Jvm.Cond.selects "Rulehearth$CrowdException" ({ cls := "java/lang/Object", name := "getClass", desc := "()Ljava/lang/Class;" } : Jvm.MethodName) ({ cls := "java/lang/Object", name := "getClass", desc := "()Ljava/lang/Class;" } : Jvm.MethodName)) ∈ lw_all := lw_g (lw_at lw_m3 52 rfl) rfl
theorem q796 : (Jvm.Cond.selects "Rulehearth$CrowdException" ({ cls := "java/lang/Object", name := "equals", desc := "(Ljava/lang/Object;)Z" } : Jvm.MethodName) ({ cls := "java/lang/Object", name := "equals", desc := "(Ljava/lang/Object;)Z" } : Jvm.MethodName)) ∈ lw_all := lw_g (lw_at lw_m3 193 rfl) rfl
theorem q1267 : (Jvm.Cond.instantiable "Rulehearth$CrowdException" (6 : Nat)) ∈ lw_all := lw_g (lw_at lw_m5 184 rfl) rfl
theorem q1268 : (Jvm.Cond.castable "Rulehearth$CrowdException" "Rulehearth$CrowdException") ∈ lw_tbl := lw_at lw_m5 185 rfl
theorem q1269 : (Jvm.Cond.selects "Rulehearth$CrowdException" ({ cls := "java/lang/Throwable", name := "fillInStackTrace", desc := "(I)Ljava/lang/Throwable;" } : Jvm.MethodName) ({ cls := "java/lang/Throwable", name := "fillInStackTrace", desc := "(I)Ljava/lang/Throwable;" } : Jvm.MethodName)) ∈ lw_all := lw_g (lw_at lw_m5 186 rfl) rfl
theorem q1270 : (Jvm.Cond.lays "Rulehearth$CrowdException" "java/lang/Throwable" "cause" "Ljava/lang/Throwable;") ∈ lw_all := lw_g (lw_at lw_m5 187 rfl) rfl
theorem q1271 : (Jvm.Cond.lays "Rulehearth$CrowdException" "java/lang/Throwable" "stackTrace" "[Ljava/lang/StackTraceElement;") ∈ lw_all := lw_g (lw_at lw_m5 188 rfl) rfl
theorem q1272 : (Jvm.Cond.lays "Rulehearth$CrowdException" "java/lang/Throwable" "suppressedExceptions" "Ljava/util/List;") ∈ lw_all := lw_g (lw_at lw_m5 189 rfl) rfl
theorem q1273 : (Jvm.Cond.lays "Rulehearth$CrowdException" "java/lang/Throwable" "detailMessage" "Ljava/lang/String;") ∈ lw_all := lw_g (lw_at lw_m5 190 rfl) rfl
theorem q1274 : (Jvm.Cond.lays "Rulehearth$CrowdException" "java/lang/Throwable" "backtrace" "Ljava/lang/Object;") ∈ lw_all := lw_g (lw_at lw_m5 191 rfl) rfl
theorem q1276 : (Jvm.Cond.instanceMethod ({ cls := "Rulehearth$CrowdException", name := "<init>", desc := "()V" } : Jvm.MethodName)) ∈ lw_all := lw_g (lw_at lw_m5 193 rfl) rfl
theorem q1277 : (Jvm.Cond.code ({ cls := "Rulehearth$CrowdException", name := "<init>", desc := "()V" } : Jvm.MethodName) prog_4_method_1_code (1 : Nat) (Option.none : Option Jvm.ClassFile.FieldType)) ∈ lw_all := lw_g (lw_at lw_m5 194 rfl) rfl
theorem q1278 : (Jvm.Cond.methodLink "Rulehearth$CrowdException" (1 : Nat) ({ cls := "java/lang/Exception", name := "<init>", desc := "()V" } : Jvm.MethodName)) ∈ lw_all := lw_g (lw_at lw_m5 195 rfl) rfl
theorem q1279 : (Jvm.Cond.lays "Rulehearth$CrowdException" "java/lang/Throwable" "depth" "I") ∈ lw_all := lw_g (lw_at lw_m5 196 rfl) rfl
theorem q1280 : (Jvm.Cond.superclass "Rulehearth$CrowdException" "java/lang/Exception") ∈ lw_all := lw_g (lw_at lw_m5 197 rfl) rfl
theorem q2808 : (Jvm.Cond.castable "Rulehearth$CrowdException" "java/lang/Object") ∈ lw_tbl := lw_at lw_m12 45 rfl
theorem in_X6 : ∀ w ∈ wsX60, w ∈ lw_all := lw_in wsX60 [1270, 1271, 1272, 1273, 1274, 1279] (by decide +kernel) (by decide +kernel)
def RX7 : String := "Rulehearth$Deriver"
def TX7 : u_T := fun k => match k with
  | 0 => ("Rulehearth$Deriver", "rule", "LRulehearth$Clause;", true)
  | 1 => ("Rulehearth$Deriver", "more", "LRulehearth$Facts;", true)
  | 2 => ("Rulehearth$Deriver", "values", "[I", true)
  | 3 => ("Rulehearth$Deriver", "groups", "LRulehearth$Facts;", true)
  | 4 => ("Rulehearth$Deriver", "group", "LRulehearth$Group;", true)
  | 5 => ("Rulehearth$Deriver", "matcher", "LRulehearth$Matcher;", true)
  | _ => ("Rulehearth$Deriver", "grouped", "LRulehearth$Matcher;", true)
def tyX7 : Nat → FieldType := fun k => match k with
  | 0 => .object "Rulehearth$Clause"
  | 1 => .object "Rulehearth$Facts"
  | 2 => .array .int
  | 3 => .object "Rulehearth$Facts"
  | 4 => .object "Rulehearth$Group"
  | 5 => .object "Rulehearth$Matcher"
  | _ => .object "Rulehearth$Matcher"
abbrev wsX70 : List Cond := u_ws RX7 TX7 7
theorem nmX7 : ∀ a, a < 7 → ∀ b, b < 7 → a ≠ b → (TX7 a).2.1 ≠ (TX7 b).2.1 := by decide +kernel
theorem tyX7_ok : ∀ k, k < 7 → parseFieldDescriptor (TX7 k).2.2.1 = some (tyX7 k) := by decide +kernel
theorem q154 : (Jvm.Cond.initialized "Rulehearth$Deriver") ∈ lw_all := lw_g (lw_at lw_m1 31 rfl) rfl
theorem q529 : (Jvm.Cond.fieldLink "Rulehearth$Deriver" (86 : Nat) "Rulehearth$Facts" "numbers" "[I") ∈ lw_all := lw_g (lw_at lw_m2 166 rfl) rfl
theorem q537 : (Jvm.Cond.fieldLink "Rulehearth$Deriver" (78 : Nat) "Rulehearth$Facts" "count" "I") ∈ lw_all := lw_g (lw_at lw_m2 174 rfl) rfl
theorem q656 : (Jvm.Cond.selects "Rulehearth$Deriver" ({ cls := "java/lang/Object", name := "getClass", desc := "()Ljava/lang/Class;" } : Jvm.MethodName) ({ cls := "java/lang/Object", name := "getClass", desc := "()Ljava/lang/Class;" } : Jvm.MethodName)) ∈ lw_all := lw_g (lw_at lw_m3 53 rfl) rfl
theorem q797 : (Jvm.Cond.selects "Rulehearth$Deriver" ({ cls := "java/lang/Object", name := "equals", desc := "(Ljava/lang/Object;)Z" } : Jvm.MethodName) ({ cls := "java/lang/Object", name := "equals", desc := "(Ljava/lang/Object;)Z" } : Jvm.MethodName)) ∈ lw_all := lw_g (lw_at lw_m3 194 rfl) rfl
theorem q1286 : (Jvm.Cond.instantiable "Rulehearth$Deriver" (7 : Nat)) ∈ lw_all := lw_g (lw_at lw_m5 203 rfl) rfl
theorem q1288 : (Jvm.Cond.instanceMethod ({ cls := "Rulehearth$Deriver", name := "<init>", desc := "(LRulehearth$Clause;LRulehearth$Facts;LRulehearth$Facts;)V" } : Jvm.MethodName)) ∈ lw_all := lw_g (lw_at lw_m5 205 rfl) rfl
theorem q1289 : (Jvm.Cond.code ({ cls := "Rulehearth$Deriver", name := "<init>", desc := "(LRulehearth$Clause;LRulehearth$Facts;LRulehearth$Facts;)V" } : Jvm.MethodName) prog_5_method_1_code (6 : Nat) (Option.none : Option Jvm.ClassFile.FieldType)) ∈ lw_all := lw_g (lw_at lw_m5 206 rfl) rfl
theorem q1290 : (Jvm.Cond.methodLink "Rulehearth$Deriver" (3 : Nat) ({ cls := "java/lang/Object", name := "<init>", desc := "()V" } : Jvm.MethodName)) ∈ lw_all := lw_g (lw_at lw_m5 207 rfl) rfl
theorem q1291 : (Jvm.Cond.methodLinkNest "Rulehearth$Deriver" (9 : Nat) ({ cls := "Rulehearth", name := "unknown", desc := "()[I" } : Jvm.MethodName) "Rulehearth") ∈ lw_tbl := lw_at lw_m5 208 rfl
theorem q1292 : (Jvm.Cond.classLink "Rulehearth$Deriver" (33 : Nat) "Rulehearth$Facts") ∈ lw_all := lw_g (lw_at lw_m5 209 rfl) rfl
theorem q1293 : (Jvm.Cond.methodLinkNest "Rulehearth$Deriver" (35 : Nat) ({ cls := "Rulehearth$Facts", name := "<init>", desc := "()V" } : Jvm.MethodName) "Rulehearth") ∈ lw_tbl := lw_at lw_m5 210 rfl
theorem q1294 : (Jvm.Cond.classLink "Rulehearth$Deriver" (39 : Nat) "Rulehearth$Group") ∈ lw_all := lw_g (lw_at lw_m5 211 rfl) rfl
theorem q1296 : (Jvm.Cond.methodLink "Rulehearth$Deriver" (41 : Nat) ({ cls := "Rulehearth$Group", name := "<init>", desc := "(LRulehearth$Clause;)V" } : Jvm.MethodName)) ∈ lw_all := lw_g (lw_at lw_m5 213 rfl) rfl
theorem q1311 : (Jvm.Cond.privateMethod ({ cls := "Rulehearth$Deriver", name := "lambda$new$0", desc := "(LRulehearth$Clause;[I[I)Z" } : Jvm.MethodName)) ∈ lw_tbl := lw_at lw_m5 228 rfl
theorem q1312 : (Jvm.Cond.instanceMethod ({ cls := "Rulehearth$Deriver", name := "lambda$new$0", desc := "(LRulehearth$Clause;[I[I)Z" } : Jvm.MethodName)) ∈ lw_all := lw_g (lw_at lw_m5 229 rfl) rfl
theorem q1313 : (Jvm.Cond.code ({ cls := "Rulehearth$Deriver", name := "lambda$new$0", desc := "(LRulehearth$Clause;[I[I)Z" } : Jvm.MethodName) prog_5_method_4_code (4 : Nat) (Option.some Jvm.ClassFile.FieldType.boolean)) ∈ lw_all := lw_g (lw_at lw_m5 230 rfl) rfl
theorem q1314 : (Jvm.Cond.methodLink "Rulehearth$Deriver" (107 : Nat) ({ cls := "Rulehearth$Clause", name := "fact", desc := "([II)I" } : Jvm.MethodName)) ∈ lw_all := lw_g (lw_at lw_m5 231 rfl) rfl
theorem q1315 : (Jvm.Cond.methodLink "Rulehearth$Deriver" (97 : Nat) ({ cls := "Rulehearth$Facts", name := "add", desc := "(II)V" } : Jvm.MethodName)) ∈ lw_all := lw_g (lw_at lw_m5 232 rfl) rfl
theorem q1316 : (Jvm.Cond.classLink "Rulehearth$Deriver" (52 : Nat) "Rulehearth$Matcher") ∈ lw_all := lw_g (lw_at lw_m5 233 rfl) rfl
theorem q1317 : (Jvm.Cond.methodLink "Rulehearth$Deriver" (58 : Nat) ({ cls := "java/util/ArrayList", name := "size", desc := "()I" } : Jvm.MethodName)) ∈ lw_all := lw_g (lw_at lw_m5 234 rfl) rfl
theorem q1318 : (Jvm.Cond.methodLink "Rulehearth$Deriver" (64 : Nat) ({ cls := "Rulehearth$Matcher", name := "<init>", desc := "(Ljava/util/ArrayList;ILRulehearth$Facts;[ILRulehearth$Taker;)V" } : Jvm.MethodName)) ∈ lw_all := lw_g (lw_at lw_m5 235 rfl) rfl
theorem q1319 : (Jvm.Cond.fieldLink "Rulehearth$Deriver" (25 : Nat) "Rulehearth$Deriver" "rule" "LRulehearth$Clause;") ∈ lw_all := lw_g (lw_at lw_m5 236 rfl) rfl
theorem q1320 : (Jvm.Cond.fieldLink "Rulehearth$Deriver" (29 : Nat) "Rulehearth$Deriver" "more" "LRulehearth$Facts;") ∈ lw_all := lw_g (lw_at lw_m5 237 rfl) rfl
theorem q1321 : (Jvm.Cond.fieldLink "Rulehearth$Deriver" (13 : Nat) "Rulehearth$Deriver" "values" "[I") ∈ lw_all := lw_g (lw_at lw_m5 238 rfl) rfl
theorem q1322 : (Jvm.Cond.fieldLink "Rulehearth$Deriver" (36 : Nat) "Rulehearth$Deriver" "groups" "LRulehearth$Facts;") ∈ lw_all := lw_g (lw_at lw_m5 239 rfl) rfl
theorem q1323 : (Jvm.Cond.fieldLink "Rulehearth$Deriver" (44 : Nat) "Rulehearth$Deriver" "group" "LRulehearth$Group;") ∈ lw_all := lw_g (lw_at lw_m6 0 rfl) rfl
theorem q1324 : (Jvm.Cond.fieldLink "Rulehearth$Deriver" (67 : Nat) "Rulehearth$Deriver" "matcher" "LRulehearth$Matcher;") ∈ lw_all := lw_g (lw_at lw_m6 1 rfl) rfl
theorem q1325 : (Jvm.Cond.fieldLink "Rulehearth$Deriver" (71 : Nat) "Rulehearth$Deriver" "grouped" "LRulehearth$Matcher;") ∈ lw_all := lw_g (lw_at lw_m6 2 rfl) rfl
theorem q1326 : (Jvm.Cond.laysFinal "Rulehearth$Deriver" "Rulehearth$Deriver" "rule" "LRulehearth$Clause;") ∈ lw_all := lw_g (lw_at lw_m6 3 rfl) rfl
theorem q1327 : (Jvm.Cond.soleField "Rulehearth$Deriver" "rule") ∈ lw_all := lw_g (lw_at lw_m6 4 rfl) rfl
theorem q1328 : (Jvm.Cond.laysFinal "Rulehearth$Deriver" "Rulehearth$Deriver" "more" "LRulehearth$Facts;") ∈ lw_all := lw_g (lw_at lw_m6 5 rfl) rfl
theorem q1329 : (Jvm.Cond.soleField "Rulehearth$Deriver" "more") ∈ lw_all := lw_g (lw_at lw_m6 6 rfl) rfl
theorem q1330 : (Jvm.Cond.laysFinal "Rulehearth$Deriver" "Rulehearth$Deriver" "values" "[I") ∈ lw_all := lw_g (lw_at lw_m6 7 rfl) rfl
theorem q1331 : (Jvm.Cond.soleField "Rulehearth$Deriver" "values") ∈ lw_all := lw_g (lw_at lw_m6 8 rfl) rfl
theorem q1332 : (Jvm.Cond.laysFinal "Rulehearth$Deriver" "Rulehearth$Deriver" "groups" "LRulehearth$Facts;") ∈ lw_all := lw_g (lw_at lw_m6 9 rfl) rfl
theorem q1333 : (Jvm.Cond.soleField "Rulehearth$Deriver" "groups") ∈ lw_all := lw_g (lw_at lw_m6 10 rfl) rfl
theorem q1334 : (Jvm.Cond.laysFinal "Rulehearth$Deriver" "Rulehearth$Deriver" "group" "LRulehearth$Group;") ∈ lw_all := lw_g (lw_at lw_m6 11 rfl) rfl
theorem q1335 : (Jvm.Cond.soleField "Rulehearth$Deriver" "group") ∈ lw_all := lw_g (lw_at lw_m6 12 rfl) rfl
theorem q1336 : (Jvm.Cond.laysFinal "Rulehearth$Deriver" "Rulehearth$Deriver" "matcher" "LRulehearth$Matcher;") ∈ lw_all := lw_g (lw_at lw_m6 13 rfl) rfl
theorem q1337 : (Jvm.Cond.soleField "Rulehearth$Deriver" "matcher") ∈ lw_all := lw_g (lw_at lw_m6 14 rfl) rfl
theorem q1338 : (Jvm.Cond.laysFinal "Rulehearth$Deriver" "Rulehearth$Deriver" "grouped" "LRulehearth$Matcher;") ∈ lw_all := lw_g (lw_at lw_m6 15 rfl) rfl
theorem q1339 : (Jvm.Cond.soleField "Rulehearth$Deriver" "grouped") ∈ lw_all := lw_g (lw_at lw_m6 16 rfl) rfl
theorem q1340 : (Jvm.Cond.superclass "Rulehearth$Deriver" "java/lang/Object") ∈ lw_all := lw_g (lw_at lw_m6 17 rfl) rfl
theorem q1342 : (Jvm.Cond.instanceMethod ({ cls := "Rulehearth$Deriver", name := "deriveAll", desc := "()V" } : Jvm.MethodName)) ∈ lw_all := lw_g (lw_at lw_m6 19 rfl) rfl
theorem q1343 : (Jvm.Cond.selects "Rulehearth$Deriver" ({ cls := "Rulehearth$Deriver", name := "deriveAll", desc := "()V" } : Jvm.MethodName) ({ cls := "Rulehearth$Deriver", name := "deriveAll", desc := "()V" } : Jvm.MethodName)) ∈ lw_all := lw_g (lw_at lw_m6 20 rfl) rfl
theorem q1344 : (Jvm.Cond.code ({ cls := "Rulehearth$Deriver", name := "deriveAll", desc := "()V" } : Jvm.MethodName) prog_5_method_2_code (2 : Nat) (Option.none : Option Jvm.ClassFile.FieldType)) ∈ lw_all := lw_g (lw_at lw_m6 21 rfl) rfl
theorem q1345 : (Jvm.Cond.methodLink "Rulehearth$Deriver" (74 : Nat) ({ cls := "Rulehearth$Matcher", name := "run", desc := "(II)V" } : Jvm.MethodName)) ∈ lw_all := lw_g (lw_at lw_m6 22 rfl) rfl
theorem q1350 : (Jvm.Cond.methodLink "Rulehearth$Deriver" (81 : Nat) ({ cls := "Rulehearth$Matcher", name := "run", desc := "()V" } : Jvm.MethodName)) ∈ lw_all := lw_g (lw_at lw_m6 27 rfl) rfl
theorem q1351 : (Jvm.Cond.methodLink "Rulehearth$Deriver" (83 : Nat) ({ cls := "Rulehearth$Group", name := "clear", desc := "()V" } : Jvm.MethodName)) ∈ lw_all := lw_g (lw_at lw_m6 28 rfl) rfl
theorem q1357 : (Jvm.Cond.methodLink "Rulehearth$Deriver" (89 : Nat) ({ cls := "Rulehearth$Clause", name := "binds", desc := "(I[I)Z" } : Jvm.MethodName)) ∈ lw_all := lw_g (lw_at lw_m6 34 rfl) rfl
theorem q1364 : (Jvm.Cond.methodLink "Rulehearth$Deriver" (93 : Nat) ({ cls := "Rulehearth$Group", name := "fact", desc := "(I)I" } : Jvm.MethodName)) ∈ lw_all := lw_g (lw_at lw_m6 41 rfl) rfl
theorem q1378 : (Jvm.Cond.methodLinkNest "Rulehearth$Deriver" (100 : Nat) ({ cls := "Rulehearth", name := "forget", desc := "([I)V" } : Jvm.MethodName) "Rulehearth") ∈ lw_tbl := lw_at lw_m6 55 rfl
theorem q1380 : (Jvm.Cond.instanceMethod ({ cls := "Rulehearth$Deriver", name := "deriveNew", desc := "(I)V" } : Jvm.MethodName)) ∈ lw_all := lw_g (lw_at lw_m6 57 rfl) rfl
theorem q1381 : (Jvm.Cond.selects "Rulehearth$Deriver" ({ cls := "Rulehearth$Deriver", name := "deriveNew", desc := "(I)V" } : Jvm.MethodName) ({ cls := "Rulehearth$Deriver", name := "deriveNew", desc := "(I)V" } : Jvm.MethodName)) ∈ lw_all := lw_g (lw_at lw_m6 58 rfl) rfl
theorem q1382 : (Jvm.Cond.code ({ cls := "Rulehearth$Deriver", name := "deriveNew", desc := "(I)V" } : Jvm.MethodName) prog_5_method_3_code (3 : Nat) (Option.none : Option Jvm.ClassFile.FieldType)) ∈ lw_all := lw_g (lw_at lw_m6 59 rfl) rfl
theorem q1383 : (Jvm.Cond.methodLink "Rulehearth$Deriver" (104 : Nat) ({ cls := "Rulehearth$Clause", name := "atoms", desc := "()I" } : Jvm.MethodName)) ∈ lw_all := lw_g (lw_at lw_m6 60 rfl) rfl
theorem q1515 : (Jvm.Cond.fieldLink "Rulehearth$Deriver" (19 : Nat) "Rulehearth$Clause" "gathered" "I") ∈ lw_all := lw_g (lw_at lw_m6 192 rfl) rfl
theorem q1524 : (Jvm.Cond.fieldLink "Rulehearth$Deriver" (54 : Nat) "Rulehearth$Clause" "body" "Ljava/util/ArrayList;") ∈ lw_all := lw_g (lw_at lw_m6 201 rfl) rfl
theorem q2809 : (Jvm.Cond.castable "Rulehearth$Deriver" "java/lang/Object") ∈ lw_tbl := lw_at lw_m12 46 rfl
theorem in_X7 : ∀ w ∈ wsX70, w ∈ lw_all := lw_in wsX70 [1326, 1328, 1330, 1332, 1334, 1336, 1338] (by decide +kernel) (by decide +kernel)
def RX8 : String := "Rulehearth$Group"
def TX8 : u_T := fun k => match k with
  | 0 => ("Rulehearth$Group", "rule", "LRulehearth$Clause;", true)
  | 1 => ("Rulehearth$Group", "has", "[Z", true)
  | _ => ("Rulehearth$Group", "matches", "I", false)
def tyX8 : Nat → FieldType := fun k => match k with
  | 0 => .object "Rulehearth$Clause"
  | 1 => .array .boolean
  | _ => .int
abbrev wsX80 : List Cond := u_ws RX8 TX8 3
theorem nmX8 : ∀ a, a < 3 → ∀ b, b < 3 → a ≠ b → (TX8 a).2.1 ≠ (TX8 b).2.1 := by decide +kernel
theorem tyX8_ok : ∀ k, k < 3 → parseFieldDescriptor (TX8 k).2.2.1 = some (tyX8 k) := by decide +kernel
theorem q155 : (Jvm.Cond.initialized "Rulehearth$Group") ∈ lw_all := lw_g (lw_at lw_m1 32 rfl) rfl
theorem q661 : (Jvm.Cond.selects "Rulehearth$Group" ({ cls := "java/lang/Object", name := "getClass", desc := "()Ljava/lang/Class;" } : Jvm.MethodName) ({ cls := "java/lang/Object", name := "getClass", desc := "()Ljava/lang/Class;" } : Jvm.MethodName)) ∈ lw_all := lw_g (lw_at lw_m3 58 rfl) rfl
theorem q802 : (Jvm.Cond.selects "Rulehearth$Group" ({ cls := "java/lang/Object", name := "equals", desc := "(Ljava/lang/Object;)Z" } : Jvm.MethodName) ({ cls := "java/lang/Object", name := "equals", desc := "(Ljava/lang/Object;)Z" } : Jvm.MethodName)) ∈ lw_all := lw_g (lw_at lw_m3 199 rfl) rfl
theorem q1005 : (Jvm.Cond.castable "Rulehearth$Group" "Rulehearth$Taker") ∈ lw_tbl := lw_at lw_m4 162 rfl
theorem q1006 : (Jvm.Cond.selects "Rulehearth$Group" ({ cls := "Rulehearth$Taker", name := "take", desc := "([I[I)Z" } : Jvm.MethodName) ({ cls := "Rulehearth$Group", name := "take", desc := "([I[I)Z" } : Jvm.MethodName)) ∈ lw_all := lw_g (lw_at lw_m4 163 rfl) rfl
theorem q1007 : (Jvm.Cond.unhidden "Rulehearth$Group" "take" "([I[I)Z") ∈ lw_tbl := lw_at lw_m4 164 rfl
theorem q1008 : (Jvm.Cond.instanceMethod ({ cls := "Rulehearth$Group", name := "take", desc := "([I[I)Z" } : Jvm.MethodName)) ∈ lw_all := lw_g (lw_at lw_m4 165 rfl) rfl
theorem q1009 : (Jvm.Cond.publicMethod ({ cls := "Rulehearth$Group", name := "take", desc := "([I[I)Z" } : Jvm.MethodName)) ∈ lw_tbl := lw_at lw_m4 166 rfl
theorem q1010 : (Jvm.Cond.code ({ cls := "Rulehearth$Group", name := "take", desc := "([I[I)Z" } : Jvm.MethodName) prog_10_method_3_code (3 : Nat) (Option.some Jvm.ClassFile.FieldType.boolean)) ∈ lw_all := lw_g (lw_at lw_m4 167 rfl) rfl
theorem q1011 : (Jvm.Cond.methodLinkNest "Rulehearth$Group" (38 : Nat) ({ cls := "Rulehearth", name := "valueOf", desc := "(I[I)I" } : Jvm.MethodName) "Rulehearth") ∈ lw_tbl := lw_at lw_m4 168 rfl
theorem q1295 : (Jvm.Cond.instantiable "Rulehearth$Group" (3 : Nat)) ∈ lw_all := lw_g (lw_at lw_m5 212 rfl) rfl
theorem q1297 : (Jvm.Cond.instanceMethod ({ cls := "Rulehearth$Group", name := "<init>", desc := "(LRulehearth$Clause;)V" } : Jvm.MethodName)) ∈ lw_all := lw_g (lw_at lw_m5 214 rfl) rfl
theorem q1298 : (Jvm.Cond.code ({ cls := "Rulehearth$Group", name := "<init>", desc := "(LRulehearth$Clause;)V" } : Jvm.MethodName) prog_10_method_1_code (2 : Nat) (Option.none : Option Jvm.ClassFile.FieldType)) ∈ lw_all := lw_g (lw_at lw_m5 215 rfl) rfl
theorem q1299 : (Jvm.Cond.methodLink "Rulehearth$Group" (3 : Nat) ({ cls := "java/lang/Object", name := "<init>", desc := "()V" } : Jvm.MethodName)) ∈ lw_all := lw_g (lw_at lw_m5 216 rfl) rfl
theorem q1300 : (Jvm.Cond.fieldLink "Rulehearth$Group" (15 : Nat) "Rulehearth$Group" "rule" "LRulehearth$Clause;") ∈ lw_all := lw_g (lw_at lw_m5 217 rfl) rfl
theorem q1301 : (Jvm.Cond.fieldLink "Rulehearth$Group" (9 : Nat) "Rulehearth$Group" "has" "[Z") ∈ lw_all := lw_g (lw_at lw_m5 218 rfl) rfl
theorem q1302 : (Jvm.Cond.fieldLink "Rulehearth$Group" (19 : Nat) "Rulehearth$Group" "matches" "I") ∈ lw_all := lw_g (lw_at lw_m5 219 rfl) rfl
theorem q1303 : (Jvm.Cond.laysFinal "Rulehearth$Group" "Rulehearth$Group" "rule" "LRulehearth$Clause;") ∈ lw_all := lw_g (lw_at lw_m5 220 rfl) rfl
theorem q1304 : (Jvm.Cond.soleField "Rulehearth$Group" "rule") ∈ lw_all := lw_g (lw_at lw_m5 221 rfl) rfl
theorem q1305 : (Jvm.Cond.laysFinal "Rulehearth$Group" "Rulehearth$Group" "has" "[Z") ∈ lw_all := lw_g (lw_at lw_m5 222 rfl) rfl
theorem q1306 : (Jvm.Cond.soleField "Rulehearth$Group" "has") ∈ lw_all := lw_g (lw_at lw_m5 223 rfl) rfl
theorem q1307 : (Jvm.Cond.lays "Rulehearth$Group" "Rulehearth$Group" "matches" "I") ∈ lw_all := lw_g (lw_at lw_m5 224 rfl) rfl
theorem q1308 : (Jvm.Cond.soleField "Rulehearth$Group" "matches") ∈ lw_all := lw_g (lw_at lw_m5 225 rfl) rfl
theorem q1309 : (Jvm.Cond.superclass "Rulehearth$Group" "java/lang/Object") ∈ lw_all := lw_g (lw_at lw_m5 226 rfl) rfl
theorem q1352 : (Jvm.Cond.instanceMethod ({ cls := "Rulehearth$Group", name := "clear", desc := "()V" } : Jvm.MethodName)) ∈ lw_all := lw_g (lw_at lw_m6 29 rfl) rfl
theorem q1353 : (Jvm.Cond.selects "Rulehearth$Group" ({ cls := "Rulehearth$Group", name := "clear", desc := "()V" } : Jvm.MethodName) ({ cls := "Rulehearth$Group", name := "clear", desc := "()V" } : Jvm.MethodName)) ∈ lw_all := lw_g (lw_at lw_m6 30 rfl) rfl
theorem q1354 : (Jvm.Cond.sameMethod "Rulehearth$Group" "Rulehearth$Group" "clear" "()V") ∈ lw_all := lw_g (lw_at lw_m6 31 rfl) rfl
theorem q1356 : (Jvm.Cond.code ({ cls := "Rulehearth$Group", name := "clear", desc := "()V" } : Jvm.MethodName) prog_10_method_2_code (2 : Nat) (Option.none : Option Jvm.ClassFile.FieldType)) ∈ lw_all := lw_g (lw_at lw_m6 33 rfl) rfl
theorem q1365 : (Jvm.Cond.instanceMethod ({ cls := "Rulehearth$Group", name := "fact", desc := "(I)I" } : Jvm.MethodName)) ∈ lw_all := lw_g (lw_at lw_m6 42 rfl) rfl
theorem q1366 : (Jvm.Cond.selects "Rulehearth$Group" ({ cls := "Rulehearth$Group", name := "fact", desc := "(I)I" } : Jvm.MethodName) ({ cls := "Rulehearth$Group", name := "fact", desc := "(I)I" } : Jvm.MethodName)) ∈ lw_all := lw_g (lw_at lw_m6 43 rfl) rfl
theorem q1367 : (Jvm.Cond.sameMethod "Rulehearth$Group" "Rulehearth$Group" "fact" "(I)I") ∈ lw_all := lw_g (lw_at lw_m6 44 rfl) rfl
theorem q1369 : (Jvm.Cond.code ({ cls := "Rulehearth$Group", name := "fact", desc := "(I)I" } : Jvm.MethodName) prog_10_method_5_code (3 : Nat) (Option.some Jvm.ClassFile.FieldType.int)) ∈ lw_all := lw_g (lw_at lw_m6 46 rfl) rfl
theorem q1370 : (Jvm.Cond.methodLinkNest "Rulehearth$Group" (51 : Nat) ({ cls := "Rulehearth", name := "slotOf", desc := "(II)I" } : Jvm.MethodName) "Rulehearth") ∈ lw_tbl := lw_at lw_m6 47 rfl
theorem q1371 : (Jvm.Cond.methodLink "Rulehearth$Group" (54 : Nat) ({ cls := "Rulehearth$Group", name := "value", desc := "()I" } : Jvm.MethodName)) ∈ lw_all := lw_g (lw_at lw_m6 48 rfl) rfl
theorem q1372 : (Jvm.Cond.instanceMethod ({ cls := "Rulehearth$Group", name := "value", desc := "()I" } : Jvm.MethodName)) ∈ lw_all := lw_g (lw_at lw_m6 49 rfl) rfl
theorem q1373 : (Jvm.Cond.selects "Rulehearth$Group" ({ cls := "Rulehearth$Group", name := "value", desc := "()I" } : Jvm.MethodName) ({ cls := "Rulehearth$Group", name := "value", desc := "()I" } : Jvm.MethodName)) ∈ lw_all := lw_g (lw_at lw_m6 50 rfl) rfl
theorem q1374 : (Jvm.Cond.sameMethod "Rulehearth$Group" "Rulehearth$Group" "value" "()I") ∈ lw_all := lw_g (lw_at lw_m6 51 rfl) rfl
theorem q1376 : (Jvm.Cond.code ({ cls := "Rulehearth$Group", name := "value", desc := "()I" } : Jvm.MethodName) prog_10_method_4_code (6 : Nat) (Option.some Jvm.ClassFile.FieldType.int)) ∈ lw_all := lw_g (lw_at lw_m6 53 rfl) rfl
theorem q1377 : (Jvm.Cond.methodLink "Rulehearth$Group" (45 : Nat) ({ cls := "java/lang/Math", name := "min", desc := "(II)I" } : Jvm.MethodName)) ∈ lw_all := lw_g (lw_at lw_m6 54 rfl) rfl
theorem q1486 : (Jvm.Cond.fieldLink "Rulehearth$Group" (29 : Nat) "Rulehearth$Item" "terms" "[I") ∈ lw_all := lw_g (lw_at lw_m6 163 rfl) rfl
theorem q1511 : (Jvm.Cond.fieldLink "Rulehearth$Group" (23 : Nat) "Rulehearth$Clause" "head" "LRulehearth$Item;") ∈ lw_all := lw_g (lw_at lw_m6 188 rfl) rfl
theorem q1517 : (Jvm.Cond.fieldLink "Rulehearth$Group" (35 : Nat) "Rulehearth$Clause" "gathered" "I") ∈ lw_all := lw_g (lw_at lw_m6 194 rfl) rfl
theorem q1521 : (Jvm.Cond.fieldLink "Rulehearth$Group" (42 : Nat) "Rulehearth$Clause" "gathering" "I") ∈ lw_all := lw_g (lw_at lw_m6 198 rfl) rfl
theorem q1758 : (Jvm.Cond.declares ({ cls := "Rulehearth$Group", name := "clear", desc := "()V" } : Jvm.MethodName)) ∈ lw_tbl := lw_at lw_m7 195 rfl
theorem q1764 : (Jvm.Cond.declares ({ cls := "Rulehearth$Group", name := "gives", desc := "(I)Z" } : Jvm.MethodName)) ∈ lw_tbl := lw_at lw_m7 201 rfl
theorem q1766 : (Jvm.Cond.instanceMethod ({ cls := "Rulehearth$Group", name := "gives", desc := "(I)Z" } : Jvm.MethodName)) ∈ lw_all := lw_g (lw_at lw_m7 203 rfl) rfl
theorem q1767 : (Jvm.Cond.code ({ cls := "Rulehearth$Group", name := "gives", desc := "(I)Z" } : Jvm.MethodName) prog_10_method_6_code (2 : Nat) (Option.some Jvm.ClassFile.FieldType.boolean)) ∈ lw_all := lw_g (lw_at lw_m7 204 rfl) rfl
theorem q1768 : (Jvm.Cond.methodLink "Rulehearth$Group" (58 : Nat) ({ cls := "Rulehearth$Group", name := "fact", desc := "(I)I" } : Jvm.MethodName)) ∈ lw_all := lw_g (lw_at lw_m7 205 rfl) rfl
theorem q2792 : (Jvm.Cond.sameMethod "Rulehearth$Group" "Rulehearth$Group" "take" "([I[I)Z") ∈ lw_all := lw_g (lw_at lw_m12 29 rfl) rfl
theorem q2810 : (Jvm.Cond.castable "Rulehearth$Group" "java/lang/Object") ∈ lw_tbl := lw_at lw_m12 47 rfl
theorem in_X8 : ∀ w ∈ wsX80, w ∈ lw_all := lw_in wsX80 [1303, 1305, 1307] (by decide +kernel) (by decide +kernel)
def RX9 : String := "Rulehearth$Matcher"
def TX9 : u_T := fun k => match k with
  | 0 => ("Rulehearth$Matcher", "items", "Ljava/util/ArrayList;", true)
  | 1 => ("Rulehearth$Matcher", "length", "I", true)
  | 2 => ("Rulehearth$Matcher", "standing", "LRulehearth$Facts;", true)
  | 3 => ("Rulehearth$Matcher", "taker", "LRulehearth$Taker;", true)
  | 4 => ("Rulehearth$Matcher", "values", "[I", true)
  | 5 => ("Rulehearth$Matcher", "facts", "[I", true)
  | 6 => ("Rulehearth$Matcher", "newest", "I", false)
  | 7 => ("Rulehearth$Matcher", "round", "I", false)
  | 8 => ("Rulehearth$Matcher", "isOver", "Z", false)
  | _ => ("Rulehearth$Matcher", "reached", "I", false)
def tyX9 : Nat → FieldType := fun k => match k with
  | 0 => .object "java/util/ArrayList"
  | 1 => .int
  | 2 => .object "Rulehearth$Facts"
  | 3 => .object "Rulehearth$Taker"
  | 4 => .array .int
  | 5 => .array .int
  | 6 => .int
  | 7 => .int
  | 8 => .boolean
  | _ => .int
abbrev wsX90 : List Cond := u_ws RX9 TX9 10
theorem nmX9 : ∀ a, a < 10 → ∀ b, b < 10 → a ≠ b → (TX9 a).2.1 ≠ (TX9 b).2.1 := by decide +kernel
theorem tyX9_ok : ∀ k, k < 10 → parseFieldDescriptor (TX9 k).2.2.1 = some (tyX9 k) := by decide +kernel
theorem q156 : (Jvm.Cond.initialized "Rulehearth$Matcher") ∈ lw_all := lw_g (lw_at lw_m1 33 rfl) rfl
theorem q531 : (Jvm.Cond.fieldLink "Rulehearth$Matcher" (124 : Nat) "Rulehearth$Facts" "numbers" "[I") ∈ lw_all := lw_g (lw_at lw_m2 168 rfl) rfl
theorem q535 : (Jvm.Cond.fieldLink "Rulehearth$Matcher" (108 : Nat) "Rulehearth$Facts" "rounds" "[I") ∈ lw_all := lw_g (lw_at lw_m2 172 rfl) rfl
theorem q663 : (Jvm.Cond.selects "Rulehearth$Matcher" ({ cls := "java/lang/Object", name := "getClass", desc := "()Ljava/lang/Class;" } : Jvm.MethodName) ({ cls := "java/lang/Object", name := "getClass", desc := "()Ljava/lang/Class;" } : Jvm.MethodName)) ∈ lw_all := lw_g (lw_at lw_m3 60 rfl) rfl
theorem q804 : (Jvm.Cond.selects "Rulehearth$Matcher" ({ cls := "java/lang/Object", name := "equals", desc := "(Ljava/lang/Object;)Z" } : Jvm.MethodName) ({ cls := "java/lang/Object", name := "equals", desc := "(Ljava/lang/Object;)Z" } : Jvm.MethodName)) ∈ lw_all := lw_g (lw_at lw_m3 201 rfl) rfl
theorem q882 : (Jvm.Cond.instantiable "Rulehearth$Matcher" (10 : Nat)) ∈ lw_all := lw_g (lw_at lw_m4 39 rfl) rfl
theorem q885 : (Jvm.Cond.instanceMethod ({ cls := "Rulehearth$Matcher", name := "<init>", desc := "(Ljava/util/ArrayList;ILRulehearth$Facts;[ILRulehearth$Taker;)V" } : Jvm.MethodName)) ∈ lw_all := lw_g (lw_at lw_m4 42 rfl) rfl
theorem q886 : (Jvm.Cond.code ({ cls := "Rulehearth$Matcher", name := "<init>", desc := "(Ljava/util/ArrayList;ILRulehearth$Facts;[ILRulehearth$Taker;)V" } : Jvm.MethodName) prog_12_method_1_code (6 : Nat) (Option.none : Option Jvm.ClassFile.FieldType)) ∈ lw_all := lw_g (lw_at lw_m4 43 rfl) rfl
theorem q887 : (Jvm.Cond.methodLink "Rulehearth$Matcher" (3 : Nat) ({ cls := "java/lang/Object", name := "<init>", desc := "()V" } : Jvm.MethodName)) ∈ lw_all := lw_g (lw_at lw_m4 44 rfl) rfl
theorem q888 : (Jvm.Cond.fieldLink "Rulehearth$Matcher" (19 : Nat) "Rulehearth$Matcher" "items" "Ljava/util/ArrayList;") ∈ lw_all := lw_g (lw_at lw_m4 45 rfl) rfl
theorem q889 : (Jvm.Cond.fieldLink "Rulehearth$Matcher" (23 : Nat) "Rulehearth$Matcher" "length" "I") ∈ lw_all := lw_g (lw_at lw_m4 46 rfl) rfl
theorem q890 : (Jvm.Cond.fieldLink "Rulehearth$Matcher" (26 : Nat) "Rulehearth$Matcher" "standing" "LRulehearth$Facts;") ∈ lw_all := lw_g (lw_at lw_m4 47 rfl) rfl
theorem q891 : (Jvm.Cond.fieldLink "Rulehearth$Matcher" (33 : Nat) "Rulehearth$Matcher" "taker" "LRulehearth$Taker;") ∈ lw_all := lw_g (lw_at lw_m4 48 rfl) rfl
theorem q892 : (Jvm.Cond.fieldLink "Rulehearth$Matcher" (30 : Nat) "Rulehearth$Matcher" "values" "[I") ∈ lw_all := lw_g (lw_at lw_m4 49 rfl) rfl
theorem q893 : (Jvm.Cond.fieldLink "Rulehearth$Matcher" (9 : Nat) "Rulehearth$Matcher" "facts" "[I") ∈ lw_all := lw_g (lw_at lw_m4 50 rfl) rfl
theorem q894 : (Jvm.Cond.fieldLink "Rulehearth$Matcher" (15 : Nat) "Rulehearth$Matcher" "newest" "I") ∈ lw_all := lw_g (lw_at lw_m4 51 rfl) rfl
theorem q895 : (Jvm.Cond.fieldLink "Rulehearth$Matcher" (45 : Nat) "Rulehearth$Matcher" "round" "I") ∈ lw_all := lw_g (lw_at lw_m4 52 rfl) rfl
theorem q896 : (Jvm.Cond.fieldLink "Rulehearth$Matcher" (37 : Nat) "Rulehearth$Matcher" "isOver" "Z") ∈ lw_all := lw_g (lw_at lw_m4 53 rfl) rfl
theorem q897 : (Jvm.Cond.fieldLink "Rulehearth$Matcher" (51 : Nat) "Rulehearth$Matcher" "reached" "I") ∈ lw_all := lw_g (lw_at lw_m4 54 rfl) rfl
theorem q899 : (Jvm.Cond.laysFinal "Rulehearth$Matcher" "Rulehearth$Matcher" "items" "Ljava/util/ArrayList;") ∈ lw_all := lw_g (lw_at lw_m4 56 rfl) rfl
theorem q900 : (Jvm.Cond.soleField "Rulehearth$Matcher" "items") ∈ lw_all := lw_g (lw_at lw_m4 57 rfl) rfl
theorem q901 : (Jvm.Cond.laysFinal "Rulehearth$Matcher" "Rulehearth$Matcher" "length" "I") ∈ lw_all := lw_g (lw_at lw_m4 58 rfl) rfl
theorem q902 : (Jvm.Cond.soleField "Rulehearth$Matcher" "length") ∈ lw_all := lw_g (lw_at lw_m4 59 rfl) rfl
theorem q903 : (Jvm.Cond.laysFinal "Rulehearth$Matcher" "Rulehearth$Matcher" "standing" "LRulehearth$Facts;") ∈ lw_all := lw_g (lw_at lw_m4 60 rfl) rfl
theorem q904 : (Jvm.Cond.soleField "Rulehearth$Matcher" "standing") ∈ lw_all := lw_g (lw_at lw_m4 61 rfl) rfl
theorem q905 : (Jvm.Cond.laysFinal "Rulehearth$Matcher" "Rulehearth$Matcher" "taker" "LRulehearth$Taker;") ∈ lw_all := lw_g (lw_at lw_m4 62 rfl) rfl
theorem q906 : (Jvm.Cond.soleField "Rulehearth$Matcher" "taker") ∈ lw_all := lw_g (lw_at lw_m4 63 rfl) rfl
theorem q907 : (Jvm.Cond.laysFinal "Rulehearth$Matcher" "Rulehearth$Matcher" "values" "[I") ∈ lw_all := lw_g (lw_at lw_m4 64 rfl) rfl
theorem q908 : (Jvm.Cond.soleField "Rulehearth$Matcher" "values") ∈ lw_all := lw_g (lw_at lw_m4 65 rfl) rfl
theorem q909 : (Jvm.Cond.laysFinal "Rulehearth$Matcher" "Rulehearth$Matcher" "facts" "[I") ∈ lw_all := lw_g (lw_at lw_m4 66 rfl) rfl
theorem q910 : (Jvm.Cond.soleField "Rulehearth$Matcher" "facts") ∈ lw_all := lw_g (lw_at lw_m4 67 rfl) rfl
theorem q911 : (Jvm.Cond.lays "Rulehearth$Matcher" "Rulehearth$Matcher" "newest" "I") ∈ lw_all := lw_g (lw_at lw_m4 68 rfl) rfl
theorem q912 : (Jvm.Cond.soleField "Rulehearth$Matcher" "newest") ∈ lw_all := lw_g (lw_at lw_m4 69 rfl) rfl
theorem q913 : (Jvm.Cond.lays "Rulehearth$Matcher" "Rulehearth$Matcher" "round" "I") ∈ lw_all := lw_g (lw_at lw_m4 70 rfl) rfl
theorem q914 : (Jvm.Cond.soleField "Rulehearth$Matcher" "round") ∈ lw_all := lw_g (lw_at lw_m4 71 rfl) rfl
theorem q915 : (Jvm.Cond.lays "Rulehearth$Matcher" "Rulehearth$Matcher" "isOver" "Z") ∈ lw_all := lw_g (lw_at lw_m4 72 rfl) rfl
theorem q916 : (Jvm.Cond.soleField "Rulehearth$Matcher" "isOver") ∈ lw_all := lw_g (lw_at lw_m4 73 rfl) rfl
theorem q917 : (Jvm.Cond.lays "Rulehearth$Matcher" "Rulehearth$Matcher" "reached" "I") ∈ lw_all := lw_g (lw_at lw_m4 74 rfl) rfl
theorem q918 : (Jvm.Cond.soleField "Rulehearth$Matcher" "reached") ∈ lw_all := lw_g (lw_at lw_m4 75 rfl) rfl
theorem q919 : (Jvm.Cond.superclass "Rulehearth$Matcher" "java/lang/Object") ∈ lw_all := lw_g (lw_at lw_m4 76 rfl) rfl
theorem q925 : (Jvm.Cond.instanceMethod ({ cls := "Rulehearth$Matcher", name := "run", desc := "()V" } : Jvm.MethodName)) ∈ lw_all := lw_g (lw_at lw_m4 82 rfl) rfl
theorem q926 : (Jvm.Cond.selects "Rulehearth$Matcher" ({ cls := "Rulehearth$Matcher", name := "run", desc := "()V" } : Jvm.MethodName) ({ cls := "Rulehearth$Matcher", name := "run", desc := "()V" } : Jvm.MethodName)) ∈ lw_all := lw_g (lw_at lw_m4 83 rfl) rfl
theorem q927 : (Jvm.Cond.code ({ cls := "Rulehearth$Matcher", name := "run", desc := "()V" } : Jvm.MethodName) prog_12_method_2_code (1 : Nat) (Option.none : Option Jvm.ClassFile.FieldType)) ∈ lw_all := lw_g (lw_at lw_m4 84 rfl) rfl
theorem q928 : (Jvm.Cond.methodLink "Rulehearth$Matcher" (41 : Nat) ({ cls := "Rulehearth$Matcher", name := "go", desc := "(II)V" } : Jvm.MethodName)) ∈ lw_all := lw_g (lw_at lw_m4 85 rfl) rfl
theorem q929 : (Jvm.Cond.privateMethod ({ cls := "Rulehearth$Matcher", name := "go", desc := "(II)V" } : Jvm.MethodName)) ∈ lw_tbl := lw_at lw_m4 86 rfl
theorem q930 : (Jvm.Cond.instanceMethod ({ cls := "Rulehearth$Matcher", name := "go", desc := "(II)V" } : Jvm.MethodName)) ∈ lw_all := lw_g (lw_at lw_m4 87 rfl) rfl
theorem q931 : (Jvm.Cond.code ({ cls := "Rulehearth$Matcher", name := "go", desc := "(II)V" } : Jvm.MethodName) prog_12_method_4_code (4 : Nat) (Option.none : Option Jvm.ClassFile.FieldType)) ∈ lw_all := lw_g (lw_at lw_m4 88 rfl) rfl
theorem q932 : (Jvm.Cond.methodLink "Rulehearth$Matcher" (54 : Nat) ({ cls := "java/lang/Math", name := "max", desc := "(II)I" } : Jvm.MethodName)) ∈ lw_all := lw_g (lw_at lw_m4 89 rfl) rfl
theorem q933 : (Jvm.Cond.interfaceEntry "Rulehearth$Matcher" (60 : Nat)) ∈ lw_tbl := lw_at lw_m4 90 rfl
theorem q934 : (Jvm.Cond.methodLink "Rulehearth$Matcher" (60 : Nat) ({ cls := "Rulehearth$Taker", name := "take", desc := "([I[I)Z" } : Jvm.MethodName)) ∈ lw_all := lw_g (lw_at lw_m4 91 rfl) rfl
theorem q1025 : (Jvm.Cond.methodLink "Rulehearth$Matcher" (66 : Nat) ({ cls := "java/util/ArrayList", name := "get", desc := "(I)Ljava/lang/Object;" } : Jvm.MethodName)) ∈ lw_all := lw_g (lw_at lw_m4 182 rfl) rfl
theorem q1026 : (Jvm.Cond.classLink "Rulehearth$Matcher" (72 : Nat) "Rulehearth$Item") ∈ lw_all := lw_g (lw_at lw_m4 183 rfl) rfl
theorem q1027 : (Jvm.Cond.methodLink "Rulehearth$Matcher" (77 : Nat) ({ cls := "Rulehearth$Matcher", name := "goAtom", desc := "(LRulehearth$Item;II)V" } : Jvm.MethodName)) ∈ lw_all := lw_g (lw_at lw_m4 184 rfl) rfl
theorem q1028 : (Jvm.Cond.privateMethod ({ cls := "Rulehearth$Matcher", name := "goAtom", desc := "(LRulehearth$Item;II)V" } : Jvm.MethodName)) ∈ lw_tbl := lw_at lw_m4 185 rfl
theorem q1029 : (Jvm.Cond.instanceMethod ({ cls := "Rulehearth$Matcher", name := "goAtom", desc := "(LRulehearth$Item;II)V" } : Jvm.MethodName)) ∈ lw_all := lw_g (lw_at lw_m4 186 rfl) rfl
theorem q1030 : (Jvm.Cond.code ({ cls := "Rulehearth$Matcher", name := "goAtom", desc := "(LRulehearth$Item;II)V" } : Jvm.MethodName) prog_12_method_8_code (9 : Nat) (Option.none : Option Jvm.ClassFile.FieldType)) ∈ lw_all := lw_g (lw_at lw_m4 187 rfl) rfl
theorem q1031 : (Jvm.Cond.constant "Rulehearth$Matcher" (111 : Nat) (1000000 : Int32)) ∈ lw_all := lw_g (lw_at lw_m4 188 rfl) rfl
theorem q1032 : (Jvm.Cond.methodLink "Rulehearth$Matcher" (112 : Nat) ({ cls := "Rulehearth$Facts", name := "placeOf", desc := "(I)I" } : Jvm.MethodName)) ∈ lw_all := lw_g (lw_at lw_m4 189 rfl) rfl
theorem q1033 : (Jvm.Cond.methodLink "Rulehearth$Matcher" (116 : Nat) ({ cls := "Rulehearth$Matcher", name := "mask", desc := "()I" } : Jvm.MethodName)) ∈ lw_all := lw_g (lw_at lw_m4 190 rfl) rfl
theorem q1034 : (Jvm.Cond.privateMethod ({ cls := "Rulehearth$Matcher", name := "mask", desc := "()I" } : Jvm.MethodName)) ∈ lw_tbl := lw_at lw_m4 191 rfl
theorem q1035 : (Jvm.Cond.instanceMethod ({ cls := "Rulehearth$Matcher", name := "mask", desc := "()I" } : Jvm.MethodName)) ∈ lw_all := lw_g (lw_at lw_m4 192 rfl) rfl
theorem q1036 : (Jvm.Cond.code ({ cls := "Rulehearth$Matcher", name := "mask", desc := "()I" } : Jvm.MethodName) prog_12_method_10_code (3 : Nat) (Option.some Jvm.ClassFile.FieldType.int)) ∈ lw_all := lw_g (lw_at lw_m4 193 rfl) rfl
theorem q1037 : (Jvm.Cond.methodLink "Rulehearth$Matcher" (120 : Nat) ({ cls := "Rulehearth$Matcher", name := "isAllowed", desc := "(II)Z" } : Jvm.MethodName)) ∈ lw_all := lw_g (lw_at lw_m4 194 rfl) rfl
theorem q1038 : (Jvm.Cond.privateMethod ({ cls := "Rulehearth$Matcher", name := "isAllowed", desc := "(II)Z" } : Jvm.MethodName)) ∈ lw_tbl := lw_at lw_m4 195 rfl
theorem q1039 : (Jvm.Cond.instanceMethod ({ cls := "Rulehearth$Matcher", name := "isAllowed", desc := "(II)Z" } : Jvm.MethodName)) ∈ lw_all := lw_g (lw_at lw_m4 196 rfl) rfl
theorem q1040 : (Jvm.Cond.code ({ cls := "Rulehearth$Matcher", name := "isAllowed", desc := "(II)Z" } : Jvm.MethodName) prog_12_method_7_code (3 : Nat) (Option.some Jvm.ClassFile.FieldType.boolean)) ∈ lw_all := lw_g (lw_at lw_m4 197 rfl) rfl
theorem q1041 : (Jvm.Cond.methodLinkNest "Rulehearth$Matcher" (127 : Nat) ({ cls := "Rulehearth", name := "slotOf", desc := "(II)I" } : Jvm.MethodName) "Rulehearth") ∈ lw_tbl := lw_at lw_m4 198 rfl
theorem q1044 : (Jvm.Cond.methodLinkNest "Rulehearth$Matcher" (130 : Nat) ({ cls := "Rulehearth", name := "bind", desc := "(II[I)Z" } : Jvm.MethodName) "Rulehearth") ∈ lw_tbl := lw_at lw_m4 201 rfl
theorem q1048 : (Jvm.Cond.methodLink "Rulehearth$Matcher" (134 : Nat) ({ cls := "Rulehearth$Matcher", name := "unbind", desc := "(I)V" } : Jvm.MethodName)) ∈ lw_all := lw_g (lw_at lw_m4 205 rfl) rfl
theorem q1049 : (Jvm.Cond.privateMethod ({ cls := "Rulehearth$Matcher", name := "unbind", desc := "(I)V" } : Jvm.MethodName)) ∈ lw_tbl := lw_at lw_m4 206 rfl
theorem q1050 : (Jvm.Cond.instanceMethod ({ cls := "Rulehearth$Matcher", name := "unbind", desc := "(I)V" } : Jvm.MethodName)) ∈ lw_all := lw_g (lw_at lw_m4 207 rfl) rfl
theorem q1051 : (Jvm.Cond.code ({ cls := "Rulehearth$Matcher", name := "unbind", desc := "(I)V" } : Jvm.MethodName) prog_12_method_11_code (3 : Nat) (Option.none : Option Jvm.ClassFile.FieldType)) ∈ lw_all := lw_g (lw_at lw_m4 208 rfl) rfl
theorem q1052 : (Jvm.Cond.methodLink "Rulehearth$Matcher" (81 : Nat) ({ cls := "Rulehearth$Matcher", name := "factOf", desc := "(LRulehearth$Item;)I" } : Jvm.MethodName)) ∈ lw_all := lw_g (lw_at lw_m4 209 rfl) rfl
theorem q1053 : (Jvm.Cond.privateMethod ({ cls := "Rulehearth$Matcher", name := "factOf", desc := "(LRulehearth$Item;)I" } : Jvm.MethodName)) ∈ lw_tbl := lw_at lw_m4 210 rfl
theorem q1054 : (Jvm.Cond.instanceMethod ({ cls := "Rulehearth$Matcher", name := "factOf", desc := "(LRulehearth$Item;)I" } : Jvm.MethodName)) ∈ lw_all := lw_g (lw_at lw_m4 211 rfl) rfl
theorem q1055 : (Jvm.Cond.code ({ cls := "Rulehearth$Matcher", name := "factOf", desc := "(LRulehearth$Item;)I" } : Jvm.MethodName) prog_12_method_5_code (4 : Nat) (Option.some Jvm.ClassFile.FieldType.int)) ∈ lw_all := lw_g (lw_at lw_m4 212 rfl) rfl
theorem q1056 : (Jvm.Cond.methodLinkNest "Rulehearth$Matcher" (104 : Nat) ({ cls := "Rulehearth", name := "valueOf", desc := "(I[I)I" } : Jvm.MethodName) "Rulehearth") ∈ lw_tbl := lw_at lw_m4 213 rfl
theorem q1057 : (Jvm.Cond.methodLink "Rulehearth$Matcher" (85 : Nat) ({ cls := "Rulehearth$Facts", name := "has", desc := "(I)Z" } : Jvm.MethodName)) ∈ lw_all := lw_g (lw_at lw_m4 214 rfl) rfl
theorem q1058 : (Jvm.Cond.methodLink "Rulehearth$Matcher" (91 : Nat) ({ cls := "Rulehearth$Matcher", name := "holds", desc := "(LRulehearth$Item;)Z" } : Jvm.MethodName)) ∈ lw_all := lw_g (lw_at lw_m4 215 rfl) rfl
theorem q1059 : (Jvm.Cond.privateMethod ({ cls := "Rulehearth$Matcher", name := "holds", desc := "(LRulehearth$Item;)Z" } : Jvm.MethodName)) ∈ lw_tbl := lw_at lw_m4 216 rfl
theorem q1060 : (Jvm.Cond.instanceMethod ({ cls := "Rulehearth$Matcher", name := "holds", desc := "(LRulehearth$Item;)Z" } : Jvm.MethodName)) ∈ lw_all := lw_g (lw_at lw_m4 217 rfl) rfl
theorem q1061 : (Jvm.Cond.code ({ cls := "Rulehearth$Matcher", name := "holds", desc := "(LRulehearth$Item;)Z" } : Jvm.MethodName) prog_12_method_6_code (4 : Nat) (Option.some Jvm.ClassFile.FieldType.boolean)) ∈ lw_all := lw_g (lw_at lw_m4 218 rfl) rfl
theorem q1062 : (Jvm.Cond.methodLink "Rulehearth$Matcher" (95 : Nat) ({ cls := "Rulehearth$Matcher", name := "goPlus", desc := "(LRulehearth$Item;II)V" } : Jvm.MethodName)) ∈ lw_all := lw_g (lw_at lw_m4 219 rfl) rfl
theorem q1063 : (Jvm.Cond.privateMethod ({ cls := "Rulehearth$Matcher", name := "goPlus", desc := "(LRulehearth$Item;II)V" } : Jvm.MethodName)) ∈ lw_tbl := lw_at lw_m4 220 rfl
theorem q1064 : (Jvm.Cond.instanceMethod ({ cls := "Rulehearth$Matcher", name := "goPlus", desc := "(LRulehearth$Item;II)V" } : Jvm.MethodName)) ∈ lw_all := lw_g (lw_at lw_m4 221 rfl) rfl
theorem q1065 : (Jvm.Cond.code ({ cls := "Rulehearth$Matcher", name := "goPlus", desc := "(LRulehearth$Item;II)V" } : Jvm.MethodName) prog_12_method_9_code (6 : Nat) (Option.none : Option Jvm.ClassFile.FieldType)) ∈ lw_all := lw_g (lw_at lw_m4 222 rfl) rfl
theorem q1346 : (Jvm.Cond.instanceMethod ({ cls := "Rulehearth$Matcher", name := "run", desc := "(II)V" } : Jvm.MethodName)) ∈ lw_all := lw_g (lw_at lw_m6 23 rfl) rfl
theorem q1347 : (Jvm.Cond.selects "Rulehearth$Matcher" ({ cls := "Rulehearth$Matcher", name := "run", desc := "(II)V" } : Jvm.MethodName) ({ cls := "Rulehearth$Matcher", name := "run", desc := "(II)V" } : Jvm.MethodName)) ∈ lw_all := lw_g (lw_at lw_m6 24 rfl) rfl
theorem q1348 : (Jvm.Cond.code ({ cls := "Rulehearth$Matcher", name := "run", desc := "(II)V" } : Jvm.MethodName) prog_12_method_3_code (3 : Nat) (Option.none : Option Jvm.ClassFile.FieldType)) ∈ lw_all := lw_g (lw_at lw_m6 25 rfl) rfl
theorem q1349 : (Jvm.Cond.methodLink "Rulehearth$Matcher" (48 : Nat) ({ cls := "Rulehearth$Matcher", name := "run", desc := "()V" } : Jvm.MethodName)) ∈ lw_all := lw_g (lw_at lw_m6 26 rfl) rfl
theorem q1474 : (Jvm.Cond.fieldLink "Rulehearth$Matcher" (74 : Nat) "Rulehearth$Item" "kind" "I") ∈ lw_all := lw_g (lw_at lw_m6 151 rfl) rfl
theorem q1481 : (Jvm.Cond.fieldLink "Rulehearth$Matcher" (98 : Nat) "Rulehearth$Item" "what" "I") ∈ lw_all := lw_g (lw_at lw_m6 158 rfl) rfl
theorem q1488 : (Jvm.Cond.fieldLink "Rulehearth$Matcher" (101 : Nat) "Rulehearth$Item" "terms" "[I") ∈ lw_all := lw_g (lw_at lw_m6 165 rfl) rfl
theorem q2811 : (Jvm.Cond.castable "Rulehearth$Matcher" "java/lang/Object") ∈ lw_tbl := lw_at lw_m12 48 rfl
theorem in_X9 : ∀ w ∈ wsX90, w ∈ lw_all := lw_in wsX90 [899, 901, 903, 905, 907, 909, 911, 913, 915, 917] (by decide +kernel) (by decide +kernel)
def RX10 : String := "Rulehearth$Clause"
def TX10 : u_T := fun k => match k with
  | 0 => ("Rulehearth$Clause", "number", "I", false)
  | 1 => ("Rulehearth$Clause", "head", "LRulehearth$Item;", true)
  | 2 => ("Rulehearth$Clause", "gathered", "I", false)
  | 3 => ("Rulehearth$Clause", "gathering", "I", false)
  | 4 => ("Rulehearth$Clause", "body", "Ljava/util/ArrayList;", true)
  | 5 => ("Rulehearth$Clause", "isDeed", "Z", true)
  | 6 => ("Rulehearth$Clause", "module", "I", true)
  | 7 => ("Rulehearth$Clause", "salience", "I", true)
  | _ => ("Rulehearth$Clause", "tells", "Z", true)
def tyX10 : Nat → FieldType := fun k => match k with
  | 0 => .int
  | 1 => .object "Rulehearth$Item"
  | 2 => .int
  | 3 => .int
  | 4 => .object "java/util/ArrayList"
  | 5 => .boolean
  | 6 => .int
  | 7 => .int
  | _ => .boolean
abbrev wsX100 : List Cond := u_ws RX10 TX10 9
theorem nmX10 : ∀ a, a < 9 → ∀ b, b < 9 → a ≠ b → (TX10 a).2.1 ≠ (TX10 b).2.1 := by decide +kernel
theorem tyX10_ok : ∀ k, k < 9 → parseFieldDescriptor (TX10 k).2.2.1 = some (tyX10 k) := by decide +kernel
theorem q157 : (Jvm.Cond.initialized "Rulehearth$Clause") ∈ lw_all := lw_g (lw_at lw_m1 34 rfl) rfl
theorem q654 : (Jvm.Cond.selects "Rulehearth$Clause" ({ cls := "java/lang/Object", name := "getClass", desc := "()Ljava/lang/Class;" } : Jvm.MethodName) ({ cls := "java/lang/Object", name := "getClass", desc := "()Ljava/lang/Class;" } : Jvm.MethodName)) ∈ lw_all := lw_g (lw_at lw_m3 51 rfl) rfl
theorem q795 : (Jvm.Cond.selects "Rulehearth$Clause" ({ cls := "java/lang/Object", name := "equals", desc := "(Ljava/lang/Object;)Z" } : Jvm.MethodName) ({ cls := "java/lang/Object", name := "equals", desc := "(Ljava/lang/Object;)Z" } : Jvm.MethodName)) ∈ lw_all := lw_g (lw_at lw_m3 192 rfl) rfl
theorem q944 : (Jvm.Cond.instanceMethod ({ cls := "Rulehearth$Clause", name := "atoms", desc := "()I" } : Jvm.MethodName)) ∈ lw_all := lw_g (lw_at lw_m4 101 rfl) rfl
theorem q945 : (Jvm.Cond.selects "Rulehearth$Clause" ({ cls := "Rulehearth$Clause", name := "atoms", desc := "()I" } : Jvm.MethodName) ({ cls := "Rulehearth$Clause", name := "atoms", desc := "()I" } : Jvm.MethodName)) ∈ lw_all := lw_g (lw_at lw_m4 102 rfl) rfl
theorem q946 : (Jvm.Cond.code ({ cls := "Rulehearth$Clause", name := "atoms", desc := "()I" } : Jvm.MethodName) prog_3_method_3_code (3 : Nat) (Option.some Jvm.ClassFile.FieldType.int)) ∈ lw_all := lw_g (lw_at lw_m4 103 rfl) rfl
theorem q947 : (Jvm.Cond.methodLink "Rulehearth$Clause" (45 : Nat) ({ cls := "java/util/ArrayList", name := "size", desc := "()I" } : Jvm.MethodName)) ∈ lw_all := lw_g (lw_at lw_m4 104 rfl) rfl
theorem q948 : (Jvm.Cond.methodLink "Rulehearth$Clause" (49 : Nat) ({ cls := "java/util/ArrayList", name := "get", desc := "(I)Ljava/lang/Object;" } : Jvm.MethodName)) ∈ lw_all := lw_g (lw_at lw_m4 105 rfl) rfl
theorem q949 : (Jvm.Cond.classLink "Rulehearth$Clause" (53 : Nat) "Rulehearth$Item") ∈ lw_all := lw_g (lw_at lw_m4 106 rfl) rfl
theorem q980 : (Jvm.Cond.instanceMethod ({ cls := "Rulehearth$Clause", name := "fact", desc := "([II)I" } : Jvm.MethodName)) ∈ lw_all := lw_g (lw_at lw_m4 137 rfl) rfl
theorem q981 : (Jvm.Cond.selects "Rulehearth$Clause" ({ cls := "Rulehearth$Clause", name := "fact", desc := "([II)I" } : Jvm.MethodName) ({ cls := "Rulehearth$Clause", name := "fact", desc := "([II)I" } : Jvm.MethodName)) ∈ lw_all := lw_g (lw_at lw_m4 138 rfl) rfl
theorem q982 : (Jvm.Cond.code ({ cls := "Rulehearth$Clause", name := "fact", desc := "([II)I" } : Jvm.MethodName) prog_3_method_4_code (6 : Nat) (Option.some Jvm.ClassFile.FieldType.int)) ∈ lw_all := lw_g (lw_at lw_m4 139 rfl) rfl
theorem q983 : (Jvm.Cond.methodLinkNest "Rulehearth$Clause" (65 : Nat) ({ cls := "Rulehearth", name := "valueOf", desc := "(I[I)I" } : Jvm.MethodName) "Rulehearth") ∈ lw_tbl := lw_at lw_m4 140 rfl
theorem q1358 : (Jvm.Cond.instanceMethod ({ cls := "Rulehearth$Clause", name := "binds", desc := "(I[I)Z" } : Jvm.MethodName)) ∈ lw_all := lw_g (lw_at lw_m6 35 rfl) rfl
theorem q1359 : (Jvm.Cond.selects "Rulehearth$Clause" ({ cls := "Rulehearth$Clause", name := "binds", desc := "(I[I)Z" } : Jvm.MethodName) ({ cls := "Rulehearth$Clause", name := "binds", desc := "(I[I)Z" } : Jvm.MethodName)) ∈ lw_all := lw_g (lw_at lw_m6 36 rfl) rfl
theorem q1360 : (Jvm.Cond.code ({ cls := "Rulehearth$Clause", name := "binds", desc := "(I[I)Z" } : Jvm.MethodName) prog_3_method_5_code (5 : Nat) (Option.some Jvm.ClassFile.FieldType.boolean)) ∈ lw_all := lw_g (lw_at lw_m6 37 rfl) rfl
theorem q1361 : (Jvm.Cond.methodLinkNest "Rulehearth$Clause" (69 : Nat) ({ cls := "Rulehearth", name := "relationOf", desc := "(I)I" } : Jvm.MethodName) "Rulehearth") ∈ lw_tbl := lw_at lw_m6 38 rfl
theorem q1362 : (Jvm.Cond.methodLinkNest "Rulehearth$Clause" (73 : Nat) ({ cls := "Rulehearth", name := "slotOf", desc := "(II)I" } : Jvm.MethodName) "Rulehearth") ∈ lw_tbl := lw_at lw_m6 39 rfl
theorem q1363 : (Jvm.Cond.methodLinkNest "Rulehearth$Clause" (77 : Nat) ({ cls := "Rulehearth", name := "bind", desc := "(II[I)Z" } : Jvm.MethodName) "Rulehearth") ∈ lw_tbl := lw_at lw_m6 40 rfl
theorem q1458 : (Jvm.Cond.instantiable "Rulehearth$Clause" (9 : Nat)) ∈ lw_all := lw_g (lw_at lw_m6 135 rfl) rfl
theorem q1473 : (Jvm.Cond.fieldLink "Rulehearth$Clause" (55 : Nat) "Rulehearth$Item" "kind" "I") ∈ lw_all := lw_g (lw_at lw_m6 150 rfl) rfl
theorem q1480 : (Jvm.Cond.fieldLink "Rulehearth$Clause" (58 : Nat) "Rulehearth$Item" "what" "I") ∈ lw_all := lw_g (lw_at lw_m6 157 rfl) rfl
theorem q1487 : (Jvm.Cond.fieldLink "Rulehearth$Clause" (61 : Nat) "Rulehearth$Item" "terms" "[I") ∈ lw_all := lw_g (lw_at lw_m6 164 rfl) rfl
theorem q1502 : (Jvm.Cond.instanceMethod ({ cls := "Rulehearth$Clause", name := "<init>", desc := "(LRulehearth$Item;ZIIZ)V" } : Jvm.MethodName)) ∈ lw_all := lw_g (lw_at lw_m6 179 rfl) rfl
theorem q1503 : (Jvm.Cond.code ({ cls := "Rulehearth$Clause", name := "<init>", desc := "(LRulehearth$Item;ZIIZ)V" } : Jvm.MethodName) prog_3_method_1_code (6 : Nat) (Option.none : Option Jvm.ClassFile.FieldType)) ∈ lw_all := lw_g (lw_at lw_m6 180 rfl) rfl
theorem q1504 : (Jvm.Cond.methodLink "Rulehearth$Clause" (3 : Nat) ({ cls := "java/lang/Object", name := "<init>", desc := "()V" } : Jvm.MethodName)) ∈ lw_all := lw_g (lw_at lw_m6 181 rfl) rfl
theorem q1505 : (Jvm.Cond.classLink "Rulehearth$Clause" (15 : Nat) "java/util/ArrayList") ∈ lw_all := lw_g (lw_at lw_m6 182 rfl) rfl
theorem q1506 : (Jvm.Cond.methodLink "Rulehearth$Clause" (17 : Nat) ({ cls := "java/util/ArrayList", name := "<init>", desc := "(I)V" } : Jvm.MethodName)) ∈ lw_all := lw_g (lw_at lw_m6 183 rfl) rfl
theorem q1509 : (Jvm.Cond.fieldLink "Rulehearth$Clause" (24 : Nat) "Rulehearth$Clause" "head" "LRulehearth$Item;") ∈ lw_all := lw_g (lw_at lw_m6 186 rfl) rfl
theorem q1514 : (Jvm.Cond.fieldLink "Rulehearth$Clause" (9 : Nat) "Rulehearth$Clause" "gathered" "I") ∈ lw_all := lw_g (lw_at lw_m6 191 rfl) rfl
theorem q1523 : (Jvm.Cond.fieldLink "Rulehearth$Clause" (20 : Nat) "Rulehearth$Clause" "body" "Ljava/util/ArrayList;") ∈ lw_all := lw_g (lw_at lw_m6 200 rfl) rfl
theorem q1529 : (Jvm.Cond.fieldLink "Rulehearth$Clause" (28 : Nat) "Rulehearth$Clause" "isDeed" "Z") ∈ lw_all := lw_g (lw_at lw_m6 206 rfl) rfl
theorem q1531 : (Jvm.Cond.fieldLink "Rulehearth$Clause" (32 : Nat) "Rulehearth$Clause" "module" "I") ∈ lw_all := lw_g (lw_at lw_m6 208 rfl) rfl
theorem q1533 : (Jvm.Cond.fieldLink "Rulehearth$Clause" (35 : Nat) "Rulehearth$Clause" "salience" "I") ∈ lw_all := lw_g (lw_at lw_m6 210 rfl) rfl
theorem q1535 : (Jvm.Cond.fieldLink "Rulehearth$Clause" (38 : Nat) "Rulehearth$Clause" "tells" "Z") ∈ lw_all := lw_g (lw_at lw_m6 212 rfl) rfl
theorem q1537 : (Jvm.Cond.lays "Rulehearth$Clause" "Rulehearth$Clause" "number" "I") ∈ lw_all := lw_g (lw_at lw_m6 214 rfl) rfl
theorem q1538 : (Jvm.Cond.soleField "Rulehearth$Clause" "number") ∈ lw_all := lw_g (lw_at lw_m6 215 rfl) rfl
theorem q1539 : (Jvm.Cond.laysFinal "Rulehearth$Clause" "Rulehearth$Clause" "head" "LRulehearth$Item;") ∈ lw_all := lw_g (lw_at lw_m6 216 rfl) rfl
theorem q1540 : (Jvm.Cond.soleField "Rulehearth$Clause" "head") ∈ lw_all := lw_g (lw_at lw_m6 217 rfl) rfl
theorem q1541 : (Jvm.Cond.lays "Rulehearth$Clause" "Rulehearth$Clause" "gathered" "I") ∈ lw_all := lw_g (lw_at lw_m6 218 rfl) rfl
theorem q1542 : (Jvm.Cond.soleField "Rulehearth$Clause" "gathered") ∈ lw_all := lw_g (lw_at lw_m6 219 rfl) rfl
theorem q1543 : (Jvm.Cond.lays "Rulehearth$Clause" "Rulehearth$Clause" "gathering" "I") ∈ lw_all := lw_g (lw_at lw_m6 220 rfl) rfl
theorem q1544 : (Jvm.Cond.soleField "Rulehearth$Clause" "gathering") ∈ lw_all := lw_g (lw_at lw_m6 221 rfl) rfl
theorem q1545 : (Jvm.Cond.laysFinal "Rulehearth$Clause" "Rulehearth$Clause" "body" "Ljava/util/ArrayList;") ∈ lw_all := lw_g (lw_at lw_m6 222 rfl) rfl
theorem q1546 : (Jvm.Cond.soleField "Rulehearth$Clause" "body") ∈ lw_all := lw_g (lw_at lw_m6 223 rfl) rfl
theorem q1547 : (Jvm.Cond.laysFinal "Rulehearth$Clause" "Rulehearth$Clause" "isDeed" "Z") ∈ lw_all := lw_g (lw_at lw_m6 224 rfl) rfl
theorem q1548 : (Jvm.Cond.soleField "Rulehearth$Clause" "isDeed") ∈ lw_all := lw_g (lw_at lw_m6 225 rfl) rfl
theorem q1549 : (Jvm.Cond.laysFinal "Rulehearth$Clause" "Rulehearth$Clause" "module" "I") ∈ lw_all := lw_g (lw_at lw_m6 226 rfl) rfl
theorem q1550 : (Jvm.Cond.soleField "Rulehearth$Clause" "module") ∈ lw_all := lw_g (lw_at lw_m6 227 rfl) rfl
theorem q1551 : (Jvm.Cond.laysFinal "Rulehearth$Clause" "Rulehearth$Clause" "salience" "I") ∈ lw_all := lw_g (lw_at lw_m6 228 rfl) rfl
theorem q1552 : (Jvm.Cond.soleField "Rulehearth$Clause" "salience") ∈ lw_all := lw_g (lw_at lw_m6 229 rfl) rfl
theorem q1553 : (Jvm.Cond.laysFinal "Rulehearth$Clause" "Rulehearth$Clause" "tells" "Z") ∈ lw_all := lw_g (lw_at lw_m6 230 rfl) rfl
theorem q1554 : (Jvm.Cond.soleField "Rulehearth$Clause" "tells") ∈ lw_all := lw_g (lw_at lw_m6 231 rfl) rfl
theorem q1555 : (Jvm.Cond.superclass "Rulehearth$Clause" "java/lang/Object") ∈ lw_all := lw_g (lw_at lw_m6 232 rfl) rfl
theorem q1582 : (Jvm.Cond.instanceMethod ({ cls := "Rulehearth$Clause", name := "latest", desc := "()LRulehearth$Item;" } : Jvm.MethodName)) ∈ lw_all := lw_g (lw_at lw_m7 19 rfl) rfl
theorem q1583 : (Jvm.Cond.selects "Rulehearth$Clause" ({ cls := "Rulehearth$Clause", name := "latest", desc := "()LRulehearth$Item;" } : Jvm.MethodName) ({ cls := "Rulehearth$Clause", name := "latest", desc := "()LRulehearth$Item;" } : Jvm.MethodName)) ∈ lw_all := lw_g (lw_at lw_m7 20 rfl) rfl
theorem q1584 : (Jvm.Cond.code ({ cls := "Rulehearth$Clause", name := "latest", desc := "()LRulehearth$Item;" } : Jvm.MethodName) prog_3_method_2_code (1 : Nat) (Option.some (Jvm.ClassFile.FieldType.object "Rulehearth$Item"))) ∈ lw_all := lw_g (lw_at lw_m7 21 rfl) rfl
theorem q1585 : (Jvm.Cond.methodLink "Rulehearth$Clause" (41 : Nat) ({ cls := "java/util/ArrayList", name := "isEmpty", desc := "()Z" } : Jvm.MethodName)) ∈ lw_all := lw_g (lw_at lw_m7 22 rfl) rfl
theorem q2812 : (Jvm.Cond.castable "Rulehearth$Clause" "java/lang/Object") ∈ lw_tbl := lw_at lw_m12 49 rfl
theorem in_X10 : ∀ w ∈ wsX100, w ∈ lw_all := lw_in wsX100 [1537, 1539, 1541, 1543, 1545, 1547, 1549, 1551, 1553] (by decide +kernel) (by decide +kernel)
def RX11 : String := "Rulehearth$Item"
def TX11 : u_T := fun k => match k with
  | 0 => ("Rulehearth$Item", "kind", "I", true)
  | 1 => ("Rulehearth$Item", "what", "I", true)
  | 2 => ("Rulehearth$Item", "terms", "[I", true)
  | _ => ("Rulehearth$Item", "filled", "I", false)
def tyX11 : Nat → FieldType := fun k => match k with
  | 0 => .int
  | 1 => .int
  | 2 => .array .int
  | _ => .int
abbrev wsX110 : List Cond := u_ws RX11 TX11 4
theorem nmX11 : ∀ a, a < 4 → ∀ b, b < 4 → a ≠ b → (TX11 a).2.1 ≠ (TX11 b).2.1 := by decide +kernel
theorem tyX11_ok : ∀ k, k < 4 → parseFieldDescriptor (TX11 k).2.2.1 = some (tyX11 k) := by decide +kernel
theorem q158 : (Jvm.Cond.initialized "Rulehearth$Item") ∈ lw_all := lw_g (lw_at lw_m1 35 rfl) rfl
theorem q662 : (Jvm.Cond.selects "Rulehearth$Item" ({ cls := "java/lang/Object", name := "getClass", desc := "()Ljava/lang/Class;" } : Jvm.MethodName) ({ cls := "java/lang/Object", name := "getClass", desc := "()Ljava/lang/Class;" } : Jvm.MethodName)) ∈ lw_all := lw_g (lw_at lw_m3 59 rfl) rfl
theorem q803 : (Jvm.Cond.selects "Rulehearth$Item" ({ cls := "java/lang/Object", name := "equals", desc := "(Ljava/lang/Object;)Z" } : Jvm.MethodName) ({ cls := "java/lang/Object", name := "equals", desc := "(Ljava/lang/Object;)Z" } : Jvm.MethodName)) ∈ lw_all := lw_g (lw_at lw_m3 200 rfl) rfl
theorem q1467 : (Jvm.Cond.instantiable "Rulehearth$Item" (4 : Nat)) ∈ lw_all := lw_g (lw_at lw_m6 144 rfl) rfl
theorem q1469 : (Jvm.Cond.instanceMethod ({ cls := "Rulehearth$Item", name := "<init>", desc := "(III)V" } : Jvm.MethodName)) ∈ lw_all := lw_g (lw_at lw_m6 146 rfl) rfl
theorem q1470 : (Jvm.Cond.code ({ cls := "Rulehearth$Item", name := "<init>", desc := "(III)V" } : Jvm.MethodName) prog_11_method_1_code (4 : Nat) (Option.none : Option Jvm.ClassFile.FieldType)) ∈ lw_all := lw_g (lw_at lw_m6 147 rfl) rfl
theorem q1471 : (Jvm.Cond.methodLink "Rulehearth$Item" (3 : Nat) ({ cls := "java/lang/Object", name := "<init>", desc := "()V" } : Jvm.MethodName)) ∈ lw_all := lw_g (lw_at lw_m6 148 rfl) rfl
theorem q1472 : (Jvm.Cond.fieldLink "Rulehearth$Item" (9 : Nat) "Rulehearth$Item" "kind" "I") ∈ lw_all := lw_g (lw_at lw_m6 149 rfl) rfl
theorem q1479 : (Jvm.Cond.fieldLink "Rulehearth$Item" (15 : Nat) "Rulehearth$Item" "what" "I") ∈ lw_all := lw_g (lw_at lw_m6 156 rfl) rfl
theorem q1484 : (Jvm.Cond.fieldLink "Rulehearth$Item" (18 : Nat) "Rulehearth$Item" "terms" "[I") ∈ lw_all := lw_g (lw_at lw_m6 161 rfl) rfl
theorem q1490 : (Jvm.Cond.fieldLink "Rulehearth$Item" (22 : Nat) "Rulehearth$Item" "filled" "I") ∈ lw_all := lw_g (lw_at lw_m6 167 rfl) rfl
theorem q1492 : (Jvm.Cond.laysFinal "Rulehearth$Item" "Rulehearth$Item" "kind" "I") ∈ lw_all := lw_g (lw_at lw_m6 169 rfl) rfl
theorem q1493 : (Jvm.Cond.soleField "Rulehearth$Item" "kind") ∈ lw_all := lw_g (lw_at lw_m6 170 rfl) rfl
theorem q1494 : (Jvm.Cond.laysFinal "Rulehearth$Item" "Rulehearth$Item" "what" "I") ∈ lw_all := lw_g (lw_at lw_m6 171 rfl) rfl
theorem q1495 : (Jvm.Cond.soleField "Rulehearth$Item" "what") ∈ lw_all := lw_g (lw_at lw_m6 172 rfl) rfl
theorem q1496 : (Jvm.Cond.laysFinal "Rulehearth$Item" "Rulehearth$Item" "terms" "[I") ∈ lw_all := lw_g (lw_at lw_m6 173 rfl) rfl
theorem q1497 : (Jvm.Cond.soleField "Rulehearth$Item" "terms") ∈ lw_all := lw_g (lw_at lw_m6 174 rfl) rfl
theorem q1498 : (Jvm.Cond.lays "Rulehearth$Item" "Rulehearth$Item" "filled" "I") ∈ lw_all := lw_g (lw_at lw_m6 175 rfl) rfl
theorem q1499 : (Jvm.Cond.soleField "Rulehearth$Item" "filled") ∈ lw_all := lw_g (lw_at lw_m6 176 rfl) rfl
theorem q1500 : (Jvm.Cond.superclass "Rulehearth$Item" "java/lang/Object") ∈ lw_all := lw_g (lw_at lw_m6 177 rfl) rfl
theorem q1590 : (Jvm.Cond.instanceMethod ({ cls := "Rulehearth$Item", name := "isWhole", desc := "()Z" } : Jvm.MethodName)) ∈ lw_all := lw_g (lw_at lw_m7 27 rfl) rfl
theorem q1591 : (Jvm.Cond.selects "Rulehearth$Item" ({ cls := "Rulehearth$Item", name := "isWhole", desc := "()Z" } : Jvm.MethodName) ({ cls := "Rulehearth$Item", name := "isWhole", desc := "()Z" } : Jvm.MethodName)) ∈ lw_all := lw_g (lw_at lw_m7 28 rfl) rfl
theorem q1592 : (Jvm.Cond.code ({ cls := "Rulehearth$Item", name := "isWhole", desc := "()Z" } : Jvm.MethodName) prog_11_method_2_code (1 : Nat) (Option.some Jvm.ClassFile.FieldType.boolean)) ∈ lw_all := lw_g (lw_at lw_m7 29 rfl) rfl
theorem q2020 : (Jvm.Cond.instanceMethod ({ cls := "Rulehearth$Item", name := "hasVariable", desc := "(I)Z" } : Jvm.MethodName)) ∈ lw_all := lw_g (lw_at lw_m8 217 rfl) rfl
theorem q2021 : (Jvm.Cond.selects "Rulehearth$Item" ({ cls := "Rulehearth$Item", name := "hasVariable", desc := "(I)Z" } : Jvm.MethodName) ({ cls := "Rulehearth$Item", name := "hasVariable", desc := "(I)Z" } : Jvm.MethodName)) ∈ lw_all := lw_g (lw_at lw_m8 218 rfl) rfl
theorem q2022 : (Jvm.Cond.code ({ cls := "Rulehearth$Item", name := "hasVariable", desc := "(I)Z" } : Jvm.MethodName) prog_11_method_3_code (4 : Nat) (Option.some Jvm.ClassFile.FieldType.boolean)) ∈ lw_all := lw_g (lw_at lw_m8 219 rfl) rfl
theorem q2813 : (Jvm.Cond.castable "Rulehearth$Item" "java/lang/Object") ∈ lw_tbl := lw_at lw_m12 50 rfl
theorem in_X11 : ∀ w ∈ wsX110, w ∈ lw_all := lw_in wsX110 [1492, 1494, 1496, 1498] (by decide +kernel) (by decide +kernel)
def RX12 : String := "Rulehearth$Reasons"
def TX12 : u_T := fun k => match k with
  | 0 => ("Rulehearth$Reasons", "standing", "LRulehearth$Facts;", true)
  | 1 => ("Rulehearth$Reasons", "together", "[[J", true)
  | 2 => ("Rulehearth$Reasons", "direct", "[J", true)
  | 3 => ("Rulehearth$Reasons", "depths", "[I", true)
  | 4 => ("Rulehearth$Reasons", "isChanged", "Z", false)
  | _ => ("Rulehearth$Reasons", "this$0", "LRulehearth;", true)
def tyX12 : Nat → FieldType := fun k => match k with
  | 0 => .object "Rulehearth$Facts"
  | 1 => .array (.array .long)
  | 2 => .array .long
  | 3 => .array .int
  | 4 => .boolean
  | _ => .object "Rulehearth"
abbrev wsX120 : List Cond := u_ws RX12 TX12 6
theorem nmX12 : ∀ a, a < 6 → ∀ b, b < 6 → a ≠ b → (TX12 a).2.1 ≠ (TX12 b).2.1 := by decide +kernel
theorem tyX12_ok : ∀ k, k < 6 → parseFieldDescriptor (TX12 k).2.2.1 = some (tyX12 k) := by decide +kernel
theorem q159 : (Jvm.Cond.initialized "Rulehearth$Reasons") ∈ lw_all := lw_g (lw_at lw_m1 36 rfl) rfl
theorem q530 : (Jvm.Cond.fieldLink "Rulehearth$Reasons" (92 : Nat) "Rulehearth$Facts" "numbers" "[I") ∈ lw_all := lw_g (lw_at lw_m2 167 rfl) rfl
theorem q538 : (Jvm.Cond.fieldLink "Rulehearth$Reasons" (87 : Nat) "Rulehearth$Facts" "count" "I") ∈ lw_all := lw_g (lw_at lw_m2 175 rfl) rfl
theorem q558 : (Jvm.Cond.fieldLink "Rulehearth$Reasons" (19 : Nat) "Rulehearth$World" "standing" "LRulehearth$Facts;") ∈ lw_all := lw_g (lw_at lw_m2 195 rfl) rfl
theorem q565 : (Jvm.Cond.fieldLink "Rulehearth$Reasons" (26 : Nat) "Rulehearth$World" "rules" "Ljava/util/ArrayList;") ∈ lw_all := lw_g (lw_at lw_m2 202 rfl) rfl
theorem q664 : (Jvm.Cond.selects "Rulehearth$Reasons" ({ cls := "java/lang/Object", name := "getClass", desc := "()Ljava/lang/Class;" } : Jvm.MethodName) ({ cls := "java/lang/Object", name := "getClass", desc := "()Ljava/lang/Class;" } : Jvm.MethodName)) ∈ lw_all := lw_g (lw_at lw_m3 61 rfl) rfl
theorem q684 : (Jvm.Cond.fieldLinkNest "Rulehearth$Reasons" (15 : Nat) "Rulehearth" "world" "LRulehearth$World;" "Rulehearth") ∈ lw_tbl := lw_at lw_m3 81 rfl
theorem q805 : (Jvm.Cond.selects "Rulehearth$Reasons" ({ cls := "java/lang/Object", name := "equals", desc := "(Ljava/lang/Object;)Z" } : Jvm.MethodName) ({ cls := "java/lang/Object", name := "equals", desc := "(Ljava/lang/Object;)Z" } : Jvm.MethodName)) ∈ lw_all := lw_g (lw_at lw_m3 202 rfl) rfl
theorem q1516 : (Jvm.Cond.fieldLink "Rulehearth$Reasons" (58 : Nat) "Rulehearth$Clause" "gathered" "I") ∈ lw_all := lw_g (lw_at lw_m6 193 rfl) rfl
theorem q1703 : (Jvm.Cond.instantiable "Rulehearth$Reasons" (6 : Nat)) ∈ lw_all := lw_g (lw_at lw_m7 140 rfl) rfl
theorem q1705 : (Jvm.Cond.instanceMethod ({ cls := "Rulehearth$Reasons", name := "<init>", desc := "(LRulehearth;)V" } : Jvm.MethodName)) ∈ lw_all := lw_g (lw_at lw_m7 142 rfl) rfl
theorem q1706 : (Jvm.Cond.code ({ cls := "Rulehearth$Reasons", name := "<init>", desc := "(LRulehearth;)V" } : Jvm.MethodName) prog_13_method_1_code (6 : Nat) (Option.none : Option Jvm.ClassFile.FieldType)) ∈ lw_all := lw_g (lw_at lw_m7 143 rfl) rfl
theorem q1707 : (Jvm.Cond.methodLink "Rulehearth$Reasons" (9 : Nat) ({ cls := "java/lang/Object", name := "<init>", desc := "()V" } : Jvm.MethodName)) ∈ lw_all := lw_g (lw_at lw_m7 144 rfl) rfl
theorem q1708 : (Jvm.Cond.methodLink "Rulehearth$Reasons" (30 : Nat) ({ cls := "java/util/ArrayList", name := "size", desc := "()I" } : Jvm.MethodName)) ∈ lw_all := lw_g (lw_at lw_m7 145 rfl) rfl
theorem q1709 : (Jvm.Cond.classLink "Rulehearth$Reasons" (36 : Nat) "[J") ∈ lw_all := lw_g (lw_at lw_m7 146 rfl) rfl
theorem q1711 : (Jvm.Cond.methodLink "Rulehearth$Reasons" (49 : Nat) ({ cls := "java/util/ArrayList", name := "get", desc := "(I)Ljava/lang/Object;" } : Jvm.MethodName)) ∈ lw_all := lw_g (lw_at lw_m7 148 rfl) rfl
theorem q1712 : (Jvm.Cond.classLink "Rulehearth$Reasons" (53 : Nat) "Rulehearth$Clause") ∈ lw_all := lw_g (lw_at lw_m7 149 rfl) rfl
theorem q1713 : (Jvm.Cond.methodLink "Rulehearth$Reasons" (55 : Nat) ({ cls := "Rulehearth$Clause", name := "atoms", desc := "()I" } : Jvm.MethodName)) ∈ lw_all := lw_g (lw_at lw_m7 150 rfl) rfl
theorem q1714 : (Jvm.Cond.privateMethod ({ cls := "Rulehearth$Reasons", name := "lambda$new$0", desc := "(LRulehearth$Clause;I[I[I)Z" } : Jvm.MethodName)) ∈ lw_tbl := lw_at lw_m7 151 rfl
theorem q1715 : (Jvm.Cond.instanceMethod ({ cls := "Rulehearth$Reasons", name := "lambda$new$0", desc := "(LRulehearth$Clause;I[I[I)Z" } : Jvm.MethodName)) ∈ lw_all := lw_g (lw_at lw_m7 152 rfl) rfl
theorem q1716 : (Jvm.Cond.code ({ cls := "Rulehearth$Reasons", name := "lambda$new$0", desc := "(LRulehearth$Clause;I[I[I)Z" } : Jvm.MethodName) prog_13_method_8_code (5 : Nat) (Option.some Jvm.ClassFile.FieldType.boolean)) ∈ lw_all := lw_g (lw_at lw_m7 153 rfl) rfl
theorem q1717 : (Jvm.Cond.methodLink "Rulehearth$Reasons" (136 : Nat) ({ cls := "Rulehearth$Clause", name := "fact", desc := "([II)I" } : Jvm.MethodName)) ∈ lw_all := lw_g (lw_at lw_m7 154 rfl) rfl
theorem q1718 : (Jvm.Cond.methodLink "Rulehearth$Reasons" (107 : Nat) ({ cls := "Rulehearth$Facts", name := "indexOf", desc := "(I)I" } : Jvm.MethodName)) ∈ lw_all := lw_g (lw_at lw_m7 155 rfl) rfl
theorem q1719 : (Jvm.Cond.methodLinkNest "Rulehearth$Reasons" (142 : Nat) ({ cls := "Rulehearth", name := "maskOf", desc := "([II)J" } : Jvm.MethodName) "Rulehearth") ∈ lw_tbl := lw_at lw_m7 156 rfl
theorem q1720 : (Jvm.Cond.methodLinkNest "Rulehearth$Reasons" (66 : Nat) ({ cls := "Rulehearth", name := "unknown", desc := "()[I" } : Jvm.MethodName) "Rulehearth") ∈ lw_tbl := lw_at lw_m7 157 rfl
theorem q1721 : (Jvm.Cond.methodLinkNest "Rulehearth$Reasons" (70 : Nat) ({ cls := "Rulehearth", name := "matcher", desc := "(LRulehearth$Clause;[ILRulehearth$Taker;)LRulehearth$Matcher;" } : Jvm.MethodName) "Rulehearth") ∈ lw_tbl := lw_at lw_m7 158 rfl
theorem q1727 : (Jvm.Cond.methodLinkNest "Rulehearth$Reasons" (74 : Nat) ({ cls := "Rulehearth", name := "runs", desc := "(LRulehearth$Matcher;)I" } : Jvm.MethodName) "Rulehearth") ∈ lw_tbl := lw_at lw_m7 164 rfl
theorem q1728 : (Jvm.Cond.methodLink "Rulehearth$Reasons" (78 : Nat) ({ cls := "Rulehearth$Reasons", name := "gatherBy", desc := "(LRulehearth$Clause;)[J" } : Jvm.MethodName)) ∈ lw_all := lw_g (lw_at lw_m7 165 rfl) rfl
theorem q1729 : (Jvm.Cond.privateMethod ({ cls := "Rulehearth$Reasons", name := "gatherBy", desc := "(LRulehearth$Clause;)[J" } : Jvm.MethodName)) ∈ lw_tbl := lw_at lw_m7 166 rfl
theorem q1730 : (Jvm.Cond.instanceMethod ({ cls := "Rulehearth$Reasons", name := "gatherBy", desc := "(LRulehearth$Clause;)[J" } : Jvm.MethodName)) ∈ lw_all := lw_g (lw_at lw_m7 167 rfl) rfl
theorem q1731 : (Jvm.Cond.code ({ cls := "Rulehearth$Reasons", name := "gatherBy", desc := "(LRulehearth$Clause;)[J" } : Jvm.MethodName) prog_13_method_2_code (7 : Nat) (Option.some (Jvm.ClassFile.FieldType.array Jvm.ClassFile.FieldType.long))) ∈ lw_all := lw_g (lw_at lw_m7 168 rfl) rfl
theorem q1732 : (Jvm.Cond.classLink "Rulehearth$Reasons" (82 : Nat) "Rulehearth$Together") ∈ lw_all := lw_g (lw_at lw_m7 169 rfl) rfl
theorem q1734 : (Jvm.Cond.methodLink "Rulehearth$Reasons" (84 : Nat) ({ cls := "Rulehearth$Together", name := "<init>", desc := "(LRulehearth;LRulehearth$Clause;)V" } : Jvm.MethodName)) ∈ lw_all := lw_g (lw_at lw_m7 171 rfl) rfl
theorem q1752 : (Jvm.Cond.methodLink "Rulehearth$Reasons" (95 : Nat) ({ cls := "Rulehearth$Together", name := "of", desc := "(ILRulehearth$Matcher;LRulehearth$Clause;[I)J" } : Jvm.MethodName)) ∈ lw_all := lw_g (lw_at lw_m7 189 rfl) rfl
theorem q1771 : (Jvm.Cond.constantLong "Rulehearth$Reasons" (99 : Nat) (-4611686018427387905 : Int64)) ∈ lw_all := lw_g (lw_at lw_m7 208 rfl) rfl
theorem q1772 : (Jvm.Cond.fieldLink "Rulehearth$Reasons" (25 : Nat) "Rulehearth$Reasons" "standing" "LRulehearth$Facts;") ∈ lw_all := lw_g (lw_at lw_m7 209 rfl) rfl
theorem q1773 : (Jvm.Cond.fieldLink "Rulehearth$Reasons" (38 : Nat) "Rulehearth$Reasons" "together" "[[J") ∈ lw_all := lw_g (lw_at lw_m7 210 rfl) rfl
theorem q1775 : (Jvm.Cond.fieldLink "Rulehearth$Reasons" (42 : Nat) "Rulehearth$Reasons" "direct" "[J") ∈ lw_all := lw_g (lw_at lw_m7 212 rfl) rfl
theorem q1777 : (Jvm.Cond.fieldLink "Rulehearth$Reasons" (45 : Nat) "Rulehearth$Reasons" "depths" "[I") ∈ lw_all := lw_g (lw_at lw_m7 214 rfl) rfl
theorem q1780 : (Jvm.Cond.fieldLink "Rulehearth$Reasons" (111 : Nat) "Rulehearth$Reasons" "isChanged" "Z") ∈ lw_all := lw_g (lw_at lw_m7 217 rfl) rfl
theorem q1781 : (Jvm.Cond.fieldLink "Rulehearth$Reasons" (3 : Nat) "Rulehearth$Reasons" "this$0" "LRulehearth;") ∈ lw_all := lw_g (lw_at lw_m7 218 rfl) rfl
theorem q1782 : (Jvm.Cond.laysFinal "Rulehearth$Reasons" "Rulehearth$Reasons" "standing" "LRulehearth$Facts;") ∈ lw_all := lw_g (lw_at lw_m7 219 rfl) rfl
theorem q1783 : (Jvm.Cond.soleField "Rulehearth$Reasons" "standing") ∈ lw_all := lw_g (lw_at lw_m7 220 rfl) rfl
theorem q1784 : (Jvm.Cond.laysFinal "Rulehearth$Reasons" "Rulehearth$Reasons" "together" "[[J") ∈ lw_all := lw_g (lw_at lw_m7 221 rfl) rfl
theorem q1785 : (Jvm.Cond.soleField "Rulehearth$Reasons" "together") ∈ lw_all := lw_g (lw_at lw_m7 222 rfl) rfl
theorem q1786 : (Jvm.Cond.laysFinal "Rulehearth$Reasons" "Rulehearth$Reasons" "direct" "[J") ∈ lw_all := lw_g (lw_at lw_m7 223 rfl) rfl
theorem q1787 : (Jvm.Cond.soleField "Rulehearth$Reasons" "direct") ∈ lw_all := lw_g (lw_at lw_m7 224 rfl) rfl
theorem q1788 : (Jvm.Cond.laysFinal "Rulehearth$Reasons" "Rulehearth$Reasons" "depths" "[I") ∈ lw_all := lw_g (lw_at lw_m7 225 rfl) rfl
theorem q1789 : (Jvm.Cond.soleField "Rulehearth$Reasons" "depths") ∈ lw_all := lw_g (lw_at lw_m7 226 rfl) rfl
theorem q1790 : (Jvm.Cond.lays "Rulehearth$Reasons" "Rulehearth$Reasons" "isChanged" "Z") ∈ lw_all := lw_g (lw_at lw_m7 227 rfl) rfl
theorem q1791 : (Jvm.Cond.soleField "Rulehearth$Reasons" "isChanged") ∈ lw_all := lw_g (lw_at lw_m7 228 rfl) rfl
theorem q1792 : (Jvm.Cond.laysFinal "Rulehearth$Reasons" "Rulehearth$Reasons" "this$0" "LRulehearth;") ∈ lw_all := lw_g (lw_at lw_m7 229 rfl) rfl
theorem q1793 : (Jvm.Cond.soleField "Rulehearth$Reasons" "this$0") ∈ lw_all := lw_g (lw_at lw_m7 230 rfl) rfl
theorem q1794 : (Jvm.Cond.superclass "Rulehearth$Reasons" "java/lang/Object") ∈ lw_all := lw_g (lw_at lw_m7 231 rfl) rfl
theorem q1796 : (Jvm.Cond.instanceMethod ({ cls := "Rulehearth$Reasons", name := "measure", desc := "()LRulehearth$Reasons;" } : Jvm.MethodName)) ∈ lw_all := lw_g (lw_at lw_m7 233 rfl) rfl
theorem q1797 : (Jvm.Cond.selects "Rulehearth$Reasons" ({ cls := "Rulehearth$Reasons", name := "measure", desc := "()LRulehearth$Reasons;" } : Jvm.MethodName) ({ cls := "Rulehearth$Reasons", name := "measure", desc := "()LRulehearth$Reasons;" } : Jvm.MethodName)) ∈ lw_all := lw_g (lw_at lw_m7 234 rfl) rfl
theorem q1798 : (Jvm.Cond.code ({ cls := "Rulehearth$Reasons", name := "measure", desc := "()LRulehearth$Reasons;" } : Jvm.MethodName) prog_13_method_6_code (6 : Nat) (Option.some (Jvm.ClassFile.FieldType.object "Rulehearth$Reasons"))) ∈ lw_all := lw_g (lw_at lw_m7 235 rfl) rfl
theorem q1799 : (Jvm.Cond.classLink "Rulehearth$Reasons" (31 : Nat) "java/util/ArrayList") ∈ lw_all := lw_g (lw_at lw_m7 236 rfl) rfl
theorem q1800 : (Jvm.Cond.methodLink "Rulehearth$Reasons" (115 : Nat) ({ cls := "java/util/ArrayList", name := "<init>", desc := "(I)V" } : Jvm.MethodName)) ∈ lw_all := lw_g (lw_at lw_m7 237 rfl) rfl
theorem q1801 : (Jvm.Cond.privateMethod ({ cls := "Rulehearth$Reasons", name := "lambda$measure$1", desc := "(LRulehearth$Clause;I[I[I)Z" } : Jvm.MethodName)) ∈ lw_tbl := lw_at lw_m7 238 rfl
theorem q1802 : (Jvm.Cond.instanceMethod ({ cls := "Rulehearth$Reasons", name := "lambda$measure$1", desc := "(LRulehearth$Clause;I[I[I)Z" } : Jvm.MethodName)) ∈ lw_all := lw_g (lw_at lw_m7 239 rfl) rfl
theorem q1803 : (Jvm.Cond.code ({ cls := "Rulehearth$Reasons", name := "lambda$measure$1", desc := "(LRulehearth$Clause;I[I[I)Z" } : Jvm.MethodName) prog_13_method_7_code (5 : Nat) (Option.some Jvm.ClassFile.FieldType.boolean)) ∈ lw_all := lw_g (lw_at lw_m8 0 rfl) rfl
theorem q1804 : (Jvm.Cond.methodLink "Rulehearth$Reasons" (140 : Nat) ({ cls := "Rulehearth$Reasons", name := "above", desc := "([II)I" } : Jvm.MethodName)) ∈ lw_all := lw_g (lw_at lw_m8 1 rfl) rfl
theorem q1805 : (Jvm.Cond.privateMethod ({ cls := "Rulehearth$Reasons", name := "above", desc := "([II)I" } : Jvm.MethodName)) ∈ lw_tbl := lw_at lw_m8 2 rfl
theorem q1806 : (Jvm.Cond.instanceMethod ({ cls := "Rulehearth$Reasons", name := "above", desc := "([II)I" } : Jvm.MethodName)) ∈ lw_all := lw_g (lw_at lw_m8 3 rfl) rfl
theorem q1807 : (Jvm.Cond.code ({ cls := "Rulehearth$Reasons", name := "above", desc := "([II)I" } : Jvm.MethodName) prog_13_method_4_code (7 : Nat) (Option.some Jvm.ClassFile.FieldType.int)) ∈ lw_all := lw_g (lw_at lw_m8 4 rfl) rfl
theorem q1808 : (Jvm.Cond.methodLink "Rulehearth$Reasons" (101 : Nat) ({ cls := "java/lang/Math", name := "max", desc := "(II)I" } : Jvm.MethodName)) ∈ lw_all := lw_g (lw_at lw_m8 5 rfl) rfl
theorem q1809 : (Jvm.Cond.methodLink "Rulehearth$Reasons" (132 : Nat) ({ cls := "Rulehearth$Reasons", name := "relax", desc := "(II)V" } : Jvm.MethodName)) ∈ lw_all := lw_g (lw_at lw_m8 6 rfl) rfl
theorem q1810 : (Jvm.Cond.privateMethod ({ cls := "Rulehearth$Reasons", name := "relax", desc := "(II)V" } : Jvm.MethodName)) ∈ lw_tbl := lw_at lw_m8 7 rfl
theorem q1811 : (Jvm.Cond.instanceMethod ({ cls := "Rulehearth$Reasons", name := "relax", desc := "(II)V" } : Jvm.MethodName)) ∈ lw_all := lw_g (lw_at lw_m8 8 rfl) rfl
theorem q1812 : (Jvm.Cond.code ({ cls := "Rulehearth$Reasons", name := "relax", desc := "(II)V" } : Jvm.MethodName) prog_13_method_5_code (3 : Nat) (Option.none : Option Jvm.ClassFile.FieldType)) ∈ lw_all := lw_g (lw_at lw_m8 9 rfl) rfl
theorem q1813 : (Jvm.Cond.methodLink "Rulehearth$Reasons" (119 : Nat) ({ cls := "java/util/ArrayList", name := "add", desc := "(Ljava/lang/Object;)Z" } : Jvm.MethodName)) ∈ lw_all := lw_g (lw_at lw_m8 10 rfl) rfl
theorem q1814 : (Jvm.Cond.methodLink "Rulehearth$Reasons" (123 : Nat) ({ cls := "Rulehearth$World", name := "toldAt", desc := "(I)I" } : Jvm.MethodName)) ∈ lw_all := lw_g (lw_at lw_m8 11 rfl) rfl
theorem q1815 : (Jvm.Cond.classLink "Rulehearth$Reasons" (126 : Nat) "Rulehearth$Matcher") ∈ lw_all := lw_g (lw_at lw_m8 12 rfl) rfl
theorem q1816 : (Jvm.Cond.methodLink "Rulehearth$Reasons" (128 : Nat) ({ cls := "Rulehearth$Reasons", name := "above", desc := "(J)I" } : Jvm.MethodName)) ∈ lw_all := lw_g (lw_at lw_m8 13 rfl) rfl
theorem q1817 : (Jvm.Cond.privateMethod ({ cls := "Rulehearth$Reasons", name := "above", desc := "(J)I" } : Jvm.MethodName)) ∈ lw_tbl := lw_at lw_m8 14 rfl
theorem q1818 : (Jvm.Cond.instanceMethod ({ cls := "Rulehearth$Reasons", name := "above", desc := "(J)I" } : Jvm.MethodName)) ∈ lw_all := lw_g (lw_at lw_m8 15 rfl) rfl
theorem q1819 : (Jvm.Cond.code ({ cls := "Rulehearth$Reasons", name := "above", desc := "(J)I" } : Jvm.MethodName) prog_13_method_3_code (6 : Nat) (Option.some Jvm.ClassFile.FieldType.int)) ∈ lw_all := lw_g (lw_at lw_m8 16 rfl) rfl
theorem q2814 : (Jvm.Cond.castable "Rulehearth$Reasons" "java/lang/Object") ∈ lw_tbl := lw_at lw_m12 51 rfl
theorem in_X12 : ∀ w ∈ wsX120, w ∈ lw_all := lw_in wsX120 [1782, 1784, 1786, 1788, 1790, 1792] (by decide +kernel) (by decide +kernel)
def RX13 : String := "Rulehearth$Together"
def TX13 : u_T := fun k => match k with
  | 0 => ("Rulehearth$Group", "rule", "LRulehearth$Clause;", true)
  | 1 => ("Rulehearth$Group", "has", "[Z", true)
  | 2 => ("Rulehearth$Group", "matches", "I", false)
  | 3 => ("Rulehearth$Together", "atoms", "I", true)
  | 4 => ("Rulehearth$Together", "mask", "J", false)
  | _ => ("Rulehearth$Together", "this$0", "LRulehearth;", true)
def tyX13 : Nat → FieldType := fun k => match k with
  | 0 => .object "Rulehearth$Clause"
  | 1 => .array .boolean
  | 2 => .int
  | 3 => .int
  | 4 => .long
  | _ => .object "Rulehearth"
abbrev wsX130 : List Cond := u_ws RX13 TX13 6
theorem nmX13 : ∀ a, a < 6 → ∀ b, b < 6 → a ≠ b → (TX13 a).2.1 ≠ (TX13 b).2.1 := by decide +kernel
theorem tyX13_ok : ∀ k, k < 6 → parseFieldDescriptor (TX13 k).2.2.1 = some (tyX13 k) := by decide +kernel
theorem q160 : (Jvm.Cond.initialized "Rulehearth$Together") ∈ lw_all := lw_g (lw_at lw_m1 37 rfl) rfl
theorem q665 : (Jvm.Cond.selects "Rulehearth$Together" ({ cls := "java/lang/Object", name := "getClass", desc := "()Ljava/lang/Class;" } : Jvm.MethodName) ({ cls := "java/lang/Object", name := "getClass", desc := "()Ljava/lang/Class;" } : Jvm.MethodName)) ∈ lw_all := lw_g (lw_at lw_m3 62 rfl) rfl
theorem q806 : (Jvm.Cond.selects "Rulehearth$Together" ({ cls := "java/lang/Object", name := "equals", desc := "(Ljava/lang/Object;)Z" } : Jvm.MethodName) ({ cls := "java/lang/Object", name := "equals", desc := "(Ljava/lang/Object;)Z" } : Jvm.MethodName)) ∈ lw_all := lw_g (lw_at lw_m3 203 rfl) rfl
theorem q1012 : (Jvm.Cond.castable "Rulehearth$Together" "Rulehearth$Taker") ∈ lw_tbl := lw_at lw_m4 169 rfl
theorem q1013 : (Jvm.Cond.selects "Rulehearth$Together" ({ cls := "Rulehearth$Taker", name := "take", desc := "([I[I)Z" } : Jvm.MethodName) ({ cls := "Rulehearth$Together", name := "take", desc := "([I[I)Z" } : Jvm.MethodName)) ∈ lw_all := lw_g (lw_at lw_m4 170 rfl) rfl
theorem q1014 : (Jvm.Cond.unhidden "Rulehearth$Together" "take" "([I[I)Z") ∈ lw_tbl := lw_at lw_m4 171 rfl
theorem q1015 : (Jvm.Cond.instanceMethod ({ cls := "Rulehearth$Together", name := "take", desc := "([I[I)Z" } : Jvm.MethodName)) ∈ lw_all := lw_g (lw_at lw_m4 172 rfl) rfl
theorem q1016 : (Jvm.Cond.publicMethod ({ cls := "Rulehearth$Together", name := "take", desc := "([I[I)Z" } : Jvm.MethodName)) ∈ lw_tbl := lw_at lw_m4 173 rfl
theorem q1017 : (Jvm.Cond.code ({ cls := "Rulehearth$Together", name := "take", desc := "([I[I)Z" } : Jvm.MethodName) prog_15_method_2_code (3 : Nat) (Option.some Jvm.ClassFile.FieldType.boolean)) ∈ lw_all := lw_g (lw_at lw_m4 174 rfl) rfl
theorem q1018 : (Jvm.Cond.methodLinkNest "Rulehearth$Together" (28 : Nat) ({ cls := "Rulehearth", name := "maskOf", desc := "([II)J" } : Jvm.MethodName) "Rulehearth") ∈ lw_tbl := lw_at lw_m4 175 rfl
theorem q1023 : (Jvm.Cond.methodLink "Rulehearth$Together" (32 : Nat) ({ cls := "Rulehearth$Group", name := "take", desc := "([I[I)Z" } : Jvm.MethodName)) ∈ lw_all := lw_g (lw_at lw_m4 180 rfl) rfl
theorem q1024 : (Jvm.Cond.superclass "Rulehearth$Together" "Rulehearth$Group") ∈ lw_all := lw_g (lw_at lw_m4 181 rfl) rfl
theorem q1355 : (Jvm.Cond.selects "Rulehearth$Together" ({ cls := "Rulehearth$Group", name := "clear", desc := "()V" } : Jvm.MethodName) ({ cls := "Rulehearth$Group", name := "clear", desc := "()V" } : Jvm.MethodName)) ∈ lw_all := lw_g (lw_at lw_m6 32 rfl) rfl
theorem q1368 : (Jvm.Cond.selects "Rulehearth$Together" ({ cls := "Rulehearth$Group", name := "fact", desc := "(I)I" } : Jvm.MethodName) ({ cls := "Rulehearth$Group", name := "fact", desc := "(I)I" } : Jvm.MethodName)) ∈ lw_all := lw_g (lw_at lw_m6 45 rfl) rfl
theorem q1375 : (Jvm.Cond.selects "Rulehearth$Together" ({ cls := "Rulehearth$Group", name := "value", desc := "()I" } : Jvm.MethodName) ({ cls := "Rulehearth$Group", name := "value", desc := "()I" } : Jvm.MethodName)) ∈ lw_all := lw_g (lw_at lw_m6 52 rfl) rfl
theorem q1733 : (Jvm.Cond.instantiable "Rulehearth$Together" (6 : Nat)) ∈ lw_all := lw_g (lw_at lw_m7 170 rfl) rfl
theorem q1735 : (Jvm.Cond.instanceMethod ({ cls := "Rulehearth$Together", name := "<init>", desc := "(LRulehearth;LRulehearth$Clause;)V" } : Jvm.MethodName)) ∈ lw_all := lw_g (lw_at lw_m7 172 rfl) rfl
theorem q1736 : (Jvm.Cond.code ({ cls := "Rulehearth$Together", name := "<init>", desc := "(LRulehearth;LRulehearth$Clause;)V" } : Jvm.MethodName) prog_15_method_1_code (3 : Nat) (Option.none : Option Jvm.ClassFile.FieldType)) ∈ lw_all := lw_g (lw_at lw_m7 173 rfl) rfl
theorem q1737 : (Jvm.Cond.methodLink "Rulehearth$Together" (9 : Nat) ({ cls := "Rulehearth$Group", name := "<init>", desc := "(LRulehearth$Clause;)V" } : Jvm.MethodName)) ∈ lw_all := lw_g (lw_at lw_m7 174 rfl) rfl
theorem q1738 : (Jvm.Cond.methodLink "Rulehearth$Together" (15 : Nat) ({ cls := "Rulehearth$Clause", name := "atoms", desc := "()I" } : Jvm.MethodName)) ∈ lw_all := lw_g (lw_at lw_m7 175 rfl) rfl
theorem q1739 : (Jvm.Cond.fieldLink "Rulehearth$Together" (21 : Nat) "Rulehearth$Together" "atoms" "I") ∈ lw_all := lw_g (lw_at lw_m7 176 rfl) rfl
theorem q1740 : (Jvm.Cond.fieldLink "Rulehearth$Together" (24 : Nat) "Rulehearth$Together" "mask" "J") ∈ lw_all := lw_g (lw_at lw_m7 177 rfl) rfl
theorem q1741 : (Jvm.Cond.fieldLink "Rulehearth$Together" (3 : Nat) "Rulehearth$Together" "this$0" "LRulehearth;") ∈ lw_all := lw_g (lw_at lw_m7 178 rfl) rfl
theorem q1742 : (Jvm.Cond.laysFinal "Rulehearth$Together" "Rulehearth$Together" "atoms" "I") ∈ lw_all := lw_g (lw_at lw_m7 179 rfl) rfl
theorem q1743 : (Jvm.Cond.soleField "Rulehearth$Together" "atoms") ∈ lw_all := lw_g (lw_at lw_m7 180 rfl) rfl
theorem q1744 : (Jvm.Cond.lays "Rulehearth$Together" "Rulehearth$Together" "mask" "J") ∈ lw_all := lw_g (lw_at lw_m7 181 rfl) rfl
theorem q1745 : (Jvm.Cond.soleField "Rulehearth$Together" "mask") ∈ lw_all := lw_g (lw_at lw_m7 182 rfl) rfl
theorem q1746 : (Jvm.Cond.laysFinal "Rulehearth$Together" "Rulehearth$Together" "this$0" "LRulehearth;") ∈ lw_all := lw_g (lw_at lw_m7 183 rfl) rfl
theorem q1747 : (Jvm.Cond.soleField "Rulehearth$Together" "this$0") ∈ lw_all := lw_g (lw_at lw_m7 184 rfl) rfl
theorem q1748 : (Jvm.Cond.laysFinal "Rulehearth$Together" "Rulehearth$Group" "rule" "LRulehearth$Clause;") ∈ lw_all := lw_g (lw_at lw_m7 185 rfl) rfl
theorem q1749 : (Jvm.Cond.laysFinal "Rulehearth$Together" "Rulehearth$Group" "has" "[Z") ∈ lw_all := lw_g (lw_at lw_m7 186 rfl) rfl
theorem q1750 : (Jvm.Cond.lays "Rulehearth$Together" "Rulehearth$Group" "matches" "I") ∈ lw_all := lw_g (lw_at lw_m7 187 rfl) rfl
theorem q1753 : (Jvm.Cond.instanceMethod ({ cls := "Rulehearth$Together", name := "of", desc := "(ILRulehearth$Matcher;LRulehearth$Clause;[I)J" } : Jvm.MethodName)) ∈ lw_all := lw_g (lw_at lw_m7 190 rfl) rfl
theorem q1754 : (Jvm.Cond.selects "Rulehearth$Together" ({ cls := "Rulehearth$Together", name := "of", desc := "(ILRulehearth$Matcher;LRulehearth$Clause;[I)J" } : Jvm.MethodName) ({ cls := "Rulehearth$Together", name := "of", desc := "(ILRulehearth$Matcher;LRulehearth$Clause;[I)J" } : Jvm.MethodName)) ∈ lw_all := lw_g (lw_at lw_m7 191 rfl) rfl
theorem q1755 : (Jvm.Cond.code ({ cls := "Rulehearth$Together", name := "of", desc := "(ILRulehearth$Matcher;LRulehearth$Clause;[I)J" } : Jvm.MethodName) prog_15_method_3_code (6 : Nat) (Option.some Jvm.ClassFile.FieldType.long)) ∈ lw_all := lw_g (lw_at lw_m7 192 rfl) rfl
theorem q1756 : (Jvm.Cond.methodLink "Rulehearth$Together" (36 : Nat) ({ cls := "Rulehearth$Together", name := "clear", desc := "()V" } : Jvm.MethodName)) ∈ lw_all := lw_g (lw_at lw_m7 193 rfl) rfl
theorem q1757 : (Jvm.Cond.sameMethod "Rulehearth$Together" "Rulehearth$Group" "clear" "()V") ∈ lw_all := lw_g (lw_at lw_m7 194 rfl) rfl
theorem q1759 : (Jvm.Cond.selects "Rulehearth$Together" ({ cls := "Rulehearth$Together", name := "clear", desc := "()V" } : Jvm.MethodName) ({ cls := "Rulehearth$Group", name := "clear", desc := "()V" } : Jvm.MethodName)) ∈ lw_all := lw_g (lw_at lw_m7 196 rfl) rfl
theorem q1760 : (Jvm.Cond.methodLink "Rulehearth$Together" (40 : Nat) ({ cls := "Rulehearth$Clause", name := "binds", desc := "(I[I)Z" } : Jvm.MethodName)) ∈ lw_all := lw_g (lw_at lw_m7 197 rfl) rfl
theorem q1761 : (Jvm.Cond.methodLinkNest "Rulehearth$Together" (44 : Nat) ({ cls := "Rulehearth", name := "runs", desc := "(LRulehearth$Matcher;)I" } : Jvm.MethodName) "Rulehearth") ∈ lw_tbl := lw_at lw_m7 198 rfl
theorem q1762 : (Jvm.Cond.methodLink "Rulehearth$Together" (48 : Nat) ({ cls := "Rulehearth$Together", name := "gives", desc := "(I)Z" } : Jvm.MethodName)) ∈ lw_all := lw_g (lw_at lw_m7 199 rfl) rfl
theorem q1763 : (Jvm.Cond.sameMethod "Rulehearth$Together" "Rulehearth$Group" "gives" "(I)Z") ∈ lw_all := lw_g (lw_at lw_m7 200 rfl) rfl
theorem q1765 : (Jvm.Cond.selects "Rulehearth$Together" ({ cls := "Rulehearth$Together", name := "gives", desc := "(I)Z" } : Jvm.MethodName) ({ cls := "Rulehearth$Group", name := "gives", desc := "(I)Z" } : Jvm.MethodName)) ∈ lw_all := lw_g (lw_at lw_m7 202 rfl) rfl
theorem q1769 : (Jvm.Cond.methodLinkNest "Rulehearth$Together" (52 : Nat) ({ cls := "Rulehearth", name := "forget", desc := "([I)V" } : Jvm.MethodName) "Rulehearth") ∈ lw_tbl := lw_at lw_m7 206 rfl
theorem q1770 : (Jvm.Cond.constantLong "Rulehearth$Together" (56 : Nat) (4611686018427387904 : Int64)) ∈ lw_all := lw_g (lw_at lw_m7 207 rfl) rfl
theorem q2815 : (Jvm.Cond.castable "Rulehearth$Together" "java/lang/Object") ∈ lw_tbl := lw_at lw_m12 52 rfl
theorem in_X13 : ∀ w ∈ wsX130, w ∈ lw_all := lw_in wsX130 [1748, 1749, 1750, 1742, 1744, 1746] (by decide +kernel) (by decide +kernel)
def RX14 : String := "Rulehearth$Why"
def TX14 : u_T := fun k => match k with
  | 0 => ("Rulehearth$Why", "rule", "I", false)
  | 1 => ("Rulehearth$Why", "count", "I", false)
  | _ => ("Rulehearth$Why", "facts", "[I", true)
def tyX14 : Nat → FieldType := fun k => match k with
  | 0 => .int
  | 1 => .int
  | _ => .array .int
abbrev wsX140 : List Cond := u_ws RX14 TX14 3
theorem nmX14 : ∀ a, a < 3 → ∀ b, b < 3 → a ≠ b → (TX14 a).2.1 ≠ (TX14 b).2.1 := by decide +kernel
theorem tyX14_ok : ∀ k, k < 3 → parseFieldDescriptor (TX14 k).2.2.1 = some (tyX14 k) := by decide +kernel
theorem q161 : (Jvm.Cond.initialized "Rulehearth$Why") ∈ lw_all := lw_g (lw_at lw_m1 38 rfl) rfl
theorem q666 : (Jvm.Cond.selects "Rulehearth$Why" ({ cls := "java/lang/Object", name := "getClass", desc := "()Ljava/lang/Class;" } : Jvm.MethodName) ({ cls := "java/lang/Object", name := "getClass", desc := "()Ljava/lang/Class;" } : Jvm.MethodName)) ∈ lw_all := lw_g (lw_at lw_m3 63 rfl) rfl
theorem q807 : (Jvm.Cond.selects "Rulehearth$Why" ({ cls := "java/lang/Object", name := "equals", desc := "(Ljava/lang/Object;)Z" } : Jvm.MethodName) ({ cls := "java/lang/Object", name := "equals", desc := "(Ljava/lang/Object;)Z" } : Jvm.MethodName)) ∈ lw_all := lw_g (lw_at lw_m3 204 rfl) rfl
theorem q1832 : (Jvm.Cond.instantiable "Rulehearth$Why" (3 : Nat)) ∈ lw_all := lw_g (lw_at lw_m8 29 rfl) rfl
theorem q1834 : (Jvm.Cond.instanceMethod ({ cls := "Rulehearth$Why", name := "<init>", desc := "()V" } : Jvm.MethodName)) ∈ lw_all := lw_g (lw_at lw_m8 31 rfl) rfl
theorem q1835 : (Jvm.Cond.code ({ cls := "Rulehearth$Why", name := "<init>", desc := "()V" } : Jvm.MethodName) prog_16_method_1_code (1 : Nat) (Option.none : Option Jvm.ClassFile.FieldType)) ∈ lw_all := lw_g (lw_at lw_m8 32 rfl) rfl
theorem q1836 : (Jvm.Cond.methodLink "Rulehearth$Why" (3 : Nat) ({ cls := "java/lang/Object", name := "<init>", desc := "()V" } : Jvm.MethodName)) ∈ lw_all := lw_g (lw_at lw_m8 33 rfl) rfl
theorem q1837 : (Jvm.Cond.fieldLink "Rulehearth$Why" (9 : Nat) "Rulehearth$Why" "rule" "I") ∈ lw_all := lw_g (lw_at lw_m8 34 rfl) rfl
theorem q1840 : (Jvm.Cond.fieldLink "Rulehearth$Why" (15 : Nat) "Rulehearth$Why" "facts" "[I") ∈ lw_all := lw_g (lw_at lw_m8 37 rfl) rfl
theorem q1842 : (Jvm.Cond.lays "Rulehearth$Why" "Rulehearth$Why" "rule" "I") ∈ lw_all := lw_g (lw_at lw_m8 39 rfl) rfl
theorem q1843 : (Jvm.Cond.soleField "Rulehearth$Why" "rule") ∈ lw_all := lw_g (lw_at lw_m8 40 rfl) rfl
theorem q1844 : (Jvm.Cond.lays "Rulehearth$Why" "Rulehearth$Why" "count" "I") ∈ lw_all := lw_g (lw_at lw_m8 41 rfl) rfl
theorem q1845 : (Jvm.Cond.soleField "Rulehearth$Why" "count") ∈ lw_all := lw_g (lw_at lw_m8 42 rfl) rfl
theorem q1846 : (Jvm.Cond.laysFinal "Rulehearth$Why" "Rulehearth$Why" "facts" "[I") ∈ lw_all := lw_g (lw_at lw_m8 43 rfl) rfl
theorem q1847 : (Jvm.Cond.soleField "Rulehearth$Why" "facts") ∈ lw_all := lw_g (lw_at lw_m8 44 rfl) rfl
theorem q1848 : (Jvm.Cond.superclass "Rulehearth$Why" "java/lang/Object") ∈ lw_all := lw_g (lw_at lw_m8 45 rfl) rfl
theorem q2816 : (Jvm.Cond.castable "Rulehearth$Why" "java/lang/Object") ∈ lw_tbl := lw_at lw_m12 53 rfl
theorem in_X14 : ∀ w ∈ wsX140, w ∈ lw_all := lw_in wsX140 [1842, 1844, 1846] (by decide +kernel) (by decide +kernel)
def RX15 : String := "Rulehearth$First"
def TX15 : u_T := fun k => match k with
  | 0 => ("Rulehearth$First", "reasons", "LRulehearth$Reasons;", true)
  | 1 => ("Rulehearth$First", "standing", "LRulehearth$Facts;", true)
  | 2 => ("Rulehearth$First", "atoms", "I", true)
  | 3 => ("Rulehearth$First", "depth", "I", true)
  | _ => ("Rulehearth$First", "facts", "[I", false)
def tyX15 : Nat → FieldType := fun k => match k with
  | 0 => .object "Rulehearth$Reasons"
  | 1 => .object "Rulehearth$Facts"
  | 2 => .int
  | 3 => .int
  | _ => .array .int
abbrev wsX150 : List Cond := u_ws RX15 TX15 5
theorem nmX15 : ∀ a, a < 5 → ∀ b, b < 5 → a ≠ b → (TX15 a).2.1 ≠ (TX15 b).2.1 := by decide +kernel
theorem tyX15_ok : ∀ k, k < 5 → parseFieldDescriptor (TX15 k).2.2.1 = some (tyX15 k) := by decide +kernel
theorem q162 : (Jvm.Cond.initialized "Rulehearth$First") ∈ lw_all := lw_g (lw_at lw_m1 39 rfl) rfl
theorem q659 : (Jvm.Cond.selects "Rulehearth$First" ({ cls := "java/lang/Object", name := "getClass", desc := "()Ljava/lang/Class;" } : Jvm.MethodName) ({ cls := "java/lang/Object", name := "getClass", desc := "()Ljava/lang/Class;" } : Jvm.MethodName)) ∈ lw_all := lw_g (lw_at lw_m3 56 rfl) rfl
theorem q800 : (Jvm.Cond.selects "Rulehearth$First" ({ cls := "java/lang/Object", name := "equals", desc := "(Ljava/lang/Object;)Z" } : Jvm.MethodName) ({ cls := "java/lang/Object", name := "equals", desc := "(Ljava/lang/Object;)Z" } : Jvm.MethodName)) ∈ lw_all := lw_g (lw_at lw_m3 197 rfl) rfl
theorem q987 : (Jvm.Cond.castable "Rulehearth$First" "Rulehearth$Taker") ∈ lw_tbl := lw_at lw_m4 144 rfl
theorem q988 : (Jvm.Cond.selects "Rulehearth$First" ({ cls := "Rulehearth$Taker", name := "take", desc := "([I[I)Z" } : Jvm.MethodName) ({ cls := "Rulehearth$First", name := "take", desc := "([I[I)Z" } : Jvm.MethodName)) ∈ lw_all := lw_g (lw_at lw_m4 145 rfl) rfl
theorem q989 : (Jvm.Cond.unhidden "Rulehearth$First" "take" "([I[I)Z") ∈ lw_tbl := lw_at lw_m4 146 rfl
theorem q990 : (Jvm.Cond.instanceMethod ({ cls := "Rulehearth$First", name := "take", desc := "([I[I)Z" } : Jvm.MethodName)) ∈ lw_all := lw_g (lw_at lw_m4 147 rfl) rfl
theorem q991 : (Jvm.Cond.publicMethod ({ cls := "Rulehearth$First", name := "take", desc := "([I[I)Z" } : Jvm.MethodName)) ∈ lw_tbl := lw_at lw_m4 148 rfl
theorem q992 : (Jvm.Cond.code ({ cls := "Rulehearth$First", name := "take", desc := "([I[I)Z" } : Jvm.MethodName) prog_8_method_2_code (5 : Nat) (Option.some Jvm.ClassFile.FieldType.boolean)) ∈ lw_all := lw_g (lw_at lw_m4 149 rfl) rfl
theorem q993 : (Jvm.Cond.methodLink "Rulehearth$First" (30 : Nat) ({ cls := "Rulehearth$Facts", name := "indexOf", desc := "(I)I" } : Jvm.MethodName)) ∈ lw_all := lw_g (lw_at lw_m4 150 rfl) rfl
theorem q994 : (Jvm.Cond.methodLink "Rulehearth$First" (36 : Nat) ({ cls := "java/lang/Math", name := "max", desc := "(II)I" } : Jvm.MethodName)) ∈ lw_all := lw_g (lw_at lw_m4 151 rfl) rfl
theorem q995 : (Jvm.Cond.methodLink "Rulehearth$First" (45 : Nat) ({ cls := "Rulehearth$First", name := "isLower", desc := "([I)Z" } : Jvm.MethodName)) ∈ lw_all := lw_g (lw_at lw_m4 152 rfl) rfl
theorem q996 : (Jvm.Cond.privateMethod ({ cls := "Rulehearth$First", name := "isLower", desc := "([I)Z" } : Jvm.MethodName)) ∈ lw_tbl := lw_at lw_m4 153 rfl
theorem q997 : (Jvm.Cond.instanceMethod ({ cls := "Rulehearth$First", name := "isLower", desc := "([I)Z" } : Jvm.MethodName)) ∈ lw_all := lw_g (lw_at lw_m4 154 rfl) rfl
theorem q998 : (Jvm.Cond.instantiable "Rulehearth$First" (5 : Nat)) ∈ lw_all := lw_g (lw_at lw_m4 155 rfl) rfl
theorem q999 : (Jvm.Cond.code ({ cls := "Rulehearth$First", name := "isLower", desc := "([I)Z" } : Jvm.MethodName) prog_8_method_3_code (3 : Nat) (Option.some Jvm.ClassFile.FieldType.boolean)) ∈ lw_all := lw_g (lw_at lw_m4 156 rfl) rfl
theorem q1000 : (Jvm.Cond.methodLink "Rulehearth$First" (49 : Nat) ({ cls := "[I", name := "clone", desc := "()Ljava/lang/Object;" } : Jvm.MethodName)) ∈ lw_all := lw_g (lw_at lw_m4 157 rfl) rfl
theorem q1004 : (Jvm.Cond.classLink "Rulehearth$First" (50 : Nat) "[I") ∈ lw_all := lw_g (lw_at lw_m4 161 rfl) rfl
theorem q1778 : (Jvm.Cond.fieldLinkNest "Rulehearth$First" (24 : Nat) "Rulehearth$Reasons" "depths" "[I" "Rulehearth") ∈ lw_tbl := lw_at lw_m7 215 rfl
theorem q1855 : (Jvm.Cond.instanceMethod ({ cls := "Rulehearth$First", name := "<init>", desc := "(LRulehearth$Reasons;LRulehearth$Facts;II)V" } : Jvm.MethodName)) ∈ lw_all := lw_g (lw_at lw_m8 52 rfl) rfl
theorem q1856 : (Jvm.Cond.code ({ cls := "Rulehearth$First", name := "<init>", desc := "(LRulehearth$Reasons;LRulehearth$Facts;II)V" } : Jvm.MethodName) prog_8_method_1_code (5 : Nat) (Option.none : Option Jvm.ClassFile.FieldType)) ∈ lw_all := lw_g (lw_at lw_m8 53 rfl) rfl
theorem q1857 : (Jvm.Cond.methodLink "Rulehearth$First" (1 : Nat) ({ cls := "java/lang/Object", name := "<init>", desc := "()V" } : Jvm.MethodName)) ∈ lw_all := lw_g (lw_at lw_m8 54 rfl) rfl
theorem q1858 : (Jvm.Cond.fieldLink "Rulehearth$First" (7 : Nat) "Rulehearth$First" "reasons" "LRulehearth$Reasons;") ∈ lw_all := lw_g (lw_at lw_m8 55 rfl) rfl
theorem q1859 : (Jvm.Cond.fieldLink "Rulehearth$First" (13 : Nat) "Rulehearth$First" "standing" "LRulehearth$Facts;") ∈ lw_all := lw_g (lw_at lw_m8 56 rfl) rfl
theorem q1860 : (Jvm.Cond.fieldLink "Rulehearth$First" (17 : Nat) "Rulehearth$First" "atoms" "I") ∈ lw_all := lw_g (lw_at lw_m8 57 rfl) rfl
theorem q1861 : (Jvm.Cond.fieldLink "Rulehearth$First" (21 : Nat) "Rulehearth$First" "depth" "I") ∈ lw_all := lw_g (lw_at lw_m8 58 rfl) rfl
theorem q1862 : (Jvm.Cond.fieldLink "Rulehearth$First" (42 : Nat) "Rulehearth$First" "facts" "[I") ∈ lw_all := lw_g (lw_at lw_m8 59 rfl) rfl
theorem q1864 : (Jvm.Cond.laysFinal "Rulehearth$First" "Rulehearth$First" "reasons" "LRulehearth$Reasons;") ∈ lw_all := lw_g (lw_at lw_m8 61 rfl) rfl
theorem q1865 : (Jvm.Cond.soleField "Rulehearth$First" "reasons") ∈ lw_all := lw_g (lw_at lw_m8 62 rfl) rfl
theorem q1866 : (Jvm.Cond.laysFinal "Rulehearth$First" "Rulehearth$First" "standing" "LRulehearth$Facts;") ∈ lw_all := lw_g (lw_at lw_m8 63 rfl) rfl
theorem q1867 : (Jvm.Cond.soleField "Rulehearth$First" "standing") ∈ lw_all := lw_g (lw_at lw_m8 64 rfl) rfl
theorem q1868 : (Jvm.Cond.laysFinal "Rulehearth$First" "Rulehearth$First" "atoms" "I") ∈ lw_all := lw_g (lw_at lw_m8 65 rfl) rfl
theorem q1869 : (Jvm.Cond.soleField "Rulehearth$First" "atoms") ∈ lw_all := lw_g (lw_at lw_m8 66 rfl) rfl
theorem q1870 : (Jvm.Cond.laysFinal "Rulehearth$First" "Rulehearth$First" "depth" "I") ∈ lw_all := lw_g (lw_at lw_m8 67 rfl) rfl
theorem q1871 : (Jvm.Cond.soleField "Rulehearth$First" "depth") ∈ lw_all := lw_g (lw_at lw_m8 68 rfl) rfl
theorem q1872 : (Jvm.Cond.lays "Rulehearth$First" "Rulehearth$First" "facts" "[I") ∈ lw_all := lw_g (lw_at lw_m8 69 rfl) rfl
theorem q1873 : (Jvm.Cond.soleField "Rulehearth$First" "facts") ∈ lw_all := lw_g (lw_at lw_m8 70 rfl) rfl
theorem q1874 : (Jvm.Cond.superclass "Rulehearth$First" "java/lang/Object") ∈ lw_all := lw_g (lw_at lw_m8 71 rfl) rfl
theorem q2817 : (Jvm.Cond.castable "Rulehearth$First" "java/lang/Object") ∈ lw_tbl := lw_at lw_m12 54 rfl
theorem in_X15 : ∀ w ∈ wsX150, w ∈ lw_all := lw_in wsX150 [1864, 1866, 1868, 1870, 1872] (by decide +kernel) (by decide +kernel)
def RX16 : String := "Rulehearth$Goals"
def TX16 : u_T := fun k => match k with
  | 0 => ("Rulehearth$Goals", "goals", "[I", true)
  | 1 => ("Rulehearth$Goals", "many", "I", false)
  | 2 => ("Rulehearth$Goals", "values", "[I", true)
  | 3 => ("Rulehearth$Goals", "askers", "Ljava/util/ArrayList;", true)
  | _ => ("Rulehearth$Goals", "this$0", "LRulehearth;", true)
def tyX16 : Nat → FieldType := fun k => match k with
  | 0 => .array .int
  | 1 => .int
  | 2 => .array .int
  | 3 => .object "java/util/ArrayList"
  | _ => .object "Rulehearth"
abbrev wsX160 : List Cond := u_ws RX16 TX16 5
theorem nmX16 : ∀ a, a < 5 → ∀ b, b < 5 → a ≠ b → (TX16 a).2.1 ≠ (TX16 b).2.1 := by decide +kernel
theorem tyX16_ok : ∀ k, k < 5 → parseFieldDescriptor (TX16 k).2.2.1 = some (tyX16 k) := by decide +kernel
theorem q163 : (Jvm.Cond.initialized "Rulehearth$Goals") ∈ lw_all := lw_g (lw_at lw_m1 40 rfl) rfl
theorem q561 : (Jvm.Cond.fieldLink "Rulehearth$Goals" (93 : Nat) "Rulehearth$World" "standing" "LRulehearth$Facts;") ∈ lw_all := lw_g (lw_at lw_m2 198 rfl) rfl
theorem q567 : (Jvm.Cond.fieldLink "Rulehearth$Goals" (68 : Nat) "Rulehearth$World" "rules" "Ljava/util/ArrayList;") ∈ lw_all := lw_g (lw_at lw_m2 204 rfl) rfl
theorem q660 : (Jvm.Cond.selects "Rulehearth$Goals" ({ cls := "java/lang/Object", name := "getClass", desc := "()Ljava/lang/Class;" } : Jvm.MethodName) ({ cls := "java/lang/Object", name := "getClass", desc := "()Ljava/lang/Class;" } : Jvm.MethodName)) ∈ lw_all := lw_g (lw_at lw_m3 57 rfl) rfl
theorem q685 : (Jvm.Cond.fieldLinkNest "Rulehearth$Goals" (64 : Nat) "Rulehearth" "world" "LRulehearth$World;" "Rulehearth") ∈ lw_tbl := lw_at lw_m3 82 rfl
theorem q801 : (Jvm.Cond.selects "Rulehearth$Goals" ({ cls := "java/lang/Object", name := "equals", desc := "(Ljava/lang/Object;)Z" } : Jvm.MethodName) ({ cls := "java/lang/Object", name := "equals", desc := "(Ljava/lang/Object;)Z" } : Jvm.MethodName)) ∈ lw_all := lw_g (lw_at lw_m3 198 rfl) rfl
theorem q1475 : (Jvm.Cond.fieldLink "Rulehearth$Goals" (88 : Nat) "Rulehearth$Item" "kind" "I") ∈ lw_all := lw_g (lw_at lw_m6 152 rfl) rfl
theorem q1478 : (Jvm.Cond.fieldLink "Rulehearth$Goals" (3 : Nat) "Rulehearth$Item" "what" "I") ∈ lw_all := lw_g (lw_at lw_m6 155 rfl) rfl
theorem q1485 : (Jvm.Cond.fieldLink "Rulehearth$Goals" (9 : Nat) "Rulehearth$Item" "terms" "[I") ∈ lw_all := lw_g (lw_at lw_m6 162 rfl) rfl
theorem q1510 : (Jvm.Cond.fieldLink "Rulehearth$Goals" (25 : Nat) "Rulehearth$Clause" "head" "LRulehearth$Item;") ∈ lw_all := lw_g (lw_at lw_m6 187 rfl) rfl
theorem q1518 : (Jvm.Cond.fieldLink "Rulehearth$Goals" (31 : Nat) "Rulehearth$Clause" "gathered" "I") ∈ lw_all := lw_g (lw_at lw_m6 195 rfl) rfl
theorem q1526 : (Jvm.Cond.fieldLink "Rulehearth$Goals" (81 : Nat) "Rulehearth$Clause" "body" "Ljava/util/ArrayList;") ∈ lw_all := lw_g (lw_at lw_m6 203 rfl) rfl
theorem q1931 : (Jvm.Cond.instantiable "Rulehearth$Goals" (5 : Nat)) ∈ lw_all := lw_g (lw_at lw_m8 128 rfl) rfl
theorem q1933 : (Jvm.Cond.instanceMethod ({ cls := "Rulehearth$Goals", name := "<init>", desc := "(LRulehearth;)V" } : Jvm.MethodName)) ∈ lw_all := lw_g (lw_at lw_m8 130 rfl) rfl
theorem q1934 : (Jvm.Cond.code ({ cls := "Rulehearth$Goals", name := "<init>", desc := "(LRulehearth;)V" } : Jvm.MethodName) prog_9_method_4_code (8 : Nat) (Option.none : Option Jvm.ClassFile.FieldType)) ∈ lw_all := lw_g (lw_at lw_m8 131 rfl) rfl
theorem q1935 : (Jvm.Cond.methodLink "Rulehearth$Goals" (42 : Nat) ({ cls := "java/lang/Object", name := "<init>", desc := "()V" } : Jvm.MethodName)) ∈ lw_all := lw_g (lw_at lw_m8 132 rfl) rfl
theorem q1936 : (Jvm.Cond.methodLinkNest "Rulehearth$Goals" (48 : Nat) ({ cls := "Rulehearth", name := "unknown", desc := "()[I" } : Jvm.MethodName) "Rulehearth") ∈ lw_tbl := lw_at lw_m8 133 rfl
theorem q1937 : (Jvm.Cond.classLink "Rulehearth$Goals" (55 : Nat) "java/util/ArrayList") ∈ lw_all := lw_g (lw_at lw_m8 134 rfl) rfl
theorem q1938 : (Jvm.Cond.methodLink "Rulehearth$Goals" (57 : Nat) ({ cls := "java/util/ArrayList", name := "<init>", desc := "(I)V" } : Jvm.MethodName)) ∈ lw_all := lw_g (lw_at lw_m8 135 rfl) rfl
theorem q1939 : (Jvm.Cond.methodLink "Rulehearth$Goals" (73 : Nat) ({ cls := "java/util/ArrayList", name := "size", desc := "()I" } : Jvm.MethodName)) ∈ lw_all := lw_g (lw_at lw_m8 136 rfl) rfl
theorem q1940 : (Jvm.Cond.methodLink "Rulehearth$Goals" (77 : Nat) ({ cls := "java/util/ArrayList", name := "get", desc := "(I)Ljava/lang/Object;" } : Jvm.MethodName)) ∈ lw_all := lw_g (lw_at lw_m8 137 rfl) rfl
theorem q1941 : (Jvm.Cond.classLink "Rulehearth$Goals" (26 : Nat) "Rulehearth$Clause") ∈ lw_all := lw_g (lw_at lw_m8 138 rfl) rfl
theorem q1942 : (Jvm.Cond.classLink "Rulehearth$Goals" (4 : Nat) "Rulehearth$Item") ∈ lw_all := lw_g (lw_at lw_m8 139 rfl) rfl
theorem q1943 : (Jvm.Cond.privateMethod ({ cls := "Rulehearth$Goals", name := "lambda$new$0", desc := "(LRulehearth$Item;[I[I)Z" } : Jvm.MethodName)) ∈ lw_tbl := lw_at lw_m8 140 rfl
theorem q1944 : (Jvm.Cond.instanceMethod ({ cls := "Rulehearth$Goals", name := "lambda$new$0", desc := "(LRulehearth$Item;[I[I)Z" } : Jvm.MethodName)) ∈ lw_all := lw_g (lw_at lw_m8 141 rfl) rfl
theorem q1945 : (Jvm.Cond.code ({ cls := "Rulehearth$Goals", name := "lambda$new$0", desc := "(LRulehearth$Item;[I[I)Z" } : Jvm.MethodName) prog_9_method_7_code (4 : Nat) (Option.some Jvm.ClassFile.FieldType.boolean)) ∈ lw_all := lw_g (lw_at lw_m8 142 rfl) rfl
theorem q1946 : (Jvm.Cond.methodLink "Rulehearth$Goals" (123 : Nat) ({ cls := "Rulehearth$Goals", name := "goalOf", desc := "(LRulehearth$Item;[I)I" } : Jvm.MethodName)) ∈ lw_all := lw_g (lw_at lw_m8 143 rfl) rfl
theorem q1947 : (Jvm.Cond.privateMethod ({ cls := "Rulehearth$Goals", name := "goalOf", desc := "(LRulehearth$Item;[I)I" } : Jvm.MethodName)) ∈ lw_tbl := lw_at lw_m8 144 rfl
theorem q1948 : (Jvm.Cond.instanceMethod ({ cls := "Rulehearth$Goals", name := "goalOf", desc := "(LRulehearth$Item;[I)I" } : Jvm.MethodName)) ∈ lw_all := lw_g (lw_at lw_m8 145 rfl) rfl
theorem q1949 : (Jvm.Cond.code ({ cls := "Rulehearth$Goals", name := "goalOf", desc := "(LRulehearth$Item;[I)I" } : Jvm.MethodName) prog_9_method_1_code (5 : Nat) (Option.some Jvm.ClassFile.FieldType.int)) ∈ lw_all := lw_g (lw_at lw_m8 146 rfl) rfl
theorem q1950 : (Jvm.Cond.methodLinkNest "Rulehearth$Goals" (13 : Nat) ({ cls := "Rulehearth", name := "valueOf", desc := "(I[I)I" } : Jvm.MethodName) "Rulehearth") ∈ lw_tbl := lw_at lw_m8 147 rfl
theorem q1951 : (Jvm.Cond.methodLink "Rulehearth$Goals" (116 : Nat) ({ cls := "Rulehearth$Goals", name := "setUp", desc := "(I)V" } : Jvm.MethodName)) ∈ lw_all := lw_g (lw_at lw_m8 148 rfl) rfl
theorem q1952 : (Jvm.Cond.privateMethod ({ cls := "Rulehearth$Goals", name := "setUp", desc := "(I)V" } : Jvm.MethodName)) ∈ lw_tbl := lw_at lw_m8 149 rfl
theorem q1953 : (Jvm.Cond.instanceMethod ({ cls := "Rulehearth$Goals", name := "setUp", desc := "(I)V" } : Jvm.MethodName)) ∈ lw_all := lw_g (lw_at lw_m8 150 rfl) rfl
theorem q1954 : (Jvm.Cond.code ({ cls := "Rulehearth$Goals", name := "setUp", desc := "(I)V" } : Jvm.MethodName) prog_9_method_2_code (4 : Nat) (Option.none : Option Jvm.ClassFile.FieldType)) ∈ lw_all := lw_g (lw_at lw_m8 151 rfl) rfl
theorem q1955 : (Jvm.Cond.classLink "Rulehearth$Goals" (91 : Nat) "Rulehearth$Matcher") ∈ lw_all := lw_g (lw_at lw_m8 152 rfl) rfl
theorem q1956 : (Jvm.Cond.methodLink "Rulehearth$Goals" (97 : Nat) ({ cls := "Rulehearth$Matcher", name := "<init>", desc := "(Ljava/util/ArrayList;ILRulehearth$Facts;[ILRulehearth$Taker;)V" } : Jvm.MethodName)) ∈ lw_all := lw_g (lw_at lw_m8 153 rfl) rfl
theorem q1957 : (Jvm.Cond.methodLink "Rulehearth$Goals" (100 : Nat) ({ cls := "java/util/ArrayList", name := "add", desc := "(Ljava/lang/Object;)Z" } : Jvm.MethodName)) ∈ lw_all := lw_g (lw_at lw_m8 154 rfl) rfl
theorem q1958 : (Jvm.Cond.fieldLink "Rulehearth$Goals" (22 : Nat) "Rulehearth$Goals" "goals" "[I") ∈ lw_all := lw_g (lw_at lw_m8 155 rfl) rfl
theorem q1959 : (Jvm.Cond.fieldLink "Rulehearth$Goals" (17 : Nat) "Rulehearth$Goals" "many" "I") ∈ lw_all := lw_g (lw_at lw_m8 156 rfl) rfl
theorem q1960 : (Jvm.Cond.fieldLink "Rulehearth$Goals" (52 : Nat) "Rulehearth$Goals" "values" "[I") ∈ lw_all := lw_g (lw_at lw_m8 157 rfl) rfl
theorem q1961 : (Jvm.Cond.fieldLink "Rulehearth$Goals" (60 : Nat) "Rulehearth$Goals" "askers" "Ljava/util/ArrayList;") ∈ lw_all := lw_g (lw_at lw_m8 158 rfl) rfl
theorem q1962 : (Jvm.Cond.fieldLink "Rulehearth$Goals" (38 : Nat) "Rulehearth$Goals" "this$0" "LRulehearth;") ∈ lw_all := lw_g (lw_at lw_m8 159 rfl) rfl
theorem q1963 : (Jvm.Cond.laysFinal "Rulehearth$Goals" "Rulehearth$Goals" "goals" "[I") ∈ lw_all := lw_g (lw_at lw_m8 160 rfl) rfl
theorem q1964 : (Jvm.Cond.soleField "Rulehearth$Goals" "goals") ∈ lw_all := lw_g (lw_at lw_m8 161 rfl) rfl
theorem q1965 : (Jvm.Cond.lays "Rulehearth$Goals" "Rulehearth$Goals" "many" "I") ∈ lw_all := lw_g (lw_at lw_m8 162 rfl) rfl
theorem q1966 : (Jvm.Cond.soleField "Rulehearth$Goals" "many") ∈ lw_all := lw_g (lw_at lw_m8 163 rfl) rfl
theorem q1967 : (Jvm.Cond.laysFinal "Rulehearth$Goals" "Rulehearth$Goals" "values" "[I") ∈ lw_all := lw_g (lw_at lw_m8 164 rfl) rfl
theorem q1968 : (Jvm.Cond.soleField "Rulehearth$Goals" "values") ∈ lw_all := lw_g (lw_at lw_m8 165 rfl) rfl
theorem q1969 : (Jvm.Cond.laysFinal "Rulehearth$Goals" "Rulehearth$Goals" "askers" "Ljava/util/ArrayList;") ∈ lw_all := lw_g (lw_at lw_m8 166 rfl) rfl
theorem q1970 : (Jvm.Cond.soleField "Rulehearth$Goals" "askers") ∈ lw_all := lw_g (lw_at lw_m8 167 rfl) rfl
theorem q1971 : (Jvm.Cond.laysFinal "Rulehearth$Goals" "Rulehearth$Goals" "this$0" "LRulehearth;") ∈ lw_all := lw_g (lw_at lw_m8 168 rfl) rfl
theorem q1972 : (Jvm.Cond.soleField "Rulehearth$Goals" "this$0") ∈ lw_all := lw_g (lw_at lw_m8 169 rfl) rfl
theorem q1973 : (Jvm.Cond.superclass "Rulehearth$Goals" "java/lang/Object") ∈ lw_all := lw_g (lw_at lw_m8 170 rfl) rfl
theorem q1975 : (Jvm.Cond.instanceMethod ({ cls := "Rulehearth$Goals", name := "count", desc := "(I)I" } : Jvm.MethodName)) ∈ lw_all := lw_g (lw_at lw_m8 172 rfl) rfl
theorem q1976 : (Jvm.Cond.selects "Rulehearth$Goals" ({ cls := "Rulehearth$Goals", name := "count", desc := "(I)I" } : Jvm.MethodName) ({ cls := "Rulehearth$Goals", name := "count", desc := "(I)I" } : Jvm.MethodName)) ∈ lw_all := lw_g (lw_at lw_m8 173 rfl) rfl
theorem q1977 : (Jvm.Cond.code ({ cls := "Rulehearth$Goals", name := "count", desc := "(I)I" } : Jvm.MethodName) prog_9_method_6_code (4 : Nat) (Option.some Jvm.ClassFile.FieldType.int)) ∈ lw_all := lw_g (lw_at lw_m8 174 rfl) rfl
theorem q1978 : (Jvm.Cond.methodLink "Rulehearth$Goals" (119 : Nat) ({ cls := "Rulehearth$Goals", name := "ask", desc := "(II)V" } : Jvm.MethodName)) ∈ lw_all := lw_g (lw_at lw_m8 175 rfl) rfl
theorem q1979 : (Jvm.Cond.privateMethod ({ cls := "Rulehearth$Goals", name := "ask", desc := "(II)V" } : Jvm.MethodName)) ∈ lw_tbl := lw_at lw_m8 176 rfl
theorem q1980 : (Jvm.Cond.instanceMethod ({ cls := "Rulehearth$Goals", name := "ask", desc := "(II)V" } : Jvm.MethodName)) ∈ lw_all := lw_g (lw_at lw_m8 177 rfl) rfl
theorem q1981 : (Jvm.Cond.code ({ cls := "Rulehearth$Goals", name := "ask", desc := "(II)V" } : Jvm.MethodName) prog_9_method_5_code (4 : Nat) (Option.none : Option Jvm.ClassFile.FieldType)) ∈ lw_all := lw_g (lw_at lw_m8 178 rfl) rfl
theorem q1982 : (Jvm.Cond.methodLink "Rulehearth$Goals" (104 : Nat) ({ cls := "Rulehearth$Goals", name := "binds", desc := "(LRulehearth$Clause;I[I)Z" } : Jvm.MethodName)) ∈ lw_all := lw_g (lw_at lw_m8 179 rfl) rfl
theorem q1983 : (Jvm.Cond.privateMethod ({ cls := "Rulehearth$Goals", name := "binds", desc := "(LRulehearth$Clause;I[I)Z" } : Jvm.MethodName)) ∈ lw_tbl := lw_at lw_m8 180 rfl
theorem q1984 : (Jvm.Cond.instanceMethod ({ cls := "Rulehearth$Goals", name := "binds", desc := "(LRulehearth$Clause;I[I)Z" } : Jvm.MethodName)) ∈ lw_all := lw_g (lw_at lw_m8 181 rfl) rfl
theorem q1985 : (Jvm.Cond.code ({ cls := "Rulehearth$Goals", name := "binds", desc := "(LRulehearth$Clause;I[I)Z" } : Jvm.MethodName) prog_9_method_3_code (8 : Nat) (Option.some Jvm.ClassFile.FieldType.boolean)) ∈ lw_all := lw_g (lw_at lw_m8 182 rfl) rfl
theorem q1986 : (Jvm.Cond.methodLinkNest "Rulehearth$Goals" (34 : Nat) ({ cls := "Rulehearth", name := "bind", desc := "(II[I)Z" } : Jvm.MethodName) "Rulehearth") ∈ lw_tbl := lw_at lw_m8 183 rfl
theorem q1987 : (Jvm.Cond.methodLinkNest "Rulehearth$Goals" (108 : Nat) ({ cls := "Rulehearth", name := "runs", desc := "(LRulehearth$Matcher;)I" } : Jvm.MethodName) "Rulehearth") ∈ lw_tbl := lw_at lw_m8 184 rfl
theorem q1988 : (Jvm.Cond.methodLinkNest "Rulehearth$Goals" (112 : Nat) ({ cls := "Rulehearth", name := "forget", desc := "([I)V" } : Jvm.MethodName) "Rulehearth") ∈ lw_tbl := lw_at lw_m8 185 rfl
theorem q2818 : (Jvm.Cond.castable "Rulehearth$Goals" "java/lang/Object") ∈ lw_tbl := lw_at lw_m12 55 rfl
theorem in_X16 : ∀ w ∈ wsX160, w ∈ lw_all := lw_in wsX160 [1963, 1965, 1967, 1969, 1971] (by decide +kernel) (by decide +kernel)
def RX17 : String := "Rulehearth$Agenda"
def TX17 : u_T := fun k => match k with
  | 0 => ("Rulehearth$Agenda", "world", "LRulehearth$World;", true)
  | 1 => ("Rulehearth$Agenda", "module", "I", true)
  | 2 => ("Rulehearth$Agenda", "deed", "LRulehearth$Clause;", false)
  | 3 => ("Rulehearth$Agenda", "many", "I", false)
  | 4 => ("Rulehearth$Agenda", "best", "LRulehearth$Clause;", false)
  | 5 => ("Rulehearth$Agenda", "bestTag", "I", false)
  | 6 => ("Rulehearth$Agenda", "bestFact", "I", false)
  | _ => ("Rulehearth$Agenda", "facts", "[I", true)
def tyX17 : Nat → FieldType := fun k => match k with
  | 0 => .object "Rulehearth$World"
  | 1 => .int
  | 2 => .object "Rulehearth$Clause"
  | 3 => .int
  | 4 => .object "Rulehearth$Clause"
  | 5 => .int
  | 6 => .int
  | _ => .array .int
abbrev wsX170 : List Cond := u_ws RX17 TX17 8
theorem nmX17 : ∀ a, a < 8 → ∀ b, b < 8 → a ≠ b → (TX17 a).2.1 ≠ (TX17 b).2.1 := by decide +kernel
theorem tyX17_ok : ∀ k, k < 8 → parseFieldDescriptor (TX17 k).2.2.1 = some (tyX17 k) := by decide +kernel
theorem q164 : (Jvm.Cond.initialized "Rulehearth$Agenda") ∈ lw_all := lw_g (lw_at lw_m1 41 rfl) rfl
theorem q560 : (Jvm.Cond.fieldLink "Rulehearth$Agenda" (51 : Nat) "Rulehearth$World" "standing" "LRulehearth$Facts;") ∈ lw_all := lw_g (lw_at lw_m2 197 rfl) rfl
theorem q570 : (Jvm.Cond.fieldLink "Rulehearth$Agenda" (23 : Nat) "Rulehearth$World" "deeds" "Ljava/util/ArrayList;") ∈ lw_all := lw_g (lw_at lw_m2 207 rfl) rfl
theorem q653 : (Jvm.Cond.selects "Rulehearth$Agenda" ({ cls := "java/lang/Object", name := "getClass", desc := "()Ljava/lang/Class;" } : Jvm.MethodName) ({ cls := "java/lang/Object", name := "getClass", desc := "()Ljava/lang/Class;" } : Jvm.MethodName)) ∈ lw_all := lw_g (lw_at lw_m3 50 rfl) rfl
theorem q794 : (Jvm.Cond.selects "Rulehearth$Agenda" ({ cls := "java/lang/Object", name := "equals", desc := "(Ljava/lang/Object;)Z" } : Jvm.MethodName) ({ cls := "java/lang/Object", name := "equals", desc := "(Ljava/lang/Object;)Z" } : Jvm.MethodName)) ∈ lw_all := lw_g (lw_at lw_m3 191 rfl) rfl
theorem q838 : (Jvm.Cond.instantiable "Rulehearth$Agenda" (8 : Nat)) ∈ lw_all := lw_g (lw_at lw_m3 235 rfl) rfl
theorem q842 : (Jvm.Cond.instanceMethod ({ cls := "Rulehearth$Agenda", name := "<init>", desc := "(LRulehearth$World;I)V" } : Jvm.MethodName)) ∈ lw_all := lw_g (lw_at lw_m3 239 rfl) rfl
theorem q843 : (Jvm.Cond.code ({ cls := "Rulehearth$Agenda", name := "<init>", desc := "(LRulehearth$World;I)V" } : Jvm.MethodName) prog_2_method_1_code (3 : Nat) (Option.none : Option Jvm.ClassFile.FieldType)) ∈ lw_all := lw_g (lw_at lw_m4 0 rfl) rfl
theorem q844 : (Jvm.Cond.methodLink "Rulehearth$Agenda" (3 : Nat) ({ cls := "java/lang/Object", name := "<init>", desc := "()V" } : Jvm.MethodName)) ∈ lw_all := lw_g (lw_at lw_m4 1 rfl) rfl
theorem q845 : (Jvm.Cond.fieldLink "Rulehearth$Agenda" (15 : Nat) "Rulehearth$Agenda" "world" "LRulehearth$World;") ∈ lw_all := lw_g (lw_at lw_m4 2 rfl) rfl
theorem q846 : (Jvm.Cond.fieldLink "Rulehearth$Agenda" (19 : Nat) "Rulehearth$Agenda" "module" "I") ∈ lw_all := lw_g (lw_at lw_m4 3 rfl) rfl
theorem q847 : (Jvm.Cond.fieldLink "Rulehearth$Agenda" (41 : Nat) "Rulehearth$Agenda" "deed" "LRulehearth$Clause;") ∈ lw_all := lw_g (lw_at lw_m4 4 rfl) rfl
theorem q848 : (Jvm.Cond.fieldLink "Rulehearth$Agenda" (76 : Nat) "Rulehearth$Agenda" "many" "I") ∈ lw_all := lw_g (lw_at lw_m4 5 rfl) rfl
theorem q850 : (Jvm.Cond.fieldLink "Rulehearth$Agenda" (89 : Nat) "Rulehearth$Agenda" "best" "LRulehearth$Clause;") ∈ lw_all := lw_g (lw_at lw_m4 7 rfl) rfl
theorem q852 : (Jvm.Cond.fieldLink "Rulehearth$Agenda" (96 : Nat) "Rulehearth$Agenda" "bestTag" "I") ∈ lw_all := lw_g (lw_at lw_m4 9 rfl) rfl
theorem q853 : (Jvm.Cond.fieldLink "Rulehearth$Agenda" (103 : Nat) "Rulehearth$Agenda" "bestFact" "I") ∈ lw_all := lw_g (lw_at lw_m4 10 rfl) rfl
theorem q855 : (Jvm.Cond.fieldLink "Rulehearth$Agenda" (9 : Nat) "Rulehearth$Agenda" "facts" "[I") ∈ lw_all := lw_g (lw_at lw_m4 12 rfl) rfl
theorem q857 : (Jvm.Cond.laysFinal "Rulehearth$Agenda" "Rulehearth$Agenda" "world" "LRulehearth$World;") ∈ lw_all := lw_g (lw_at lw_m4 14 rfl) rfl
theorem q858 : (Jvm.Cond.soleField "Rulehearth$Agenda" "world") ∈ lw_all := lw_g (lw_at lw_m4 15 rfl) rfl
theorem q859 : (Jvm.Cond.laysFinal "Rulehearth$Agenda" "Rulehearth$Agenda" "module" "I") ∈ lw_all := lw_g (lw_at lw_m4 16 rfl) rfl
theorem q860 : (Jvm.Cond.soleField "Rulehearth$Agenda" "module") ∈ lw_all := lw_g (lw_at lw_m4 17 rfl) rfl
theorem q861 : (Jvm.Cond.lays "Rulehearth$Agenda" "Rulehearth$Agenda" "deed" "LRulehearth$Clause;") ∈ lw_all := lw_g (lw_at lw_m4 18 rfl) rfl
theorem q862 : (Jvm.Cond.soleField "Rulehearth$Agenda" "deed") ∈ lw_all := lw_g (lw_at lw_m4 19 rfl) rfl
theorem q863 : (Jvm.Cond.lays "Rulehearth$Agenda" "Rulehearth$Agenda" "many" "I") ∈ lw_all := lw_g (lw_at lw_m4 20 rfl) rfl
theorem q864 : (Jvm.Cond.soleField "Rulehearth$Agenda" "many") ∈ lw_all := lw_g (lw_at lw_m4 21 rfl) rfl
theorem q865 : (Jvm.Cond.lays "Rulehearth$Agenda" "Rulehearth$Agenda" "best" "LRulehearth$Clause;") ∈ lw_all := lw_g (lw_at lw_m4 22 rfl) rfl
theorem q866 : (Jvm.Cond.soleField "Rulehearth$Agenda" "best") ∈ lw_all := lw_g (lw_at lw_m4 23 rfl) rfl
theorem q867 : (Jvm.Cond.lays "Rulehearth$Agenda" "Rulehearth$Agenda" "bestTag" "I") ∈ lw_all := lw_g (lw_at lw_m4 24 rfl) rfl
theorem q868 : (Jvm.Cond.soleField "Rulehearth$Agenda" "bestTag") ∈ lw_all := lw_g (lw_at lw_m4 25 rfl) rfl
theorem q869 : (Jvm.Cond.lays "Rulehearth$Agenda" "Rulehearth$Agenda" "bestFact" "I") ∈ lw_all := lw_g (lw_at lw_m4 26 rfl) rfl
theorem q870 : (Jvm.Cond.soleField "Rulehearth$Agenda" "bestFact") ∈ lw_all := lw_g (lw_at lw_m4 27 rfl) rfl
theorem q871 : (Jvm.Cond.laysFinal "Rulehearth$Agenda" "Rulehearth$Agenda" "facts" "[I") ∈ lw_all := lw_g (lw_at lw_m4 28 rfl) rfl
theorem q872 : (Jvm.Cond.soleField "Rulehearth$Agenda" "facts") ∈ lw_all := lw_g (lw_at lw_m4 29 rfl) rfl
theorem q873 : (Jvm.Cond.superclass "Rulehearth$Agenda" "java/lang/Object") ∈ lw_all := lw_g (lw_at lw_m4 30 rfl) rfl
theorem q875 : (Jvm.Cond.instanceMethod ({ cls := "Rulehearth$Agenda", name := "look", desc := "()LRulehearth$Agenda;" } : Jvm.MethodName)) ∈ lw_all := lw_g (lw_at lw_m4 32 rfl) rfl
theorem q876 : (Jvm.Cond.selects "Rulehearth$Agenda" ({ cls := "Rulehearth$Agenda", name := "look", desc := "()LRulehearth$Agenda;" } : Jvm.MethodName) ({ cls := "Rulehearth$Agenda", name := "look", desc := "()LRulehearth$Agenda;" } : Jvm.MethodName)) ∈ lw_all := lw_g (lw_at lw_m4 33 rfl) rfl
theorem q877 : (Jvm.Cond.code ({ cls := "Rulehearth$Agenda", name := "look", desc := "()LRulehearth$Agenda;" } : Jvm.MethodName) prog_2_method_2_code (2 : Nat) (Option.some (Jvm.ClassFile.FieldType.object "Rulehearth$Agenda"))) ∈ lw_all := lw_g (lw_at lw_m4 34 rfl) rfl
theorem q878 : (Jvm.Cond.methodLink "Rulehearth$Agenda" (29 : Nat) ({ cls := "java/util/ArrayList", name := "size", desc := "()I" } : Jvm.MethodName)) ∈ lw_all := lw_g (lw_at lw_m4 35 rfl) rfl
theorem q879 : (Jvm.Cond.methodLink "Rulehearth$Agenda" (35 : Nat) ({ cls := "java/util/ArrayList", name := "get", desc := "(I)Ljava/lang/Object;" } : Jvm.MethodName)) ∈ lw_all := lw_g (lw_at lw_m4 36 rfl) rfl
theorem q880 : (Jvm.Cond.classLink "Rulehearth$Agenda" (39 : Nat) "Rulehearth$Clause") ∈ lw_all := lw_g (lw_at lw_m4 37 rfl) rfl
theorem q881 : (Jvm.Cond.classLink "Rulehearth$Agenda" (46 : Nat) "Rulehearth$Matcher") ∈ lw_all := lw_g (lw_at lw_m4 38 rfl) rfl
theorem q883 : (Jvm.Cond.methodLinkNest "Rulehearth$Agenda" (55 : Nat) ({ cls := "Rulehearth", name := "unknown", desc := "()[I" } : Jvm.MethodName) "Rulehearth") ∈ lw_tbl := lw_at lw_m4 40 rfl
theorem q884 : (Jvm.Cond.methodLink "Rulehearth$Agenda" (59 : Nat) ({ cls := "Rulehearth$Matcher", name := "<init>", desc := "(Ljava/util/ArrayList;ILRulehearth$Facts;[ILRulehearth$Taker;)V" } : Jvm.MethodName)) ∈ lw_all := lw_g (lw_at lw_m4 41 rfl) rfl
theorem q920 : (Jvm.Cond.methodLinkNest "Rulehearth$Agenda" (62 : Nat) ({ cls := "Rulehearth", name := "runs", desc := "(LRulehearth$Matcher;)I" } : Jvm.MethodName) "Rulehearth") ∈ lw_tbl := lw_at lw_m4 77 rfl
theorem q937 : (Jvm.Cond.castable "Rulehearth$Agenda" "Rulehearth$Taker") ∈ lw_tbl := lw_at lw_m4 94 rfl
theorem q938 : (Jvm.Cond.selects "Rulehearth$Agenda" ({ cls := "Rulehearth$Taker", name := "take", desc := "([I[I)Z" } : Jvm.MethodName) ({ cls := "Rulehearth$Agenda", name := "take", desc := "([I[I)Z" } : Jvm.MethodName)) ∈ lw_all := lw_g (lw_at lw_m4 95 rfl) rfl
theorem q939 : (Jvm.Cond.unhidden "Rulehearth$Agenda" "take" "([I[I)Z") ∈ lw_tbl := lw_at lw_m4 96 rfl
theorem q940 : (Jvm.Cond.instanceMethod ({ cls := "Rulehearth$Agenda", name := "take", desc := "([I[I)Z" } : Jvm.MethodName)) ∈ lw_all := lw_g (lw_at lw_m4 97 rfl) rfl
theorem q941 : (Jvm.Cond.publicMethod ({ cls := "Rulehearth$Agenda", name := "take", desc := "([I[I)Z" } : Jvm.MethodName)) ∈ lw_tbl := lw_at lw_m4 98 rfl
theorem q942 : (Jvm.Cond.code ({ cls := "Rulehearth$Agenda", name := "take", desc := "([I[I)Z" } : Jvm.MethodName) prog_2_method_3_code (6 : Nat) (Option.some Jvm.ClassFile.FieldType.boolean)) ∈ lw_all := lw_g (lw_at lw_m4 99 rfl) rfl
theorem q943 : (Jvm.Cond.methodLink "Rulehearth$Agenda" (66 : Nat) ({ cls := "Rulehearth$Clause", name := "atoms", desc := "()I" } : Jvm.MethodName)) ∈ lw_all := lw_g (lw_at lw_m4 100 rfl) rfl
theorem q950 : (Jvm.Cond.methodLink "Rulehearth$Agenda" (72 : Nat) ({ cls := "Rulehearth$World", name := "hasFired", desc := "(I[II)Z" } : Jvm.MethodName)) ∈ lw_all := lw_g (lw_at lw_m4 107 rfl) rfl
theorem q973 : (Jvm.Cond.methodLink "Rulehearth$Agenda" (79 : Nat) ({ cls := "Rulehearth$World", name := "tagOf", desc := "(I)I" } : Jvm.MethodName)) ∈ lw_all := lw_g (lw_at lw_m4 130 rfl) rfl
theorem q974 : (Jvm.Cond.methodLink "Rulehearth$Agenda" (83 : Nat) ({ cls := "java/lang/Math", name := "max", desc := "(II)I" } : Jvm.MethodName)) ∈ lw_all := lw_g (lw_at lw_m4 131 rfl) rfl
theorem q975 : (Jvm.Cond.methodLink "Rulehearth$Agenda" (92 : Nat) ({ cls := "Rulehearth$Agenda", name := "isAhead", desc := "([III)Z" } : Jvm.MethodName)) ∈ lw_all := lw_g (lw_at lw_m4 132 rfl) rfl
theorem q976 : (Jvm.Cond.privateMethod ({ cls := "Rulehearth$Agenda", name := "isAhead", desc := "([III)Z" } : Jvm.MethodName)) ∈ lw_tbl := lw_at lw_m4 133 rfl
theorem q977 : (Jvm.Cond.instanceMethod ({ cls := "Rulehearth$Agenda", name := "isAhead", desc := "([III)Z" } : Jvm.MethodName)) ∈ lw_all := lw_g (lw_at lw_m4 134 rfl) rfl
theorem q978 : (Jvm.Cond.code ({ cls := "Rulehearth$Agenda", name := "isAhead", desc := "([III)Z" } : Jvm.MethodName) prog_2_method_4_code (7 : Nat) (Option.some Jvm.ClassFile.FieldType.boolean)) ∈ lw_all := lw_g (lw_at lw_m4 135 rfl) rfl
theorem q979 : (Jvm.Cond.methodLink "Rulehearth$Agenda" (99 : Nat) ({ cls := "Rulehearth$Clause", name := "fact", desc := "([II)I" } : Jvm.MethodName)) ∈ lw_all := lw_g (lw_at lw_m4 136 rfl) rfl
theorem q986 : (Jvm.Cond.methodLink "Rulehearth$Agenda" (106 : Nat) ({ cls := "java/lang/System", name := "arraycopy", desc := "(Ljava/lang/Object;ILjava/lang/Object;II)V" } : Jvm.MethodName)) ∈ lw_all := lw_g (lw_at lw_m4 143 rfl) rfl
theorem q1507 : (Jvm.Cond.fieldLink "Rulehearth$Agenda" (69 : Nat) "Rulehearth$Clause" "number" "I") ∈ lw_all := lw_g (lw_at lw_m6 184 rfl) rfl
theorem q1525 : (Jvm.Cond.fieldLink "Rulehearth$Agenda" (48 : Nat) "Rulehearth$Clause" "body" "Ljava/util/ArrayList;") ∈ lw_all := lw_g (lw_at lw_m6 202 rfl) rfl
theorem q1532 : (Jvm.Cond.fieldLink "Rulehearth$Agenda" (45 : Nat) "Rulehearth$Clause" "module" "I") ∈ lw_all := lw_g (lw_at lw_m6 209 rfl) rfl
theorem q1534 : (Jvm.Cond.fieldLink "Rulehearth$Agenda" (112 : Nat) "Rulehearth$Clause" "salience" "I") ∈ lw_all := lw_g (lw_at lw_m6 211 rfl) rfl
theorem q2819 : (Jvm.Cond.castable "Rulehearth$Agenda" "java/lang/Object") ∈ lw_tbl := lw_at lw_m12 56 rfl
theorem in_X17 : ∀ w ∈ wsX170, w ∈ lw_all := lw_in wsX170 [857, 859, 861, 863, 865, 867, 869, 871] (by decide +kernel) (by decide +kernel)
def RJ22 : String := "java/lang/Object"
theorem q171 : (Jvm.Cond.instanceMethod ({ cls := "java/lang/Object", name := "<init>", desc := "()V" } : Jvm.MethodName)) ∈ lw_all := lw_g (lw_at lw_m1 48 rfl) rfl
theorem q172 : (Jvm.Cond.code ({ cls := "java/lang/Object", name := "<init>", desc := "()V" } : Jvm.MethodName) object_method_1_code (1 : Nat) (Option.none : Option Jvm.ClassFile.FieldType)) ∈ lw_all := lw_g (lw_at lw_m1 49 rfl) rfl
theorem q307 : (Jvm.Cond.native ({ cls := "java/lang/Object", name := "clone", desc := "()Ljava/lang/Object;" } : Jvm.MethodName)) ∈ lw_all := lw_g (lw_at lw_m1 184 rfl) rfl
theorem q308 : (Jvm.Cond.instanceMethod ({ cls := "java/lang/Object", name := "clone", desc := "()Ljava/lang/Object;" } : Jvm.MethodName)) ∈ lw_all := lw_g (lw_at lw_m1 185 rfl) rfl
theorem q650 : (Jvm.Cond.instanceMethod ({ cls := "java/lang/Object", name := "getClass", desc := "()Ljava/lang/Class;" } : Jvm.MethodName)) ∈ lw_all := lw_g (lw_at lw_m3 47 rfl) rfl
theorem q651 : (Jvm.Cond.sameMethod "java/lang/Object" "java/lang/Object" "getClass" "()Ljava/lang/Class;") ∈ lw_all := lw_g (lw_at lw_m3 48 rfl) rfl
theorem q677 : (Jvm.Cond.native ({ cls := "java/lang/Object", name := "getClass", desc := "()Ljava/lang/Class;" } : Jvm.MethodName)) ∈ lw_all := lw_g (lw_at lw_m3 74 rfl) rfl
theorem q789 : (Jvm.Cond.declares ({ cls := "java/lang/Object", name := "equals", desc := "(Ljava/lang/Object;)Z" } : Jvm.MethodName)) ∈ lw_tbl := lw_at lw_m3 186 rfl
theorem q791 : (Jvm.Cond.instanceMethod ({ cls := "java/lang/Object", name := "equals", desc := "(Ljava/lang/Object;)Z" } : Jvm.MethodName)) ∈ lw_all := lw_g (lw_at lw_m3 188 rfl) rfl
theorem q792 : (Jvm.Cond.sameMethod "java/lang/Object" "java/lang/Object" "equals" "(Ljava/lang/Object;)Z") ∈ lw_all := lw_g (lw_at lw_m3 189 rfl) rfl
theorem q829 : (Jvm.Cond.code ({ cls := "java/lang/Object", name := "equals", desc := "(Ljava/lang/Object;)Z" } : Jvm.MethodName) object_method_4_code (2 : Nat) (Option.some Jvm.ClassFile.FieldType.boolean)) ∈ lw_all := lw_g (lw_at lw_m3 226 rfl) rfl
theorem q2793 : (Jvm.Cond.initialized "java/lang/Object") ∈ lw_all := lw_g (lw_at lw_m12 30 rfl) rfl
theorem q2823 : (Jvm.Cond.declares ({ cls := "java/lang/Object", name := "getClass", desc := "()Ljava/lang/Class;" } : Jvm.MethodName)) ∈ lw_tbl := lw_at lw_m12 60 rfl
theorem q2830 : (Jvm.Cond.instantiable "java/lang/Object" (0 : Nat)) ∈ lw_all := lw_g (lw_at lw_m12 67 rfl) rfl
theorem q192 : (Jvm.Cond.arrayOver (Jvm.ClassFile.FieldType.object "java/lang/Object")) ∈ lw_tbl := lw_at lw_m1 69 rfl
theorem q270 : (Jvm.Cond.arrayClass Jvm.ClassFile.FieldType.byte) ∈ lw_all := lw_g (lw_at lw_m1 147 rfl) rfl
theorem q548 : (Jvm.Cond.arrayClass Jvm.ClassFile.FieldType.int) ∈ lw_all := lw_g (lw_at lw_m2 185 rfl) rfl
theorem q1310 : (Jvm.Cond.arrayClass Jvm.ClassFile.FieldType.boolean) ∈ lw_all := lw_g (lw_at lw_m5 227 rfl) rfl
theorem q1710 : (Jvm.Cond.arrayOver (Jvm.ClassFile.FieldType.array Jvm.ClassFile.FieldType.long)) ∈ lw_tbl := lw_at lw_m7 147 rfl
theorem q1751 : (Jvm.Cond.arrayClass Jvm.ClassFile.FieldType.long) ∈ lw_all := lw_g (lw_at lw_m7 188 rfl) rfl
theorem q140 : (Jvm.Cond.initialized "java/lang/System") ∈ lw_all := lw_g (lw_at lw_m1 17 rfl) rfl
theorem q316 : (Jvm.Cond.static ({ cls := "java/lang/System", name := "arraycopy", desc := "(Ljava/lang/Object;ILjava/lang/Object;II)V" } : Jvm.MethodName)) ∈ lw_all := lw_g (lw_at lw_m1 193 rfl) rfl
theorem q317 : (Jvm.Cond.native ({ cls := "java/lang/System", name := "arraycopy", desc := "(Ljava/lang/Object;ILjava/lang/Object;II)V" } : Jvm.MethodName)) ∈ lw_all := lw_g (lw_at lw_m1 194 rfl) rfl
theorem q146 : (Jvm.Cond.initialized "java/lang/Integer$IntegerCache") ∈ lw_all := lw_g (lw_at lw_m1 23 rfl) rfl
theorem q613 : (Jvm.Cond.laysStatic "java/lang/Integer$IntegerCache" "high" "I") ∈ lw_tbl := lw_at lw_m3 10 rfl
theorem q615 : (Jvm.Cond.laysStatic "java/lang/Integer$IntegerCache" "cache" "[Ljava/lang/Integer;") ∈ lw_tbl := lw_at lw_m3 12 rfl
theorem q306 : (Jvm.Cond.sameMethod "[B" "java/lang/Object" "clone" "()Ljava/lang/Object;") ∈ lw_all := lw_g (lw_at lw_m1 183 rfl) rfl
theorem q309 : (Jvm.Cond.selects "[B" ({ cls := "[B", name := "clone", desc := "()Ljava/lang/Object;" } : Jvm.MethodName) ({ cls := "java/lang/Object", name := "clone", desc := "()Ljava/lang/Object;" } : Jvm.MethodName)) ∈ lw_all := lw_g (lw_at lw_m1 186 rfl) rfl
theorem q310 : (Jvm.Cond.castable "[B" "java/lang/Cloneable") ∈ lw_tbl := lw_at lw_m1 187 rfl
theorem q2825 : (Jvm.Cond.castable "[B" "java/lang/Object") ∈ lw_tbl := lw_at lw_m12 62 rfl
theorem q935 : (Jvm.Cond.interfaceMethod "Rulehearth$Taker" "Rulehearth$Taker" "take" "([I[I)Z") ∈ lw_tbl := lw_at lw_m4 92 rfl
theorem q936 : (Jvm.Cond.declares ({ cls := "Rulehearth$Taker", name := "take", desc := "([I[I)Z" } : Jvm.MethodName)) ∈ lw_tbl := lw_at lw_m4 93 rfl
theorem q1001 : (Jvm.Cond.sameMethod "[I" "java/lang/Object" "clone" "()Ljava/lang/Object;") ∈ lw_all := lw_g (lw_at lw_m4 158 rfl) rfl
theorem q1002 : (Jvm.Cond.selects "[I" ({ cls := "[I", name := "clone", desc := "()Ljava/lang/Object;" } : Jvm.MethodName) ({ cls := "java/lang/Object", name := "clone", desc := "()Ljava/lang/Object;" } : Jvm.MethodName)) ∈ lw_all := lw_g (lw_at lw_m4 159 rfl) rfl
theorem q1003 : (Jvm.Cond.castable "[I" "java/lang/Cloneable") ∈ lw_tbl := lw_at lw_m4 160 rfl
theorem q2826 : (Jvm.Cond.castable "[I" "java/lang/Object") ∈ lw_tbl := lw_at lw_m12 63 rfl
theorem q1143 : (Jvm.Cond.interfaceMethod "java/util/Collection" "java/util/Collection" "toArray" "()[Ljava/lang/Object;") ∈ lw_tbl := lw_at lw_m5 60 rfl
theorem q1144 : (Jvm.Cond.declares ({ cls := "java/util/Collection", name := "toArray", desc := "()[Ljava/lang/Object;" } : Jvm.MethodName)) ∈ lw_tbl := lw_at lw_m5 61 rfl
theorem q2821 : (Jvm.Cond.sameMethod "[Ljava/lang/Object;" "java/lang/Object" "getClass" "()Ljava/lang/Class;") ∈ lw_all := lw_g (lw_at lw_m12 58 rfl) rfl
theorem q2822 : (Jvm.Cond.selects "[Ljava/lang/Object;" ({ cls := "java/lang/Object", name := "getClass", desc := "()Ljava/lang/Class;" } : Jvm.MethodName) ({ cls := "java/lang/Object", name := "getClass", desc := "()Ljava/lang/Class;" } : Jvm.MethodName)) ∈ lw_all := lw_g (lw_at lw_m12 59 rfl) rfl
theorem q2824 : (Jvm.Cond.castable "[Ljava/lang/Object;" "java/lang/Object") ∈ lw_tbl := lw_at lw_m12 61 rfl
theorem q2827 : (Jvm.Cond.castable "[Z" "java/lang/Object") ∈ lw_tbl := lw_at lw_m12 64 rfl
theorem q2828 : (Jvm.Cond.castable "[[J" "java/lang/Object") ∈ lw_tbl := lw_at lw_m12 65 rfl
theorem q2829 : (Jvm.Cond.castable "[J" "java/lang/Object") ∈ lw_tbl := lw_at lw_m12 66 rfl
/-- the classes, by number -/
def rv_cl : List vw_C := [(RX1, TX1, 7), (RX2, TX2, 12), (RX3, TX3, 3), (RX4, TX4, 56), (RX5, TX5, 6), (RX6, TX6, 6), (RX7, TX7, 7), (RX8, TX8, 3), (RX9, TX9, 10), (RX10, TX10, 9), (RX11, TX11, 4), (RX12, TX12, 6), (RX13, TX13, 6), (RX14, TX14, 3), (RX15, TX15, 5), (RX16, TX16, 5), (RX17, TX17, 8), (RJ2, TJ2, 3), (RJ8, TJ8, 4), (RJ9, TJ9, 4), (RJ17, TJ17, 1), (RJ6, TJ6, 6), (RJ18, TJ18, 6), (RJ19, TJ19, 6)]
def rv_ty (c : Nat) : Nat → FieldType := match c with
  | 0 => tyX1
  | 1 => tyX2
  | 2 => tyX3
  | 3 => tyX4
  | 4 => tyX5
  | 5 => tyX6
  | 6 => tyX7
  | 7 => tyX8
  | 8 => tyX9
  | 9 => tyX10
  | 10 => tyX11
  | 11 => tyX12
  | 12 => tyX13
  | 13 => tyX14
  | 14 => tyX15
  | 15 => tyX16
  | 16 => tyX17
  | 17 => tyJ2
  | 18 => tyJ8
  | 19 => tyJ9
  | 20 => tyJ17
  | 21 => tyJ6
  | 22 => tyJ18
  | 23 => tyJ19
  | _ => fun _ => .int
theorem rv_c0 : rv_cl[0]? = some (RX1, TX1, 7) := rfl
theorem rv_c1 : rv_cl[1]? = some (RX2, TX2, 12) := rfl
theorem rv_c2 : rv_cl[2]? = some (RX3, TX3, 3) := rfl
theorem rv_c3 : rv_cl[3]? = some (RX4, TX4, 56) := rfl
theorem rv_c4 : rv_cl[4]? = some (RX5, TX5, 6) := rfl
theorem rv_c5 : rv_cl[5]? = some (RX6, TX6, 6) := rfl
theorem rv_c6 : rv_cl[6]? = some (RX7, TX7, 7) := rfl
theorem rv_c7 : rv_cl[7]? = some (RX8, TX8, 3) := rfl
theorem rv_c8 : rv_cl[8]? = some (RX9, TX9, 10) := rfl
theorem rv_c9 : rv_cl[9]? = some (RX10, TX10, 9) := rfl
theorem rv_c10 : rv_cl[10]? = some (RX11, TX11, 4) := rfl
theorem rv_c11 : rv_cl[11]? = some (RX12, TX12, 6) := rfl
theorem rv_c12 : rv_cl[12]? = some (RX13, TX13, 6) := rfl
theorem rv_c13 : rv_cl[13]? = some (RX14, TX14, 3) := rfl
theorem rv_c14 : rv_cl[14]? = some (RX15, TX15, 5) := rfl
theorem rv_c15 : rv_cl[15]? = some (RX16, TX16, 5) := rfl
theorem rv_c16 : rv_cl[16]? = some (RX17, TX17, 8) := rfl
theorem rv_c17 : rv_cl[17]? = some (RJ2, TJ2, 3) := rfl
theorem rv_c18 : rv_cl[18]? = some (RJ8, TJ8, 4) := rfl
theorem rv_c19 : rv_cl[19]? = some (RJ9, TJ9, 4) := rfl
theorem rv_c20 : rv_cl[20]? = some (RJ17, TJ17, 1) := rfl
theorem rv_c21 : rv_cl[21]? = some (RJ6, TJ6, 6) := rfl
theorem rv_c22 : rv_cl[22]? = some (RJ18, TJ18, 6) := rfl
theorem rv_c23 : rv_cl[23]? = some (RJ19, TJ19, 6) := rfl
