/-! LINKS (printed by tools/gen_links.py) -/
set_option maxRecDepth 100000
theorem gX1_21_X1 : rv_gf "Rulehearth" 21 0 0 := ⟨RX1, TX1, 7, "Rulehearth", rv_c0, in_X1, by decide, Or.inl q686, Or.inl rfl⟩
theorem pX1_21_X1 : rv_pf "Rulehearth" 21 0 0 (tyX1 0) false := ⟨RX1, TX1, 7, "Rulehearth", tyX1, rv_c0, in_X1, by decide, Or.inl q686, Or.inl rfl, tyX1_ok, nmX1, rfl, rfl, fun h => by cases h⟩
theorem gX1_30_X1 : rv_gf "Rulehearth" 30 0 2 := ⟨RX1, TX1, 7, "Rulehearth", rv_c0, in_X1, by decide, Or.inl q688, Or.inl rfl⟩
theorem pX1_30_X1 : rv_pf "Rulehearth" 30 0 2 (tyX1 2) true := ⟨RX1, TX1, 7, "Rulehearth", tyX1, rv_c0, in_X1, by decide, Or.inl q688, Or.inl rfl, tyX1_ok, nmX1, rfl, rfl, fun _ => rfl⟩
theorem gX1_34_X2 : rv_gf "Rulehearth" 34 1 10 := ⟨RX2, TX2, 12, "Rulehearth$World", rv_c1, in_X2, by decide, Or.inl q579, Or.inl rfl⟩
theorem gX1_55_X2 : rv_gf "Rulehearth" 55 1 0 := ⟨RX2, TX2, 12, "Rulehearth$World", rv_c1, in_X2, by decide, Or.inl q555, Or.inl rfl⟩
theorem gX1_91_X10 : rv_gf "Rulehearth" 91 9 0 := ⟨RX10, TX10, 9, "Rulehearth$Clause", rv_c9, in_X10, by decide, Or.inl q1508, Or.inl rfl⟩
theorem pX1_91_X10 : rv_pf "Rulehearth" 91 9 0 (tyX10 0) false := ⟨RX10, TX10, 9, "Rulehearth$Clause", tyX10, rv_c9, in_X10, by decide, Or.inl q1508, Or.inl rfl, tyX10_ok, nmX10, rfl, rfl, fun h => by cases h⟩
theorem gX1_105_X2 : rv_gf "Rulehearth" 105 1 2 := ⟨RX2, TX2, 12, "Rulehearth$World", rv_c1, in_X2, by decide, Or.inl q562, Or.inl rfl⟩
theorem pX1_105_X2 : rv_pf "Rulehearth" 105 1 2 (tyX2 2) false := ⟨RX2, TX2, 12, "Rulehearth$World", tyX2, rv_c1, in_X2, by decide, Or.inl q562, Or.inl rfl, tyX2_ok, nmX2, rfl, rfl, fun h => by cases h⟩
theorem gX1_109_X3 : rv_gf "Rulehearth" 109 2 2 := ⟨RX3, TX3, 3, "Rulehearth$Facts", rv_c2, in_X3, by decide, Or.inl q540, Or.inl rfl⟩
theorem pX1_109_X3 : rv_pf "Rulehearth" 109 2 2 (tyX3 2) false := ⟨RX3, TX3, 3, "Rulehearth$Facts", tyX3, rv_c2, in_X3, by decide, Or.inl q540, Or.inl rfl, tyX3_ok, nmX3, rfl, rfl, fun h => by cases h⟩
theorem gX1_124_X2 : rv_gf "Rulehearth" 124 1 11 := ⟨RX2, TX2, 12, "Rulehearth$World", rv_c1, in_X2, by decide, Or.inl q581, Or.inl rfl⟩
theorem pX1_124_X2 : rv_pf "Rulehearth" 124 1 11 (tyX2 11) false := ⟨RX2, TX2, 12, "Rulehearth$World", tyX2, rv_c1, in_X2, by decide, Or.inl q581, Or.inl rfl, tyX2_ok, nmX2, rfl, rfl, fun h => by cases h⟩
theorem gX1_137_X2 : rv_gf "Rulehearth" 137 1 1 := ⟨RX2, TX2, 12, "Rulehearth$World", rv_c1, in_X2, by decide, Or.inl q557, Or.inl rfl⟩
theorem gX1_159_X3 : rv_gf "Rulehearth" 159 2 0 := ⟨RX3, TX3, 3, "Rulehearth$Facts", rv_c2, in_X3, by decide, Or.inl q533, Or.inl rfl⟩
theorem gX1_162_X1 : rv_gf "Rulehearth" 162 0 1 := ⟨RX1, TX1, 7, "Rulehearth", rv_c0, in_X1, by decide, Or.inl q687, Or.inl rfl⟩
theorem pX1_162_X1 : rv_pf "Rulehearth" 162 0 1 (tyX1 1) false := ⟨RX1, TX1, 7, "Rulehearth", tyX1, rv_c0, in_X1, by decide, Or.inl q687, Or.inl rfl, tyX1_ok, nmX1, rfl, rfl, fun h => by cases h⟩
theorem gX1_193_X11 : rv_gf "Rulehearth" 193 10 2 := ⟨RX11, TX11, 4, "Rulehearth$Item", rv_c10, in_X11, by decide, Or.inl q1489, Or.inl rfl⟩
theorem gX1_196_X11 : rv_gf "Rulehearth" 196 10 3 := ⟨RX11, TX11, 4, "Rulehearth$Item", rv_c10, in_X11, by decide, Or.inl q1491, Or.inl rfl⟩
theorem pX1_196_X11 : rv_pf "Rulehearth" 196 10 3 (tyX11 3) false := ⟨RX11, TX11, 4, "Rulehearth$Item", tyX11, rv_c10, in_X11, by decide, Or.inl q1491, Or.inl rfl, tyX11_ok, nmX11, rfl, rfl, fun h => by cases h⟩
theorem gX1_204_X10 : rv_gf "Rulehearth" 204 9 5 := ⟨RX10, TX10, 9, "Rulehearth$Clause", rv_c9, in_X10, by decide, Or.inl q1530, Or.inl rfl⟩
theorem gX1_208_X10 : rv_gf "Rulehearth" 208 9 2 := ⟨RX10, TX10, 9, "Rulehearth$Clause", rv_c9, in_X10, by decide, Or.inl q1520, Or.inl rfl⟩
theorem pX1_208_X10 : rv_pf "Rulehearth" 208 9 2 (tyX10 2) false := ⟨RX10, TX10, 9, "Rulehearth$Clause", tyX10, rv_c9, in_X10, by decide, Or.inl q1520, Or.inl rfl, tyX10_ok, nmX10, rfl, rfl, fun h => by cases h⟩
theorem gX1_211_X10 : rv_gf "Rulehearth" 211 9 1 := ⟨RX10, TX10, 9, "Rulehearth$Clause", rv_c9, in_X10, by decide, Or.inl q1513, Or.inl rfl⟩
theorem gX1_214_X10 : rv_gf "Rulehearth" 214 9 3 := ⟨RX10, TX10, 9, "Rulehearth$Clause", rv_c9, in_X10, by decide, Or.inl q1522, Or.inl rfl⟩
theorem pX1_214_X10 : rv_pf "Rulehearth" 214 9 3 (tyX10 3) false := ⟨RX10, TX10, 9, "Rulehearth$Clause", tyX10, rv_c9, in_X10, by decide, Or.inl q1522, Or.inl rfl, tyX10_ok, nmX10, rfl, rfl, fun h => by cases h⟩
theorem gX1_217_X10 : rv_gf "Rulehearth" 217 9 4 := ⟨RX10, TX10, 9, "Rulehearth$Clause", rv_c9, in_X10, by decide, Or.inl q1528, Or.inl rfl⟩
theorem gX1_220_X11 : rv_gf "Rulehearth" 220 10 0 := ⟨RX11, TX11, 4, "Rulehearth$Item", rv_c10, in_X11, by decide, Or.inl q1477, Or.inl rfl⟩
theorem gX1_268_X2 : rv_gf "Rulehearth" 268 1 6 := ⟨RX2, TX2, 12, "Rulehearth$World", rv_c1, in_X2, by decide, Or.inl q571, Or.inl rfl⟩
theorem gX1_271_X2 : rv_gf "Rulehearth" 271 1 8 := ⟨RX2, TX2, 12, "Rulehearth$World", rv_c1, in_X2, by decide, Or.inl q575, Or.inl rfl⟩
theorem pX1_271_X2 : rv_pf "Rulehearth" 271 1 8 (tyX2 8) false := ⟨RX2, TX2, 12, "Rulehearth$World", tyX2, rv_c1, in_X2, by decide, Or.inl q575, Or.inl rfl, tyX2_ok, nmX2, rfl, rfl, fun h => by cases h⟩
theorem gX1_274_X2 : rv_gf "Rulehearth" 274 1 5 := ⟨RX2, TX2, 12, "Rulehearth$World", rv_c1, in_X2, by decide, Or.inl q568, Or.inl rfl⟩
theorem gX1_277_X2 : rv_gf "Rulehearth" 277 1 7 := ⟨RX2, TX2, 12, "Rulehearth$World", rv_c1, in_X2, by decide, Or.inl q573, Or.inl rfl⟩
theorem pX1_277_X2 : rv_pf "Rulehearth" 277 1 7 (tyX2 7) false := ⟨RX2, TX2, 12, "Rulehearth$World", tyX2, rv_c1, in_X2, by decide, Or.inl q573, Or.inl rfl, tyX2_ok, nmX2, rfl, rfl, fun h => by cases h⟩
theorem gX1_291_X9 : rv_gf "Rulehearth" 291 8 9 := ⟨RX9, TX9, 10, "Rulehearth$Matcher", rv_c8, in_X9, by decide, Or.inl q898, Or.inl rfl⟩
theorem pX1_291_X9 : rv_pf "Rulehearth" 291 8 9 (tyX9 9) false := ⟨RX9, TX9, 10, "Rulehearth$Matcher", tyX9, rv_c8, in_X9, by decide, Or.inl q898, Or.inl rfl, tyX9_ok, nmX9, rfl, rfl, fun h => by cases h⟩
theorem gX1_300_X1 : rv_gf "Rulehearth" 300 0 4 := ⟨RX1, TX1, 7, "Rulehearth", rv_c0, in_X1, by decide, Or.inl q690, Or.inl rfl⟩
theorem pX1_300_X1 : rv_pf "Rulehearth" 300 0 4 (tyX1 4) false := ⟨RX1, TX1, 7, "Rulehearth", tyX1, rv_c0, in_X1, by decide, Or.inl q690, Or.inl rfl, tyX1_ok, nmX1, rfl, rfl, fun h => by cases h⟩
theorem gX1_312_X1 : rv_gf "Rulehearth" 312 0 3 := ⟨RX1, TX1, 7, "Rulehearth", rv_c0, in_X1, by decide, Or.inl q689, Or.inl rfl⟩
theorem pX1_312_X1 : rv_pf "Rulehearth" 312 0 3 (tyX1 3) false := ⟨RX1, TX1, 7, "Rulehearth", tyX1, rv_c0, in_X1, by decide, Or.inl q689, Or.inl rfl, tyX1_ok, nmX1, rfl, rfl, fun h => by cases h⟩
theorem gX1_316_X1 : rv_gf "Rulehearth" 316 0 5 := ⟨RX1, TX1, 7, "Rulehearth", rv_c0, in_X1, by decide, Or.inl q691, Or.inl rfl⟩
theorem pX1_316_X1 : rv_pf "Rulehearth" 316 0 5 (tyX1 5) false := ⟨RX1, TX1, 7, "Rulehearth", tyX1, rv_c0, in_X1, by decide, Or.inl q691, Or.inl rfl, tyX1_ok, nmX1, rfl, rfl, fun h => by cases h⟩
theorem gX1_325_X1 : rv_gf "Rulehearth" 325 0 6 := ⟨RX1, TX1, 7, "Rulehearth", rv_c0, in_X1, by decide, Or.inl q692, Or.inl rfl⟩
theorem pX1_325_X1 : rv_pf "Rulehearth" 325 0 6 (tyX1 6) false := ⟨RX1, TX1, 7, "Rulehearth", tyX1, rv_c0, in_X1, by decide, Or.inl q692, Or.inl rfl, tyX1_ok, nmX1, rfl, rfl, fun h => by cases h⟩
theorem gX1_331_X14 : rv_gf "Rulehearth" 331 13 0 := ⟨RX14, TX14, 3, "Rulehearth$Why", rv_c13, in_X14, by decide, Or.inl q1838, Or.inl rfl⟩
theorem pX1_331_X14 : rv_pf "Rulehearth" 331 13 0 (tyX14 0) false := ⟨RX14, TX14, 3, "Rulehearth$Why", tyX14, rv_c13, in_X14, by decide, Or.inl q1838, Or.inl rfl, tyX14_ok, nmX14, rfl, rfl, fun h => by cases h⟩
theorem gX1_348_X14 : rv_gf "Rulehearth" 348 13 2 := ⟨RX14, TX14, 3, "Rulehearth$Why", rv_c13, in_X14, by decide, Or.inl q1841, Or.inl rfl⟩
theorem gX1_351_X14 : rv_gf "Rulehearth" 351 13 1 := ⟨RX14, TX14, 3, "Rulehearth$Why", rv_c13, in_X14, by decide, Or.inl q1839, Or.inl rfl⟩
theorem pX1_351_X14 : rv_pf "Rulehearth" 351 13 1 (tyX14 1) false := ⟨RX14, TX14, 3, "Rulehearth$Why", tyX14, rv_c13, in_X14, by decide, Or.inl q1839, Or.inl rfl, tyX14_ok, nmX14, rfl, rfl, fun h => by cases h⟩
theorem gX1_405_X11 : rv_gf "Rulehearth" 405 10 1 := ⟨RX11, TX11, 4, "Rulehearth$Item", rv_c10, in_X11, by decide, Or.inl q1483, Or.inl rfl⟩
theorem gX1_469_X2 : rv_gf "Rulehearth" 469 1 9 := ⟨RX2, TX2, 12, "Rulehearth$World", rv_c1, in_X2, by decide, Or.inl q577, Or.inl rfl⟩
theorem gX1_472_X10 : rv_gf "Rulehearth" 472 9 8 := ⟨RX10, TX10, 9, "Rulehearth$Clause", rv_c9, in_X10, by decide, Or.inl q1536, Or.inl rfl⟩
theorem gX17_9_X17 : rv_gf "Rulehearth$Agenda" 9 16 7 := ⟨RX17, TX17, 8, "Rulehearth$Agenda", rv_c16, in_X17, by decide, Or.inl q855, Or.inl rfl⟩
theorem pX17_9_X17 : rv_pf "Rulehearth$Agenda" 9 16 7 (tyX17 7) true := ⟨RX17, TX17, 8, "Rulehearth$Agenda", tyX17, rv_c16, in_X17, by decide, Or.inl q855, Or.inl rfl, tyX17_ok, nmX17, rfl, rfl, fun _ => rfl⟩
theorem gX17_15_X17 : rv_gf "Rulehearth$Agenda" 15 16 0 := ⟨RX17, TX17, 8, "Rulehearth$Agenda", rv_c16, in_X17, by decide, Or.inl q845, Or.inl rfl⟩
theorem pX17_15_X17 : rv_pf "Rulehearth$Agenda" 15 16 0 (tyX17 0) true := ⟨RX17, TX17, 8, "Rulehearth$Agenda", tyX17, rv_c16, in_X17, by decide, Or.inl q845, Or.inl rfl, tyX17_ok, nmX17, rfl, rfl, fun _ => rfl⟩
theorem gX17_19_X17 : rv_gf "Rulehearth$Agenda" 19 16 1 := ⟨RX17, TX17, 8, "Rulehearth$Agenda", rv_c16, in_X17, by decide, Or.inl q846, Or.inl rfl⟩
theorem pX17_19_X17 : rv_pf "Rulehearth$Agenda" 19 16 1 (tyX17 1) true := ⟨RX17, TX17, 8, "Rulehearth$Agenda", tyX17, rv_c16, in_X17, by decide, Or.inl q846, Or.inl rfl, tyX17_ok, nmX17, rfl, rfl, fun _ => rfl⟩
theorem gX17_23_X2 : rv_gf "Rulehearth$Agenda" 23 1 6 := ⟨RX2, TX2, 12, "Rulehearth$World", rv_c1, in_X2, by decide, Or.inl q570, Or.inl rfl⟩
theorem gX17_41_X17 : rv_gf "Rulehearth$Agenda" 41 16 2 := ⟨RX17, TX17, 8, "Rulehearth$Agenda", rv_c16, in_X17, by decide, Or.inl q847, Or.inl rfl⟩
theorem pX17_41_X17 : rv_pf "Rulehearth$Agenda" 41 16 2 (tyX17 2) false := ⟨RX17, TX17, 8, "Rulehearth$Agenda", tyX17, rv_c16, in_X17, by decide, Or.inl q847, Or.inl rfl, tyX17_ok, nmX17, rfl, rfl, fun h => by cases h⟩
theorem gX17_45_X10 : rv_gf "Rulehearth$Agenda" 45 9 6 := ⟨RX10, TX10, 9, "Rulehearth$Clause", rv_c9, in_X10, by decide, Or.inl q1532, Or.inl rfl⟩
theorem gX17_48_X10 : rv_gf "Rulehearth$Agenda" 48 9 4 := ⟨RX10, TX10, 9, "Rulehearth$Clause", rv_c9, in_X10, by decide, Or.inl q1525, Or.inl rfl⟩
theorem gX17_51_X2 : rv_gf "Rulehearth$Agenda" 51 1 2 := ⟨RX2, TX2, 12, "Rulehearth$World", rv_c1, in_X2, by decide, Or.inl q560, Or.inl rfl⟩
theorem pX17_51_X2 : rv_pf "Rulehearth$Agenda" 51 1 2 (tyX2 2) false := ⟨RX2, TX2, 12, "Rulehearth$World", tyX2, rv_c1, in_X2, by decide, Or.inl q560, Or.inl rfl, tyX2_ok, nmX2, rfl, rfl, fun h => by cases h⟩
theorem gX17_69_X10 : rv_gf "Rulehearth$Agenda" 69 9 0 := ⟨RX10, TX10, 9, "Rulehearth$Clause", rv_c9, in_X10, by decide, Or.inl q1507, Or.inl rfl⟩
theorem pX17_69_X10 : rv_pf "Rulehearth$Agenda" 69 9 0 (tyX10 0) false := ⟨RX10, TX10, 9, "Rulehearth$Clause", tyX10, rv_c9, in_X10, by decide, Or.inl q1507, Or.inl rfl, tyX10_ok, nmX10, rfl, rfl, fun h => by cases h⟩
theorem gX17_76_X17 : rv_gf "Rulehearth$Agenda" 76 16 3 := ⟨RX17, TX17, 8, "Rulehearth$Agenda", rv_c16, in_X17, by decide, Or.inl q848, Or.inl rfl⟩
theorem pX17_76_X17 : rv_pf "Rulehearth$Agenda" 76 16 3 (tyX17 3) false := ⟨RX17, TX17, 8, "Rulehearth$Agenda", tyX17, rv_c16, in_X17, by decide, Or.inl q848, Or.inl rfl, tyX17_ok, nmX17, rfl, rfl, fun h => by cases h⟩
theorem gX17_89_X17 : rv_gf "Rulehearth$Agenda" 89 16 4 := ⟨RX17, TX17, 8, "Rulehearth$Agenda", rv_c16, in_X17, by decide, Or.inl q850, Or.inl rfl⟩
theorem pX17_89_X17 : rv_pf "Rulehearth$Agenda" 89 16 4 (tyX17 4) false := ⟨RX17, TX17, 8, "Rulehearth$Agenda", tyX17, rv_c16, in_X17, by decide, Or.inl q850, Or.inl rfl, tyX17_ok, nmX17, rfl, rfl, fun h => by cases h⟩
theorem gX17_96_X17 : rv_gf "Rulehearth$Agenda" 96 16 5 := ⟨RX17, TX17, 8, "Rulehearth$Agenda", rv_c16, in_X17, by decide, Or.inl q852, Or.inl rfl⟩
theorem pX17_96_X17 : rv_pf "Rulehearth$Agenda" 96 16 5 (tyX17 5) false := ⟨RX17, TX17, 8, "Rulehearth$Agenda", tyX17, rv_c16, in_X17, by decide, Or.inl q852, Or.inl rfl, tyX17_ok, nmX17, rfl, rfl, fun h => by cases h⟩
theorem gX17_103_X17 : rv_gf "Rulehearth$Agenda" 103 16 6 := ⟨RX17, TX17, 8, "Rulehearth$Agenda", rv_c16, in_X17, by decide, Or.inl q853, Or.inl rfl⟩
theorem pX17_103_X17 : rv_pf "Rulehearth$Agenda" 103 16 6 (tyX17 6) false := ⟨RX17, TX17, 8, "Rulehearth$Agenda", tyX17, rv_c16, in_X17, by decide, Or.inl q853, Or.inl rfl, tyX17_ok, nmX17, rfl, rfl, fun h => by cases h⟩
theorem gX17_112_X10 : rv_gf "Rulehearth$Agenda" 112 9 7 := ⟨RX10, TX10, 9, "Rulehearth$Clause", rv_c9, in_X10, by decide, Or.inl q1534, Or.inl rfl⟩
theorem gX10_9_X10 : rv_gf "Rulehearth$Clause" 9 9 2 := ⟨RX10, TX10, 9, "Rulehearth$Clause", rv_c9, in_X10, by decide, Or.inl q1514, Or.inl rfl⟩
theorem pX10_9_X10 : rv_pf "Rulehearth$Clause" 9 9 2 (tyX10 2) false := ⟨RX10, TX10, 9, "Rulehearth$Clause", tyX10, rv_c9, in_X10, by decide, Or.inl q1514, Or.inl rfl, tyX10_ok, nmX10, rfl, rfl, fun h => by cases h⟩
theorem gX10_20_X10 : rv_gf "Rulehearth$Clause" 20 9 4 := ⟨RX10, TX10, 9, "Rulehearth$Clause", rv_c9, in_X10, by decide, Or.inl q1523, Or.inl rfl⟩
theorem pX10_20_X10 : rv_pf "Rulehearth$Clause" 20 9 4 (tyX10 4) true := ⟨RX10, TX10, 9, "Rulehearth$Clause", tyX10, rv_c9, in_X10, by decide, Or.inl q1523, Or.inl rfl, tyX10_ok, nmX10, rfl, rfl, fun _ => rfl⟩
theorem gX10_24_X10 : rv_gf "Rulehearth$Clause" 24 9 1 := ⟨RX10, TX10, 9, "Rulehearth$Clause", rv_c9, in_X10, by decide, Or.inl q1509, Or.inl rfl⟩
theorem pX10_24_X10 : rv_pf "Rulehearth$Clause" 24 9 1 (tyX10 1) true := ⟨RX10, TX10, 9, "Rulehearth$Clause", tyX10, rv_c9, in_X10, by decide, Or.inl q1509, Or.inl rfl, tyX10_ok, nmX10, rfl, rfl, fun _ => rfl⟩
theorem gX10_28_X10 : rv_gf "Rulehearth$Clause" 28 9 5 := ⟨RX10, TX10, 9, "Rulehearth$Clause", rv_c9, in_X10, by decide, Or.inl q1529, Or.inl rfl⟩
theorem pX10_28_X10 : rv_pf "Rulehearth$Clause" 28 9 5 (tyX10 5) true := ⟨RX10, TX10, 9, "Rulehearth$Clause", tyX10, rv_c9, in_X10, by decide, Or.inl q1529, Or.inl rfl, tyX10_ok, nmX10, rfl, rfl, fun _ => rfl⟩
theorem gX10_32_X10 : rv_gf "Rulehearth$Clause" 32 9 6 := ⟨RX10, TX10, 9, "Rulehearth$Clause", rv_c9, in_X10, by decide, Or.inl q1531, Or.inl rfl⟩
theorem pX10_32_X10 : rv_pf "Rulehearth$Clause" 32 9 6 (tyX10 6) true := ⟨RX10, TX10, 9, "Rulehearth$Clause", tyX10, rv_c9, in_X10, by decide, Or.inl q1531, Or.inl rfl, tyX10_ok, nmX10, rfl, rfl, fun _ => rfl⟩
theorem gX10_35_X10 : rv_gf "Rulehearth$Clause" 35 9 7 := ⟨RX10, TX10, 9, "Rulehearth$Clause", rv_c9, in_X10, by decide, Or.inl q1533, Or.inl rfl⟩
theorem pX10_35_X10 : rv_pf "Rulehearth$Clause" 35 9 7 (tyX10 7) true := ⟨RX10, TX10, 9, "Rulehearth$Clause", tyX10, rv_c9, in_X10, by decide, Or.inl q1533, Or.inl rfl, tyX10_ok, nmX10, rfl, rfl, fun _ => rfl⟩
theorem gX10_38_X10 : rv_gf "Rulehearth$Clause" 38 9 8 := ⟨RX10, TX10, 9, "Rulehearth$Clause", rv_c9, in_X10, by decide, Or.inl q1535, Or.inl rfl⟩
theorem pX10_38_X10 : rv_pf "Rulehearth$Clause" 38 9 8 (tyX10 8) true := ⟨RX10, TX10, 9, "Rulehearth$Clause", tyX10, rv_c9, in_X10, by decide, Or.inl q1535, Or.inl rfl, tyX10_ok, nmX10, rfl, rfl, fun _ => rfl⟩
theorem gX10_55_X11 : rv_gf "Rulehearth$Clause" 55 10 0 := ⟨RX11, TX11, 4, "Rulehearth$Item", rv_c10, in_X11, by decide, Or.inl q1473, Or.inl rfl⟩
theorem gX10_58_X11 : rv_gf "Rulehearth$Clause" 58 10 1 := ⟨RX11, TX11, 4, "Rulehearth$Item", rv_c10, in_X11, by decide, Or.inl q1480, Or.inl rfl⟩
theorem gX10_61_X11 : rv_gf "Rulehearth$Clause" 61 10 2 := ⟨RX11, TX11, 4, "Rulehearth$Item", rv_c10, in_X11, by decide, Or.inl q1487, Or.inl rfl⟩
theorem gX7_13_X7 : rv_gf "Rulehearth$Deriver" 13 6 2 := ⟨RX7, TX7, 7, "Rulehearth$Deriver", rv_c6, in_X7, by decide, Or.inl q1321, Or.inl rfl⟩
theorem pX7_13_X7 : rv_pf "Rulehearth$Deriver" 13 6 2 (tyX7 2) true := ⟨RX7, TX7, 7, "Rulehearth$Deriver", tyX7, rv_c6, in_X7, by decide, Or.inl q1321, Or.inl rfl, tyX7_ok, nmX7, rfl, rfl, fun _ => rfl⟩
theorem gX7_19_X10 : rv_gf "Rulehearth$Deriver" 19 9 2 := ⟨RX10, TX10, 9, "Rulehearth$Clause", rv_c9, in_X10, by decide, Or.inl q1515, Or.inl rfl⟩
theorem pX7_19_X10 : rv_pf "Rulehearth$Deriver" 19 9 2 (tyX10 2) false := ⟨RX10, TX10, 9, "Rulehearth$Clause", tyX10, rv_c9, in_X10, by decide, Or.inl q1515, Or.inl rfl, tyX10_ok, nmX10, rfl, rfl, fun h => by cases h⟩
theorem gX7_25_X7 : rv_gf "Rulehearth$Deriver" 25 6 0 := ⟨RX7, TX7, 7, "Rulehearth$Deriver", rv_c6, in_X7, by decide, Or.inl q1319, Or.inl rfl⟩
theorem pX7_25_X7 : rv_pf "Rulehearth$Deriver" 25 6 0 (tyX7 0) true := ⟨RX7, TX7, 7, "Rulehearth$Deriver", tyX7, rv_c6, in_X7, by decide, Or.inl q1319, Or.inl rfl, tyX7_ok, nmX7, rfl, rfl, fun _ => rfl⟩
theorem gX7_29_X7 : rv_gf "Rulehearth$Deriver" 29 6 1 := ⟨RX7, TX7, 7, "Rulehearth$Deriver", rv_c6, in_X7, by decide, Or.inl q1320, Or.inl rfl⟩
theorem pX7_29_X7 : rv_pf "Rulehearth$Deriver" 29 6 1 (tyX7 1) true := ⟨RX7, TX7, 7, "Rulehearth$Deriver", tyX7, rv_c6, in_X7, by decide, Or.inl q1320, Or.inl rfl, tyX7_ok, nmX7, rfl, rfl, fun _ => rfl⟩
theorem gX7_36_X7 : rv_gf "Rulehearth$Deriver" 36 6 3 := ⟨RX7, TX7, 7, "Rulehearth$Deriver", rv_c6, in_X7, by decide, Or.inl q1322, Or.inl rfl⟩
theorem pX7_36_X7 : rv_pf "Rulehearth$Deriver" 36 6 3 (tyX7 3) true := ⟨RX7, TX7, 7, "Rulehearth$Deriver", tyX7, rv_c6, in_X7, by decide, Or.inl q1322, Or.inl rfl, tyX7_ok, nmX7, rfl, rfl, fun _ => rfl⟩
theorem gX7_44_X7 : rv_gf "Rulehearth$Deriver" 44 6 4 := ⟨RX7, TX7, 7, "Rulehearth$Deriver", rv_c6, in_X7, by decide, Or.inl q1323, Or.inl rfl⟩
theorem pX7_44_X7 : rv_pf "Rulehearth$Deriver" 44 6 4 (tyX7 4) true := ⟨RX7, TX7, 7, "Rulehearth$Deriver", tyX7, rv_c6, in_X7, by decide, Or.inl q1323, Or.inl rfl, tyX7_ok, nmX7, rfl, rfl, fun _ => rfl⟩
theorem gX7_54_X10 : rv_gf "Rulehearth$Deriver" 54 9 4 := ⟨RX10, TX10, 9, "Rulehearth$Clause", rv_c9, in_X10, by decide, Or.inl q1524, Or.inl rfl⟩
theorem gX7_67_X7 : rv_gf "Rulehearth$Deriver" 67 6 5 := ⟨RX7, TX7, 7, "Rulehearth$Deriver", rv_c6, in_X7, by decide, Or.inl q1324, Or.inl rfl⟩
theorem pX7_67_X7 : rv_pf "Rulehearth$Deriver" 67 6 5 (tyX7 5) true := ⟨RX7, TX7, 7, "Rulehearth$Deriver", tyX7, rv_c6, in_X7, by decide, Or.inl q1324, Or.inl rfl, tyX7_ok, nmX7, rfl, rfl, fun _ => rfl⟩
theorem gX7_71_X7 : rv_gf "Rulehearth$Deriver" 71 6 6 := ⟨RX7, TX7, 7, "Rulehearth$Deriver", rv_c6, in_X7, by decide, Or.inl q1325, Or.inl rfl⟩
theorem pX7_71_X7 : rv_pf "Rulehearth$Deriver" 71 6 6 (tyX7 6) true := ⟨RX7, TX7, 7, "Rulehearth$Deriver", tyX7, rv_c6, in_X7, by decide, Or.inl q1325, Or.inl rfl, tyX7_ok, nmX7, rfl, rfl, fun _ => rfl⟩
theorem gX7_78_X3 : rv_gf "Rulehearth$Deriver" 78 2 2 := ⟨RX3, TX3, 3, "Rulehearth$Facts", rv_c2, in_X3, by decide, Or.inl q537, Or.inl rfl⟩
theorem pX7_78_X3 : rv_pf "Rulehearth$Deriver" 78 2 2 (tyX3 2) false := ⟨RX3, TX3, 3, "Rulehearth$Facts", tyX3, rv_c2, in_X3, by decide, Or.inl q537, Or.inl rfl, tyX3_ok, nmX3, rfl, rfl, fun h => by cases h⟩
theorem gX7_86_X3 : rv_gf "Rulehearth$Deriver" 86 2 0 := ⟨RX3, TX3, 3, "Rulehearth$Facts", rv_c2, in_X3, by decide, Or.inl q529, Or.inl rfl⟩
theorem gX3_9_X3 : rv_gf "Rulehearth$Facts" 9 2 0 := ⟨RX3, TX3, 3, "Rulehearth$Facts", rv_c2, in_X3, by decide, Or.inl q528, Or.inl rfl⟩
theorem pX3_9_X3 : rv_pf "Rulehearth$Facts" 9 2 0 (tyX3 0) true := ⟨RX3, TX3, 3, "Rulehearth$Facts", tyX3, rv_c2, in_X3, by decide, Or.inl q528, Or.inl rfl, tyX3_ok, nmX3, rfl, rfl, fun _ => rfl⟩
theorem gX3_15_X3 : rv_gf "Rulehearth$Facts" 15 2 1 := ⟨RX3, TX3, 3, "Rulehearth$Facts", rv_c2, in_X3, by decide, Or.inl q534, Or.inl rfl⟩
theorem pX3_15_X3 : rv_pf "Rulehearth$Facts" 15 2 1 (tyX3 1) true := ⟨RX3, TX3, 3, "Rulehearth$Facts", tyX3, rv_c2, in_X3, by decide, Or.inl q534, Or.inl rfl, tyX3_ok, nmX3, rfl, rfl, fun _ => rfl⟩
theorem gX3_18_X3 : rv_gf "Rulehearth$Facts" 18 2 2 := ⟨RX3, TX3, 3, "Rulehearth$Facts", rv_c2, in_X3, by decide, Or.inl q536, Or.inl rfl⟩
theorem pX3_18_X3 : rv_pf "Rulehearth$Facts" 18 2 2 (tyX3 2) false := ⟨RX3, TX3, 3, "Rulehearth$Facts", tyX3, rv_c2, in_X3, by decide, Or.inl q536, Or.inl rfl, tyX3_ok, nmX3, rfl, rfl, fun h => by cases h⟩
theorem gX15_7_X15 : rv_gf "Rulehearth$First" 7 14 0 := ⟨RX15, TX15, 5, "Rulehearth$First", rv_c14, in_X15, by decide, Or.inl q1858, Or.inl rfl⟩
theorem pX15_7_X15 : rv_pf "Rulehearth$First" 7 14 0 (tyX15 0) true := ⟨RX15, TX15, 5, "Rulehearth$First", tyX15, rv_c14, in_X15, by decide, Or.inl q1858, Or.inl rfl, tyX15_ok, nmX15, rfl, rfl, fun _ => rfl⟩
theorem gX15_13_X15 : rv_gf "Rulehearth$First" 13 14 1 := ⟨RX15, TX15, 5, "Rulehearth$First", rv_c14, in_X15, by decide, Or.inl q1859, Or.inl rfl⟩
theorem pX15_13_X15 : rv_pf "Rulehearth$First" 13 14 1 (tyX15 1) true := ⟨RX15, TX15, 5, "Rulehearth$First", tyX15, rv_c14, in_X15, by decide, Or.inl q1859, Or.inl rfl, tyX15_ok, nmX15, rfl, rfl, fun _ => rfl⟩
theorem gX15_17_X15 : rv_gf "Rulehearth$First" 17 14 2 := ⟨RX15, TX15, 5, "Rulehearth$First", rv_c14, in_X15, by decide, Or.inl q1860, Or.inl rfl⟩
theorem pX15_17_X15 : rv_pf "Rulehearth$First" 17 14 2 (tyX15 2) true := ⟨RX15, TX15, 5, "Rulehearth$First", tyX15, rv_c14, in_X15, by decide, Or.inl q1860, Or.inl rfl, tyX15_ok, nmX15, rfl, rfl, fun _ => rfl⟩
theorem gX15_21_X15 : rv_gf "Rulehearth$First" 21 14 3 := ⟨RX15, TX15, 5, "Rulehearth$First", rv_c14, in_X15, by decide, Or.inl q1861, Or.inl rfl⟩
theorem pX15_21_X15 : rv_pf "Rulehearth$First" 21 14 3 (tyX15 3) true := ⟨RX15, TX15, 5, "Rulehearth$First", tyX15, rv_c14, in_X15, by decide, Or.inl q1861, Or.inl rfl, tyX15_ok, nmX15, rfl, rfl, fun _ => rfl⟩
theorem gX15_42_X15 : rv_gf "Rulehearth$First" 42 14 4 := ⟨RX15, TX15, 5, "Rulehearth$First", rv_c14, in_X15, by decide, Or.inl q1862, Or.inl rfl⟩
theorem pX15_42_X15 : rv_pf "Rulehearth$First" 42 14 4 (tyX15 4) false := ⟨RX15, TX15, 5, "Rulehearth$First", tyX15, rv_c14, in_X15, by decide, Or.inl q1862, Or.inl rfl, tyX15_ok, nmX15, rfl, rfl, fun h => by cases h⟩
theorem gX16_3_X11 : rv_gf "Rulehearth$Goals" 3 10 1 := ⟨RX11, TX11, 4, "Rulehearth$Item", rv_c10, in_X11, by decide, Or.inl q1478, Or.inl rfl⟩
theorem gX16_9_X11 : rv_gf "Rulehearth$Goals" 9 10 2 := ⟨RX11, TX11, 4, "Rulehearth$Item", rv_c10, in_X11, by decide, Or.inl q1485, Or.inl rfl⟩
theorem gX16_17_X16 : rv_gf "Rulehearth$Goals" 17 15 1 := ⟨RX16, TX16, 5, "Rulehearth$Goals", rv_c15, in_X16, by decide, Or.inl q1959, Or.inl rfl⟩
theorem pX16_17_X16 : rv_pf "Rulehearth$Goals" 17 15 1 (tyX16 1) false := ⟨RX16, TX16, 5, "Rulehearth$Goals", tyX16, rv_c15, in_X16, by decide, Or.inl q1959, Or.inl rfl, tyX16_ok, nmX16, rfl, rfl, fun h => by cases h⟩
theorem gX16_22_X16 : rv_gf "Rulehearth$Goals" 22 15 0 := ⟨RX16, TX16, 5, "Rulehearth$Goals", rv_c15, in_X16, by decide, Or.inl q1958, Or.inl rfl⟩
theorem pX16_22_X16 : rv_pf "Rulehearth$Goals" 22 15 0 (tyX16 0) true := ⟨RX16, TX16, 5, "Rulehearth$Goals", tyX16, rv_c15, in_X16, by decide, Or.inl q1958, Or.inl rfl, tyX16_ok, nmX16, rfl, rfl, fun _ => rfl⟩
theorem gX16_25_X10 : rv_gf "Rulehearth$Goals" 25 9 1 := ⟨RX10, TX10, 9, "Rulehearth$Clause", rv_c9, in_X10, by decide, Or.inl q1510, Or.inl rfl⟩
theorem gX16_31_X10 : rv_gf "Rulehearth$Goals" 31 9 2 := ⟨RX10, TX10, 9, "Rulehearth$Clause", rv_c9, in_X10, by decide, Or.inl q1518, Or.inl rfl⟩
theorem pX16_31_X10 : rv_pf "Rulehearth$Goals" 31 9 2 (tyX10 2) false := ⟨RX10, TX10, 9, "Rulehearth$Clause", tyX10, rv_c9, in_X10, by decide, Or.inl q1518, Or.inl rfl, tyX10_ok, nmX10, rfl, rfl, fun h => by cases h⟩
theorem gX16_38_X16 : rv_gf "Rulehearth$Goals" 38 15 4 := ⟨RX16, TX16, 5, "Rulehearth$Goals", rv_c15, in_X16, by decide, Or.inl q1962, Or.inl rfl⟩
theorem pX16_38_X16 : rv_pf "Rulehearth$Goals" 38 15 4 (tyX16 4) true := ⟨RX16, TX16, 5, "Rulehearth$Goals", tyX16, rv_c15, in_X16, by decide, Or.inl q1962, Or.inl rfl, tyX16_ok, nmX16, rfl, rfl, fun _ => rfl⟩
theorem gX16_52_X16 : rv_gf "Rulehearth$Goals" 52 15 2 := ⟨RX16, TX16, 5, "Rulehearth$Goals", rv_c15, in_X16, by decide, Or.inl q1960, Or.inl rfl⟩
theorem pX16_52_X16 : rv_pf "Rulehearth$Goals" 52 15 2 (tyX16 2) true := ⟨RX16, TX16, 5, "Rulehearth$Goals", tyX16, rv_c15, in_X16, by decide, Or.inl q1960, Or.inl rfl, tyX16_ok, nmX16, rfl, rfl, fun _ => rfl⟩
theorem gX16_60_X16 : rv_gf "Rulehearth$Goals" 60 15 3 := ⟨RX16, TX16, 5, "Rulehearth$Goals", rv_c15, in_X16, by decide, Or.inl q1961, Or.inl rfl⟩
theorem pX16_60_X16 : rv_pf "Rulehearth$Goals" 60 15 3 (tyX16 3) true := ⟨RX16, TX16, 5, "Rulehearth$Goals", tyX16, rv_c15, in_X16, by decide, Or.inl q1961, Or.inl rfl, tyX16_ok, nmX16, rfl, rfl, fun _ => rfl⟩
theorem gX16_68_X2 : rv_gf "Rulehearth$Goals" 68 1 5 := ⟨RX2, TX2, 12, "Rulehearth$World", rv_c1, in_X2, by decide, Or.inl q567, Or.inl rfl⟩
theorem gX16_81_X10 : rv_gf "Rulehearth$Goals" 81 9 4 := ⟨RX10, TX10, 9, "Rulehearth$Clause", rv_c9, in_X10, by decide, Or.inl q1526, Or.inl rfl⟩
theorem gX16_88_X11 : rv_gf "Rulehearth$Goals" 88 10 0 := ⟨RX11, TX11, 4, "Rulehearth$Item", rv_c10, in_X11, by decide, Or.inl q1475, Or.inl rfl⟩
theorem gX16_93_X2 : rv_gf "Rulehearth$Goals" 93 1 2 := ⟨RX2, TX2, 12, "Rulehearth$World", rv_c1, in_X2, by decide, Or.inl q561, Or.inl rfl⟩
theorem pX16_93_X2 : rv_pf "Rulehearth$Goals" 93 1 2 (tyX2 2) false := ⟨RX2, TX2, 12, "Rulehearth$World", tyX2, rv_c1, in_X2, by decide, Or.inl q561, Or.inl rfl, tyX2_ok, nmX2, rfl, rfl, fun h => by cases h⟩
theorem gX8_9_X8 : rv_gf "Rulehearth$Group" 9 7 1 := ⟨RX8, TX8, 3, "Rulehearth$Group", rv_c7, in_X8, by decide, Or.inl q1301, Or.inl rfl⟩
theorem pX8_9_X8 : rv_pf "Rulehearth$Group" 9 7 1 (tyX8 1) true := ⟨RX8, TX8, 3, "Rulehearth$Group", tyX8, rv_c7, in_X8, by decide, Or.inl q1301, Or.inl rfl, tyX8_ok, nmX8, rfl, rfl, fun _ => rfl⟩
theorem gX8_9_X13 : rv_gf "Rulehearth$Group" 9 12 1 := ⟨RX13, TX13, 6, "Rulehearth$Group", rv_c12, in_X13, by decide, Or.inl q1301, Or.inl rfl⟩
theorem pX8_9_X13 : rv_pf "Rulehearth$Group" 9 12 1 (tyX13 1) true := ⟨RX13, TX13, 6, "Rulehearth$Group", tyX13, rv_c12, in_X13, by decide, Or.inl q1301, Or.inl rfl, tyX13_ok, nmX13, rfl, rfl, fun _ => rfl⟩
theorem gX8_15_X8 : rv_gf "Rulehearth$Group" 15 7 0 := ⟨RX8, TX8, 3, "Rulehearth$Group", rv_c7, in_X8, by decide, Or.inl q1300, Or.inl rfl⟩
theorem pX8_15_X8 : rv_pf "Rulehearth$Group" 15 7 0 (tyX8 0) true := ⟨RX8, TX8, 3, "Rulehearth$Group", tyX8, rv_c7, in_X8, by decide, Or.inl q1300, Or.inl rfl, tyX8_ok, nmX8, rfl, rfl, fun _ => rfl⟩
theorem gX8_15_X13 : rv_gf "Rulehearth$Group" 15 12 0 := ⟨RX13, TX13, 6, "Rulehearth$Group", rv_c12, in_X13, by decide, Or.inl q1300, Or.inl rfl⟩
theorem pX8_15_X13 : rv_pf "Rulehearth$Group" 15 12 0 (tyX13 0) true := ⟨RX13, TX13, 6, "Rulehearth$Group", tyX13, rv_c12, in_X13, by decide, Or.inl q1300, Or.inl rfl, tyX13_ok, nmX13, rfl, rfl, fun _ => rfl⟩
theorem gX8_19_X8 : rv_gf "Rulehearth$Group" 19 7 2 := ⟨RX8, TX8, 3, "Rulehearth$Group", rv_c7, in_X8, by decide, Or.inl q1302, Or.inl rfl⟩
theorem pX8_19_X8 : rv_pf "Rulehearth$Group" 19 7 2 (tyX8 2) false := ⟨RX8, TX8, 3, "Rulehearth$Group", tyX8, rv_c7, in_X8, by decide, Or.inl q1302, Or.inl rfl, tyX8_ok, nmX8, rfl, rfl, fun h => by cases h⟩
theorem gX8_19_X13 : rv_gf "Rulehearth$Group" 19 12 2 := ⟨RX13, TX13, 6, "Rulehearth$Group", rv_c12, in_X13, by decide, Or.inl q1302, Or.inl rfl⟩
theorem pX8_19_X13 : rv_pf "Rulehearth$Group" 19 12 2 (tyX13 2) false := ⟨RX13, TX13, 6, "Rulehearth$Group", tyX13, rv_c12, in_X13, by decide, Or.inl q1302, Or.inl rfl, tyX13_ok, nmX13, rfl, rfl, fun h => by cases h⟩
theorem gX8_23_X10 : rv_gf "Rulehearth$Group" 23 9 1 := ⟨RX10, TX10, 9, "Rulehearth$Clause", rv_c9, in_X10, by decide, Or.inl q1511, Or.inl rfl⟩
theorem gX8_29_X11 : rv_gf "Rulehearth$Group" 29 10 2 := ⟨RX11, TX11, 4, "Rulehearth$Item", rv_c10, in_X11, by decide, Or.inl q1486, Or.inl rfl⟩
theorem gX8_35_X10 : rv_gf "Rulehearth$Group" 35 9 2 := ⟨RX10, TX10, 9, "Rulehearth$Clause", rv_c9, in_X10, by decide, Or.inl q1517, Or.inl rfl⟩
theorem pX8_35_X10 : rv_pf "Rulehearth$Group" 35 9 2 (tyX10 2) false := ⟨RX10, TX10, 9, "Rulehearth$Clause", tyX10, rv_c9, in_X10, by decide, Or.inl q1517, Or.inl rfl, tyX10_ok, nmX10, rfl, rfl, fun h => by cases h⟩
theorem gX8_42_X10 : rv_gf "Rulehearth$Group" 42 9 3 := ⟨RX10, TX10, 9, "Rulehearth$Clause", rv_c9, in_X10, by decide, Or.inl q1521, Or.inl rfl⟩
theorem pX8_42_X10 : rv_pf "Rulehearth$Group" 42 9 3 (tyX10 3) false := ⟨RX10, TX10, 9, "Rulehearth$Clause", tyX10, rv_c9, in_X10, by decide, Or.inl q1521, Or.inl rfl, tyX10_ok, nmX10, rfl, rfl, fun h => by cases h⟩
theorem gX11_9_X11 : rv_gf "Rulehearth$Item" 9 10 0 := ⟨RX11, TX11, 4, "Rulehearth$Item", rv_c10, in_X11, by decide, Or.inl q1472, Or.inl rfl⟩
theorem pX11_9_X11 : rv_pf "Rulehearth$Item" 9 10 0 (tyX11 0) true := ⟨RX11, TX11, 4, "Rulehearth$Item", tyX11, rv_c10, in_X11, by decide, Or.inl q1472, Or.inl rfl, tyX11_ok, nmX11, rfl, rfl, fun _ => rfl⟩
theorem gX11_15_X11 : rv_gf "Rulehearth$Item" 15 10 1 := ⟨RX11, TX11, 4, "Rulehearth$Item", rv_c10, in_X11, by decide, Or.inl q1479, Or.inl rfl⟩
theorem pX11_15_X11 : rv_pf "Rulehearth$Item" 15 10 1 (tyX11 1) true := ⟨RX11, TX11, 4, "Rulehearth$Item", tyX11, rv_c10, in_X11, by decide, Or.inl q1479, Or.inl rfl, tyX11_ok, nmX11, rfl, rfl, fun _ => rfl⟩
theorem gX11_18_X11 : rv_gf "Rulehearth$Item" 18 10 2 := ⟨RX11, TX11, 4, "Rulehearth$Item", rv_c10, in_X11, by decide, Or.inl q1484, Or.inl rfl⟩
theorem pX11_18_X11 : rv_pf "Rulehearth$Item" 18 10 2 (tyX11 2) true := ⟨RX11, TX11, 4, "Rulehearth$Item", tyX11, rv_c10, in_X11, by decide, Or.inl q1484, Or.inl rfl, tyX11_ok, nmX11, rfl, rfl, fun _ => rfl⟩
theorem gX11_22_X11 : rv_gf "Rulehearth$Item" 22 10 3 := ⟨RX11, TX11, 4, "Rulehearth$Item", rv_c10, in_X11, by decide, Or.inl q1490, Or.inl rfl⟩
theorem pX11_22_X11 : rv_pf "Rulehearth$Item" 22 10 3 (tyX11 3) false := ⟨RX11, TX11, 4, "Rulehearth$Item", tyX11, rv_c10, in_X11, by decide, Or.inl q1490, Or.inl rfl, tyX11_ok, nmX11, rfl, rfl, fun h => by cases h⟩
theorem gX9_9_X9 : rv_gf "Rulehearth$Matcher" 9 8 5 := ⟨RX9, TX9, 10, "Rulehearth$Matcher", rv_c8, in_X9, by decide, Or.inl q893, Or.inl rfl⟩
theorem pX9_9_X9 : rv_pf "Rulehearth$Matcher" 9 8 5 (tyX9 5) true := ⟨RX9, TX9, 10, "Rulehearth$Matcher", tyX9, rv_c8, in_X9, by decide, Or.inl q893, Or.inl rfl, tyX9_ok, nmX9, rfl, rfl, fun _ => rfl⟩
theorem gX9_15_X9 : rv_gf "Rulehearth$Matcher" 15 8 6 := ⟨RX9, TX9, 10, "Rulehearth$Matcher", rv_c8, in_X9, by decide, Or.inl q894, Or.inl rfl⟩
theorem pX9_15_X9 : rv_pf "Rulehearth$Matcher" 15 8 6 (tyX9 6) false := ⟨RX9, TX9, 10, "Rulehearth$Matcher", tyX9, rv_c8, in_X9, by decide, Or.inl q894, Or.inl rfl, tyX9_ok, nmX9, rfl, rfl, fun h => by cases h⟩
theorem gX9_19_X9 : rv_gf "Rulehearth$Matcher" 19 8 0 := ⟨RX9, TX9, 10, "Rulehearth$Matcher", rv_c8, in_X9, by decide, Or.inl q888, Or.inl rfl⟩
theorem pX9_19_X9 : rv_pf "Rulehearth$Matcher" 19 8 0 (tyX9 0) true := ⟨RX9, TX9, 10, "Rulehearth$Matcher", tyX9, rv_c8, in_X9, by decide, Or.inl q888, Or.inl rfl, tyX9_ok, nmX9, rfl, rfl, fun _ => rfl⟩
theorem gX9_23_X9 : rv_gf "Rulehearth$Matcher" 23 8 1 := ⟨RX9, TX9, 10, "Rulehearth$Matcher", rv_c8, in_X9, by decide, Or.inl q889, Or.inl rfl⟩
theorem pX9_23_X9 : rv_pf "Rulehearth$Matcher" 23 8 1 (tyX9 1) true := ⟨RX9, TX9, 10, "Rulehearth$Matcher", tyX9, rv_c8, in_X9, by decide, Or.inl q889, Or.inl rfl, tyX9_ok, nmX9, rfl, rfl, fun _ => rfl⟩
theorem gX9_26_X9 : rv_gf "Rulehearth$Matcher" 26 8 2 := ⟨RX9, TX9, 10, "Rulehearth$Matcher", rv_c8, in_X9, by decide, Or.inl q890, Or.inl rfl⟩
theorem pX9_26_X9 : rv_pf "Rulehearth$Matcher" 26 8 2 (tyX9 2) true := ⟨RX9, TX9, 10, "Rulehearth$Matcher", tyX9, rv_c8, in_X9, by decide, Or.inl q890, Or.inl rfl, tyX9_ok, nmX9, rfl, rfl, fun _ => rfl⟩
theorem gX9_30_X9 : rv_gf "Rulehearth$Matcher" 30 8 4 := ⟨RX9, TX9, 10, "Rulehearth$Matcher", rv_c8, in_X9, by decide, Or.inl q892, Or.inl rfl⟩
theorem pX9_30_X9 : rv_pf "Rulehearth$Matcher" 30 8 4 (tyX9 4) true := ⟨RX9, TX9, 10, "Rulehearth$Matcher", tyX9, rv_c8, in_X9, by decide, Or.inl q892, Or.inl rfl, tyX9_ok, nmX9, rfl, rfl, fun _ => rfl⟩
theorem gX9_33_X9 : rv_gf "Rulehearth$Matcher" 33 8 3 := ⟨RX9, TX9, 10, "Rulehearth$Matcher", rv_c8, in_X9, by decide, Or.inl q891, Or.inl rfl⟩
theorem pX9_33_X9 : rv_pf "Rulehearth$Matcher" 33 8 3 (tyX9 3) true := ⟨RX9, TX9, 10, "Rulehearth$Matcher", tyX9, rv_c8, in_X9, by decide, Or.inl q891, Or.inl rfl, tyX9_ok, nmX9, rfl, rfl, fun _ => rfl⟩
theorem gX9_37_X9 : rv_gf "Rulehearth$Matcher" 37 8 8 := ⟨RX9, TX9, 10, "Rulehearth$Matcher", rv_c8, in_X9, by decide, Or.inl q896, Or.inl rfl⟩
theorem pX9_37_X9 : rv_pf "Rulehearth$Matcher" 37 8 8 (tyX9 8) false := ⟨RX9, TX9, 10, "Rulehearth$Matcher", tyX9, rv_c8, in_X9, by decide, Or.inl q896, Or.inl rfl, tyX9_ok, nmX9, rfl, rfl, fun h => by cases h⟩
theorem gX9_45_X9 : rv_gf "Rulehearth$Matcher" 45 8 7 := ⟨RX9, TX9, 10, "Rulehearth$Matcher", rv_c8, in_X9, by decide, Or.inl q895, Or.inl rfl⟩
theorem pX9_45_X9 : rv_pf "Rulehearth$Matcher" 45 8 7 (tyX9 7) false := ⟨RX9, TX9, 10, "Rulehearth$Matcher", tyX9, rv_c8, in_X9, by decide, Or.inl q895, Or.inl rfl, tyX9_ok, nmX9, rfl, rfl, fun h => by cases h⟩
theorem gX9_51_X9 : rv_gf "Rulehearth$Matcher" 51 8 9 := ⟨RX9, TX9, 10, "Rulehearth$Matcher", rv_c8, in_X9, by decide, Or.inl q897, Or.inl rfl⟩
theorem pX9_51_X9 : rv_pf "Rulehearth$Matcher" 51 8 9 (tyX9 9) false := ⟨RX9, TX9, 10, "Rulehearth$Matcher", tyX9, rv_c8, in_X9, by decide, Or.inl q897, Or.inl rfl, tyX9_ok, nmX9, rfl, rfl, fun h => by cases h⟩
theorem gX9_74_X11 : rv_gf "Rulehearth$Matcher" 74 10 0 := ⟨RX11, TX11, 4, "Rulehearth$Item", rv_c10, in_X11, by decide, Or.inl q1474, Or.inl rfl⟩
theorem gX9_98_X11 : rv_gf "Rulehearth$Matcher" 98 10 1 := ⟨RX11, TX11, 4, "Rulehearth$Item", rv_c10, in_X11, by decide, Or.inl q1481, Or.inl rfl⟩
theorem gX9_101_X11 : rv_gf "Rulehearth$Matcher" 101 10 2 := ⟨RX11, TX11, 4, "Rulehearth$Item", rv_c10, in_X11, by decide, Or.inl q1488, Or.inl rfl⟩
theorem gX9_108_X3 : rv_gf "Rulehearth$Matcher" 108 2 1 := ⟨RX3, TX3, 3, "Rulehearth$Facts", rv_c2, in_X3, by decide, Or.inl q535, Or.inl rfl⟩
theorem gX9_124_X3 : rv_gf "Rulehearth$Matcher" 124 2 0 := ⟨RX3, TX3, 3, "Rulehearth$Facts", rv_c2, in_X3, by decide, Or.inl q531, Or.inl rfl⟩
theorem gX12_3_X12 : rv_gf "Rulehearth$Reasons" 3 11 5 := ⟨RX12, TX12, 6, "Rulehearth$Reasons", rv_c11, in_X12, by decide, Or.inl q1781, Or.inl rfl⟩
theorem pX12_3_X12 : rv_pf "Rulehearth$Reasons" 3 11 5 (tyX12 5) true := ⟨RX12, TX12, 6, "Rulehearth$Reasons", tyX12, rv_c11, in_X12, by decide, Or.inl q1781, Or.inl rfl, tyX12_ok, nmX12, rfl, rfl, fun _ => rfl⟩
theorem gX12_19_X2 : rv_gf "Rulehearth$Reasons" 19 1 2 := ⟨RX2, TX2, 12, "Rulehearth$World", rv_c1, in_X2, by decide, Or.inl q558, Or.inl rfl⟩
theorem pX12_19_X2 : rv_pf "Rulehearth$Reasons" 19 1 2 (tyX2 2) false := ⟨RX2, TX2, 12, "Rulehearth$World", tyX2, rv_c1, in_X2, by decide, Or.inl q558, Or.inl rfl, tyX2_ok, nmX2, rfl, rfl, fun h => by cases h⟩
theorem gX12_25_X12 : rv_gf "Rulehearth$Reasons" 25 11 0 := ⟨RX12, TX12, 6, "Rulehearth$Reasons", rv_c11, in_X12, by decide, Or.inl q1772, Or.inl rfl⟩
theorem pX12_25_X12 : rv_pf "Rulehearth$Reasons" 25 11 0 (tyX12 0) true := ⟨RX12, TX12, 6, "Rulehearth$Reasons", tyX12, rv_c11, in_X12, by decide, Or.inl q1772, Or.inl rfl, tyX12_ok, nmX12, rfl, rfl, fun _ => rfl⟩
theorem gX12_26_X2 : rv_gf "Rulehearth$Reasons" 26 1 5 := ⟨RX2, TX2, 12, "Rulehearth$World", rv_c1, in_X2, by decide, Or.inl q565, Or.inl rfl⟩
theorem gX12_38_X12 : rv_gf "Rulehearth$Reasons" 38 11 1 := ⟨RX12, TX12, 6, "Rulehearth$Reasons", rv_c11, in_X12, by decide, Or.inl q1773, Or.inl rfl⟩
theorem pX12_38_X12 : rv_pf "Rulehearth$Reasons" 38 11 1 (tyX12 1) true := ⟨RX12, TX12, 6, "Rulehearth$Reasons", tyX12, rv_c11, in_X12, by decide, Or.inl q1773, Or.inl rfl, tyX12_ok, nmX12, rfl, rfl, fun _ => rfl⟩
theorem gX12_42_X12 : rv_gf "Rulehearth$Reasons" 42 11 2 := ⟨RX12, TX12, 6, "Rulehearth$Reasons", rv_c11, in_X12, by decide, Or.inl q1775, Or.inl rfl⟩
theorem pX12_42_X12 : rv_pf "Rulehearth$Reasons" 42 11 2 (tyX12 2) true := ⟨RX12, TX12, 6, "Rulehearth$Reasons", tyX12, rv_c11, in_X12, by decide, Or.inl q1775, Or.inl rfl, tyX12_ok, nmX12, rfl, rfl, fun _ => rfl⟩
theorem gX12_45_X12 : rv_gf "Rulehearth$Reasons" 45 11 3 := ⟨RX12, TX12, 6, "Rulehearth$Reasons", rv_c11, in_X12, by decide, Or.inl q1777, Or.inl rfl⟩
theorem pX12_45_X12 : rv_pf "Rulehearth$Reasons" 45 11 3 (tyX12 3) true := ⟨RX12, TX12, 6, "Rulehearth$Reasons", tyX12, rv_c11, in_X12, by decide, Or.inl q1777, Or.inl rfl, tyX12_ok, nmX12, rfl, rfl, fun _ => rfl⟩
theorem gX12_58_X10 : rv_gf "Rulehearth$Reasons" 58 9 2 := ⟨RX10, TX10, 9, "Rulehearth$Clause", rv_c9, in_X10, by decide, Or.inl q1516, Or.inl rfl⟩
theorem pX12_58_X10 : rv_pf "Rulehearth$Reasons" 58 9 2 (tyX10 2) false := ⟨RX10, TX10, 9, "Rulehearth$Clause", tyX10, rv_c9, in_X10, by decide, Or.inl q1516, Or.inl rfl, tyX10_ok, nmX10, rfl, rfl, fun h => by cases h⟩
theorem gX12_87_X3 : rv_gf "Rulehearth$Reasons" 87 2 2 := ⟨RX3, TX3, 3, "Rulehearth$Facts", rv_c2, in_X3, by decide, Or.inl q538, Or.inl rfl⟩
theorem pX12_87_X3 : rv_pf "Rulehearth$Reasons" 87 2 2 (tyX3 2) false := ⟨RX3, TX3, 3, "Rulehearth$Facts", tyX3, rv_c2, in_X3, by decide, Or.inl q538, Or.inl rfl, tyX3_ok, nmX3, rfl, rfl, fun h => by cases h⟩
theorem gX12_92_X3 : rv_gf "Rulehearth$Reasons" 92 2 0 := ⟨RX3, TX3, 3, "Rulehearth$Facts", rv_c2, in_X3, by decide, Or.inl q530, Or.inl rfl⟩
theorem gX12_111_X12 : rv_gf "Rulehearth$Reasons" 111 11 4 := ⟨RX12, TX12, 6, "Rulehearth$Reasons", rv_c11, in_X12, by decide, Or.inl q1780, Or.inl rfl⟩
theorem pX12_111_X12 : rv_pf "Rulehearth$Reasons" 111 11 4 (tyX12 4) false := ⟨RX12, TX12, 6, "Rulehearth$Reasons", tyX12, rv_c11, in_X12, by decide, Or.inl q1780, Or.inl rfl, tyX12_ok, nmX12, rfl, rfl, fun h => by cases h⟩
theorem gX13_3_X13 : rv_gf "Rulehearth$Together" 3 12 5 := ⟨RX13, TX13, 6, "Rulehearth$Together", rv_c12, in_X13, by decide, Or.inl q1741, Or.inl rfl⟩
theorem pX13_3_X13 : rv_pf "Rulehearth$Together" 3 12 5 (tyX13 5) true := ⟨RX13, TX13, 6, "Rulehearth$Together", tyX13, rv_c12, in_X13, by decide, Or.inl q1741, Or.inl rfl, tyX13_ok, nmX13, rfl, rfl, fun _ => rfl⟩
theorem gX13_21_X13 : rv_gf "Rulehearth$Together" 21 12 3 := ⟨RX13, TX13, 6, "Rulehearth$Together", rv_c12, in_X13, by decide, Or.inl q1739, Or.inl rfl⟩
theorem pX13_21_X13 : rv_pf "Rulehearth$Together" 21 12 3 (tyX13 3) true := ⟨RX13, TX13, 6, "Rulehearth$Together", tyX13, rv_c12, in_X13, by decide, Or.inl q1739, Or.inl rfl, tyX13_ok, nmX13, rfl, rfl, fun _ => rfl⟩
theorem gX13_24_X13 : rv_gf "Rulehearth$Together" 24 12 4 := ⟨RX13, TX13, 6, "Rulehearth$Together", rv_c12, in_X13, by decide, Or.inl q1740, Or.inl rfl⟩
theorem pX13_24_X13 : rv_pf "Rulehearth$Together" 24 12 4 (tyX13 4) false := ⟨RX13, TX13, 6, "Rulehearth$Together", tyX13, rv_c12, in_X13, by decide, Or.inl q1740, Or.inl rfl, tyX13_ok, nmX13, rfl, rfl, fun h => by cases h⟩
theorem gX14_9_X14 : rv_gf "Rulehearth$Why" 9 13 0 := ⟨RX14, TX14, 3, "Rulehearth$Why", rv_c13, in_X14, by decide, Or.inl q1837, Or.inl rfl⟩
theorem pX14_9_X14 : rv_pf "Rulehearth$Why" 9 13 0 (tyX14 0) false := ⟨RX14, TX14, 3, "Rulehearth$Why", tyX14, rv_c13, in_X14, by decide, Or.inl q1837, Or.inl rfl, tyX14_ok, nmX14, rfl, rfl, fun h => by cases h⟩
theorem gX14_15_X14 : rv_gf "Rulehearth$Why" 15 13 2 := ⟨RX14, TX14, 3, "Rulehearth$Why", rv_c13, in_X14, by decide, Or.inl q1840, Or.inl rfl⟩
theorem pX14_15_X14 : rv_pf "Rulehearth$Why" 15 13 2 (tyX14 2) true := ⟨RX14, TX14, 3, "Rulehearth$Why", tyX14, rv_c13, in_X14, by decide, Or.inl q1840, Or.inl rfl, tyX14_ok, nmX14, rfl, rfl, fun _ => rfl⟩
theorem gX2_14_X2 : rv_gf "Rulehearth$World" 14 1 0 := ⟨RX2, TX2, 12, "Rulehearth$World", rv_c1, in_X2, by decide, Or.inl q554, Or.inl rfl⟩
theorem pX2_14_X2 : rv_pf "Rulehearth$World" 14 1 0 (tyX2 0) true := ⟨RX2, TX2, 12, "Rulehearth$World", tyX2, rv_c1, in_X2, by decide, Or.inl q554, Or.inl rfl, tyX2_ok, nmX2, rfl, rfl, fun _ => rfl⟩
theorem gX2_20_X2 : rv_gf "Rulehearth$World" 20 1 1 := ⟨RX2, TX2, 12, "Rulehearth$World", rv_c1, in_X2, by decide, Or.inl q556, Or.inl rfl⟩
theorem pX2_20_X2 : rv_pf "Rulehearth$World" 20 1 1 (tyX2 1) true := ⟨RX2, TX2, 12, "Rulehearth$World", tyX2, rv_c1, in_X2, by decide, Or.inl q556, Or.inl rfl, tyX2_ok, nmX2, rfl, rfl, fun _ => rfl⟩
theorem gX2_26_X2 : rv_gf "Rulehearth$World" 26 1 2 := ⟨RX2, TX2, 12, "Rulehearth$World", rv_c1, in_X2, by decide, Or.inl q559, Or.inl rfl⟩
theorem pX2_26_X2 : rv_pf "Rulehearth$World" 26 1 2 (tyX2 2) false := ⟨RX2, TX2, 12, "Rulehearth$World", tyX2, rv_c1, in_X2, by decide, Or.inl q559, Or.inl rfl, tyX2_ok, nmX2, rfl, rfl, fun h => by cases h⟩
theorem gX2_30_X2 : rv_gf "Rulehearth$World" 30 1 3 := ⟨RX2, TX2, 12, "Rulehearth$World", rv_c1, in_X2, by decide, Or.inl q563, Or.inl rfl⟩
theorem pX2_30_X2 : rv_pf "Rulehearth$World" 30 1 3 (tyX2 3) false := ⟨RX2, TX2, 12, "Rulehearth$World", tyX2, rv_c1, in_X2, by decide, Or.inl q563, Or.inl rfl, tyX2_ok, nmX2, rfl, rfl, fun h => by cases h⟩
theorem gX2_34_X2 : rv_gf "Rulehearth$World" 34 1 5 := ⟨RX2, TX2, 12, "Rulehearth$World", rv_c1, in_X2, by decide, Or.inl q566, Or.inl rfl⟩
theorem pX2_34_X2 : rv_pf "Rulehearth$World" 34 1 5 (tyX2 5) true := ⟨RX2, TX2, 12, "Rulehearth$World", tyX2, rv_c1, in_X2, by decide, Or.inl q566, Or.inl rfl, tyX2_ok, nmX2, rfl, rfl, fun _ => rfl⟩
theorem gX2_37_X2 : rv_gf "Rulehearth$World" 37 1 6 := ⟨RX2, TX2, 12, "Rulehearth$World", rv_c1, in_X2, by decide, Or.inl q569, Or.inl rfl⟩
theorem pX2_37_X2 : rv_pf "Rulehearth$World" 37 1 6 (tyX2 6) true := ⟨RX2, TX2, 12, "Rulehearth$World", tyX2, rv_c1, in_X2, by decide, Or.inl q569, Or.inl rfl, tyX2_ok, nmX2, rfl, rfl, fun _ => rfl⟩
theorem gX2_41_X2 : rv_gf "Rulehearth$World" 41 1 9 := ⟨RX2, TX2, 12, "Rulehearth$World", rv_c1, in_X2, by decide, Or.inl q576, Or.inl rfl⟩
theorem pX2_41_X2 : rv_pf "Rulehearth$World" 41 1 9 (tyX2 9) true := ⟨RX2, TX2, 12, "Rulehearth$World", tyX2, rv_c1, in_X2, by decide, Or.inl q576, Or.inl rfl, tyX2_ok, nmX2, rfl, rfl, fun _ => rfl⟩
theorem gX2_44_X2 : rv_gf "Rulehearth$World" 44 1 10 := ⟨RX2, TX2, 12, "Rulehearth$World", rv_c1, in_X2, by decide, Or.inl q578, Or.inl rfl⟩
theorem pX2_44_X2 : rv_pf "Rulehearth$World" 44 1 10 (tyX2 10) true := ⟨RX2, TX2, 12, "Rulehearth$World", tyX2, rv_c1, in_X2, by decide, Or.inl q578, Or.inl rfl, tyX2_ok, nmX2, rfl, rfl, fun _ => rfl⟩
theorem gX2_52_X2 : rv_gf "Rulehearth$World" 52 1 4 := ⟨RX2, TX2, 12, "Rulehearth$World", rv_c1, in_X2, by decide, Or.inl q564, Or.inl rfl⟩
theorem pX2_52_X2 : rv_pf "Rulehearth$World" 52 1 4 (tyX2 4) false := ⟨RX2, TX2, 12, "Rulehearth$World", tyX2, rv_c1, in_X2, by decide, Or.inl q564, Or.inl rfl, tyX2_ok, nmX2, rfl, rfl, fun h => by cases h⟩
theorem gX2_56_X2 : rv_gf "Rulehearth$World" 56 1 7 := ⟨RX2, TX2, 12, "Rulehearth$World", rv_c1, in_X2, by decide, Or.inl q572, Or.inl rfl⟩
theorem pX2_56_X2 : rv_pf "Rulehearth$World" 56 1 7 (tyX2 7) false := ⟨RX2, TX2, 12, "Rulehearth$World", tyX2, rv_c1, in_X2, by decide, Or.inl q572, Or.inl rfl, tyX2_ok, nmX2, rfl, rfl, fun h => by cases h⟩
theorem gX2_59_X2 : rv_gf "Rulehearth$World" 59 1 8 := ⟨RX2, TX2, 12, "Rulehearth$World", rv_c1, in_X2, by decide, Or.inl q574, Or.inl rfl⟩
theorem pX2_59_X2 : rv_pf "Rulehearth$World" 59 1 8 (tyX2 8) false := ⟨RX2, TX2, 12, "Rulehearth$World", tyX2, rv_c1, in_X2, by decide, Or.inl q574, Or.inl rfl, tyX2_ok, nmX2, rfl, rfl, fun h => by cases h⟩
theorem gX2_62_X2 : rv_gf "Rulehearth$World" 62 1 11 := ⟨RX2, TX2, 12, "Rulehearth$World", rv_c1, in_X2, by decide, Or.inl q580, Or.inl rfl⟩
theorem pX2_62_X2 : rv_pf "Rulehearth$World" 62 1 11 (tyX2 11) false := ⟨RX2, TX2, 12, "Rulehearth$World", tyX2, rv_c1, in_X2, by decide, Or.inl q580, Or.inl rfl, tyX2_ok, nmX2, rfl, rfl, fun h => by cases h⟩
theorem gX2_94_X10 : rv_gf "Rulehearth$World" 94 9 4 := ⟨RX10, TX10, 9, "Rulehearth$Clause", rv_c9, in_X10, by decide, Or.inl q1527, Or.inl rfl⟩
theorem gX2_99_X11 : rv_gf "Rulehearth$World" 99 10 0 := ⟨RX11, TX11, 4, "Rulehearth$Item", rv_c10, in_X11, by decide, Or.inl q1476, Or.inl rfl⟩
theorem gX2_102_X10 : rv_gf "Rulehearth$World" 102 9 2 := ⟨RX10, TX10, 9, "Rulehearth$Clause", rv_c9, in_X10, by decide, Or.inl q1519, Or.inl rfl⟩
theorem pX2_102_X10 : rv_pf "Rulehearth$World" 102 9 2 (tyX10 2) false := ⟨RX10, TX10, 9, "Rulehearth$Clause", tyX10, rv_c9, in_X10, by decide, Or.inl q1519, Or.inl rfl, tyX10_ok, nmX10, rfl, rfl, fun h => by cases h⟩
theorem gX2_105_X11 : rv_gf "Rulehearth$World" 105 10 1 := ⟨RX11, TX11, 4, "Rulehearth$Item", rv_c10, in_X11, by decide, Or.inl q1482, Or.inl rfl⟩
theorem gX2_108_X10 : rv_gf "Rulehearth$World" 108 9 1 := ⟨RX10, TX10, 9, "Rulehearth$Clause", rv_c9, in_X10, by decide, Or.inl q1512, Or.inl rfl⟩
theorem gX2_135_X3 : rv_gf "Rulehearth$World" 135 2 2 := ⟨RX3, TX3, 3, "Rulehearth$Facts", rv_c2, in_X3, by decide, Or.inl q539, Or.inl rfl⟩
theorem pX2_135_X3 : rv_pf "Rulehearth$World" 135 2 2 (tyX3 2) false := ⟨RX3, TX3, 3, "Rulehearth$Facts", tyX3, rv_c2, in_X3, by decide, Or.inl q539, Or.inl rfl, tyX3_ok, nmX3, rfl, rfl, fun h => by cases h⟩
theorem gX2_148_X3 : rv_gf "Rulehearth$World" 148 2 0 := ⟨RX3, TX3, 3, "Rulehearth$Facts", rv_c2, in_X3, by decide, Or.inl q532, Or.inl rfl⟩
theorem gX4_7_X4 : rv_gf "RulehearthModel" 7 3 1 := ⟨RX4, TX4, 56, "RulehearthModel", rv_c3, in_X4, by decide, Or.inl q2100, Or.inl rfl⟩
theorem pX4_7_X4 : rv_pf "RulehearthModel" 7 3 1 (tyX4 1) true := ⟨RX4, TX4, 56, "RulehearthModel", tyX4, rv_c3, in_X4, by decide, Or.inl q2100, Or.inl rfl, tyX4_ok, nmX4, rfl, rfl, fun _ => rfl⟩
theorem gX4_13_X4 : rv_gf "RulehearthModel" 13 3 2 := ⟨RX4, TX4, 56, "RulehearthModel", rv_c3, in_X4, by decide, Or.inl q2101, Or.inl rfl⟩
theorem pX4_13_X4 : rv_pf "RulehearthModel" 13 3 2 (tyX4 2) true := ⟨RX4, TX4, 56, "RulehearthModel", tyX4, rv_c3, in_X4, by decide, Or.inl q2101, Or.inl rfl, tyX4_ok, nmX4, rfl, rfl, fun _ => rfl⟩
theorem gX4_16_X4 : rv_gf "RulehearthModel" 16 3 3 := ⟨RX4, TX4, 56, "RulehearthModel", rv_c3, in_X4, by decide, Or.inl q2102, Or.inl rfl⟩
theorem pX4_16_X4 : rv_pf "RulehearthModel" 16 3 3 (tyX4 3) true := ⟨RX4, TX4, 56, "RulehearthModel", tyX4, rv_c3, in_X4, by decide, Or.inl q2102, Or.inl rfl, tyX4_ok, nmX4, rfl, rfl, fun _ => rfl⟩
theorem gX4_19_X4 : rv_gf "RulehearthModel" 19 3 4 := ⟨RX4, TX4, 56, "RulehearthModel", rv_c3, in_X4, by decide, Or.inl q2103, Or.inl rfl⟩
theorem pX4_19_X4 : rv_pf "RulehearthModel" 19 3 4 (tyX4 4) true := ⟨RX4, TX4, 56, "RulehearthModel", tyX4, rv_c3, in_X4, by decide, Or.inl q2103, Or.inl rfl, tyX4_ok, nmX4, rfl, rfl, fun _ => rfl⟩
theorem gX4_22_X4 : rv_gf "RulehearthModel" 22 3 5 := ⟨RX4, TX4, 56, "RulehearthModel", rv_c3, in_X4, by decide, Or.inl q2104, Or.inl rfl⟩
theorem pX4_22_X4 : rv_pf "RulehearthModel" 22 3 5 (tyX4 5) true := ⟨RX4, TX4, 56, "RulehearthModel", tyX4, rv_c3, in_X4, by decide, Or.inl q2104, Or.inl rfl, tyX4_ok, nmX4, rfl, rfl, fun _ => rfl⟩
theorem gX4_25_X4 : rv_gf "RulehearthModel" 25 3 6 := ⟨RX4, TX4, 56, "RulehearthModel", rv_c3, in_X4, by decide, Or.inl q2105, Or.inl rfl⟩
theorem pX4_25_X4 : rv_pf "RulehearthModel" 25 3 6 (tyX4 6) true := ⟨RX4, TX4, 56, "RulehearthModel", tyX4, rv_c3, in_X4, by decide, Or.inl q2105, Or.inl rfl, tyX4_ok, nmX4, rfl, rfl, fun _ => rfl⟩
theorem gX4_28_X4 : rv_gf "RulehearthModel" 28 3 7 := ⟨RX4, TX4, 56, "RulehearthModel", rv_c3, in_X4, by decide, Or.inl q2106, Or.inl rfl⟩
theorem pX4_28_X4 : rv_pf "RulehearthModel" 28 3 7 (tyX4 7) true := ⟨RX4, TX4, 56, "RulehearthModel", tyX4, rv_c3, in_X4, by decide, Or.inl q2106, Or.inl rfl, tyX4_ok, nmX4, rfl, rfl, fun _ => rfl⟩
theorem gX4_31_X4 : rv_gf "RulehearthModel" 31 3 8 := ⟨RX4, TX4, 56, "RulehearthModel", rv_c3, in_X4, by decide, Or.inl q2107, Or.inl rfl⟩
theorem pX4_31_X4 : rv_pf "RulehearthModel" 31 3 8 (tyX4 8) true := ⟨RX4, TX4, 56, "RulehearthModel", tyX4, rv_c3, in_X4, by decide, Or.inl q2107, Or.inl rfl, tyX4_ok, nmX4, rfl, rfl, fun _ => rfl⟩
theorem gX4_34_X4 : rv_gf "RulehearthModel" 34 3 9 := ⟨RX4, TX4, 56, "RulehearthModel", rv_c3, in_X4, by decide, Or.inl q2108, Or.inl rfl⟩
theorem pX4_34_X4 : rv_pf "RulehearthModel" 34 3 9 (tyX4 9) true := ⟨RX4, TX4, 56, "RulehearthModel", tyX4, rv_c3, in_X4, by decide, Or.inl q2108, Or.inl rfl, tyX4_ok, nmX4, rfl, rfl, fun _ => rfl⟩
theorem gX4_37_X4 : rv_gf "RulehearthModel" 37 3 10 := ⟨RX4, TX4, 56, "RulehearthModel", rv_c3, in_X4, by decide, Or.inl q2109, Or.inl rfl⟩
theorem pX4_37_X4 : rv_pf "RulehearthModel" 37 3 10 (tyX4 10) true := ⟨RX4, TX4, 56, "RulehearthModel", tyX4, rv_c3, in_X4, by decide, Or.inl q2109, Or.inl rfl, tyX4_ok, nmX4, rfl, rfl, fun _ => rfl⟩
theorem gX4_40_X4 : rv_gf "RulehearthModel" 40 3 11 := ⟨RX4, TX4, 56, "RulehearthModel", rv_c3, in_X4, by decide, Or.inl q2110, Or.inl rfl⟩
theorem pX4_40_X4 : rv_pf "RulehearthModel" 40 3 11 (tyX4 11) true := ⟨RX4, TX4, 56, "RulehearthModel", tyX4, rv_c3, in_X4, by decide, Or.inl q2110, Or.inl rfl, tyX4_ok, nmX4, rfl, rfl, fun _ => rfl⟩
theorem gX4_43_X4 : rv_gf "RulehearthModel" 43 3 12 := ⟨RX4, TX4, 56, "RulehearthModel", rv_c3, in_X4, by decide, Or.inl q2111, Or.inl rfl⟩
theorem pX4_43_X4 : rv_pf "RulehearthModel" 43 3 12 (tyX4 12) true := ⟨RX4, TX4, 56, "RulehearthModel", tyX4, rv_c3, in_X4, by decide, Or.inl q2111, Or.inl rfl, tyX4_ok, nmX4, rfl, rfl, fun _ => rfl⟩
theorem gX4_46_X4 : rv_gf "RulehearthModel" 46 3 13 := ⟨RX4, TX4, 56, "RulehearthModel", rv_c3, in_X4, by decide, Or.inl q2112, Or.inl rfl⟩
theorem pX4_46_X4 : rv_pf "RulehearthModel" 46 3 13 (tyX4 13) true := ⟨RX4, TX4, 56, "RulehearthModel", tyX4, rv_c3, in_X4, by decide, Or.inl q2112, Or.inl rfl, tyX4_ok, nmX4, rfl, rfl, fun _ => rfl⟩
theorem gX4_49_X4 : rv_gf "RulehearthModel" 49 3 14 := ⟨RX4, TX4, 56, "RulehearthModel", rv_c3, in_X4, by decide, Or.inl q2113, Or.inl rfl⟩
theorem pX4_49_X4 : rv_pf "RulehearthModel" 49 3 14 (tyX4 14) true := ⟨RX4, TX4, 56, "RulehearthModel", tyX4, rv_c3, in_X4, by decide, Or.inl q2113, Or.inl rfl, tyX4_ok, nmX4, rfl, rfl, fun _ => rfl⟩
theorem gX4_52_X4 : rv_gf "RulehearthModel" 52 3 15 := ⟨RX4, TX4, 56, "RulehearthModel", rv_c3, in_X4, by decide, Or.inl q2114, Or.inl rfl⟩
theorem pX4_52_X4 : rv_pf "RulehearthModel" 52 3 15 (tyX4 15) true := ⟨RX4, TX4, 56, "RulehearthModel", tyX4, rv_c3, in_X4, by decide, Or.inl q2114, Or.inl rfl, tyX4_ok, nmX4, rfl, rfl, fun _ => rfl⟩
theorem gX4_55_X4 : rv_gf "RulehearthModel" 55 3 16 := ⟨RX4, TX4, 56, "RulehearthModel", rv_c3, in_X4, by decide, Or.inl q2115, Or.inl rfl⟩
theorem pX4_55_X4 : rv_pf "RulehearthModel" 55 3 16 (tyX4 16) true := ⟨RX4, TX4, 56, "RulehearthModel", tyX4, rv_c3, in_X4, by decide, Or.inl q2115, Or.inl rfl, tyX4_ok, nmX4, rfl, rfl, fun _ => rfl⟩
theorem gX4_58_X4 : rv_gf "RulehearthModel" 58 3 17 := ⟨RX4, TX4, 56, "RulehearthModel", rv_c3, in_X4, by decide, Or.inl q2116, Or.inl rfl⟩
theorem pX4_58_X4 : rv_pf "RulehearthModel" 58 3 17 (tyX4 17) true := ⟨RX4, TX4, 56, "RulehearthModel", tyX4, rv_c3, in_X4, by decide, Or.inl q2116, Or.inl rfl, tyX4_ok, nmX4, rfl, rfl, fun _ => rfl⟩
theorem gX4_61_X4 : rv_gf "RulehearthModel" 61 3 18 := ⟨RX4, TX4, 56, "RulehearthModel", rv_c3, in_X4, by decide, Or.inl q2117, Or.inl rfl⟩
theorem pX4_61_X4 : rv_pf "RulehearthModel" 61 3 18 (tyX4 18) true := ⟨RX4, TX4, 56, "RulehearthModel", tyX4, rv_c3, in_X4, by decide, Or.inl q2117, Or.inl rfl, tyX4_ok, nmX4, rfl, rfl, fun _ => rfl⟩
theorem gX4_64_X4 : rv_gf "RulehearthModel" 64 3 19 := ⟨RX4, TX4, 56, "RulehearthModel", rv_c3, in_X4, by decide, Or.inl q2118, Or.inl rfl⟩
theorem pX4_64_X4 : rv_pf "RulehearthModel" 64 3 19 (tyX4 19) true := ⟨RX4, TX4, 56, "RulehearthModel", tyX4, rv_c3, in_X4, by decide, Or.inl q2118, Or.inl rfl, tyX4_ok, nmX4, rfl, rfl, fun _ => rfl⟩
theorem gX4_67_X4 : rv_gf "RulehearthModel" 67 3 20 := ⟨RX4, TX4, 56, "RulehearthModel", rv_c3, in_X4, by decide, Or.inl q2119, Or.inl rfl⟩
theorem pX4_67_X4 : rv_pf "RulehearthModel" 67 3 20 (tyX4 20) true := ⟨RX4, TX4, 56, "RulehearthModel", tyX4, rv_c3, in_X4, by decide, Or.inl q2119, Or.inl rfl, tyX4_ok, nmX4, rfl, rfl, fun _ => rfl⟩
theorem gX4_70_X4 : rv_gf "RulehearthModel" 70 3 21 := ⟨RX4, TX4, 56, "RulehearthModel", rv_c3, in_X4, by decide, Or.inl q2120, Or.inl rfl⟩
theorem pX4_70_X4 : rv_pf "RulehearthModel" 70 3 21 (tyX4 21) true := ⟨RX4, TX4, 56, "RulehearthModel", tyX4, rv_c3, in_X4, by decide, Or.inl q2120, Or.inl rfl, tyX4_ok, nmX4, rfl, rfl, fun _ => rfl⟩
theorem gX4_73_X4 : rv_gf "RulehearthModel" 73 3 25 := ⟨RX4, TX4, 56, "RulehearthModel", rv_c3, in_X4, by decide, Or.inl q2124, Or.inl rfl⟩
theorem pX4_73_X4 : rv_pf "RulehearthModel" 73 3 25 (tyX4 25) true := ⟨RX4, TX4, 56, "RulehearthModel", tyX4, rv_c3, in_X4, by decide, Or.inl q2124, Or.inl rfl, tyX4_ok, nmX4, rfl, rfl, fun _ => rfl⟩
theorem gX4_76_X4 : rv_gf "RulehearthModel" 76 3 26 := ⟨RX4, TX4, 56, "RulehearthModel", rv_c3, in_X4, by decide, Or.inl q2125, Or.inl rfl⟩
theorem pX4_76_X4 : rv_pf "RulehearthModel" 76 3 26 (tyX4 26) true := ⟨RX4, TX4, 56, "RulehearthModel", tyX4, rv_c3, in_X4, by decide, Or.inl q2125, Or.inl rfl, tyX4_ok, nmX4, rfl, rfl, fun _ => rfl⟩
theorem gX4_79_X4 : rv_gf "RulehearthModel" 79 3 27 := ⟨RX4, TX4, 56, "RulehearthModel", rv_c3, in_X4, by decide, Or.inl q2126, Or.inl rfl⟩
theorem pX4_79_X4 : rv_pf "RulehearthModel" 79 3 27 (tyX4 27) true := ⟨RX4, TX4, 56, "RulehearthModel", tyX4, rv_c3, in_X4, by decide, Or.inl q2126, Or.inl rfl, tyX4_ok, nmX4, rfl, rfl, fun _ => rfl⟩
theorem gX4_82_X4 : rv_gf "RulehearthModel" 82 3 28 := ⟨RX4, TX4, 56, "RulehearthModel", rv_c3, in_X4, by decide, Or.inl q2127, Or.inl rfl⟩
theorem pX4_82_X4 : rv_pf "RulehearthModel" 82 3 28 (tyX4 28) true := ⟨RX4, TX4, 56, "RulehearthModel", tyX4, rv_c3, in_X4, by decide, Or.inl q2127, Or.inl rfl, tyX4_ok, nmX4, rfl, rfl, fun _ => rfl⟩
theorem gX4_85_X4 : rv_gf "RulehearthModel" 85 3 35 := ⟨RX4, TX4, 56, "RulehearthModel", rv_c3, in_X4, by decide, Or.inl q2134, Or.inl rfl⟩
theorem pX4_85_X4 : rv_pf "RulehearthModel" 85 3 35 (tyX4 35) true := ⟨RX4, TX4, 56, "RulehearthModel", tyX4, rv_c3, in_X4, by decide, Or.inl q2134, Or.inl rfl, tyX4_ok, nmX4, rfl, rfl, fun _ => rfl⟩
theorem gX4_88_X4 : rv_gf "RulehearthModel" 88 3 36 := ⟨RX4, TX4, 56, "RulehearthModel", rv_c3, in_X4, by decide, Or.inl q2135, Or.inl rfl⟩
theorem pX4_88_X4 : rv_pf "RulehearthModel" 88 3 36 (tyX4 36) true := ⟨RX4, TX4, 56, "RulehearthModel", tyX4, rv_c3, in_X4, by decide, Or.inl q2135, Or.inl rfl, tyX4_ok, nmX4, rfl, rfl, fun _ => rfl⟩
theorem gX4_91_X4 : rv_gf "RulehearthModel" 91 3 37 := ⟨RX4, TX4, 56, "RulehearthModel", rv_c3, in_X4, by decide, Or.inl q2136, Or.inl rfl⟩
theorem pX4_91_X4 : rv_pf "RulehearthModel" 91 3 37 (tyX4 37) true := ⟨RX4, TX4, 56, "RulehearthModel", tyX4, rv_c3, in_X4, by decide, Or.inl q2136, Or.inl rfl, tyX4_ok, nmX4, rfl, rfl, fun _ => rfl⟩
theorem gX4_94_X4 : rv_gf "RulehearthModel" 94 3 38 := ⟨RX4, TX4, 56, "RulehearthModel", rv_c3, in_X4, by decide, Or.inl q2137, Or.inl rfl⟩
theorem pX4_94_X4 : rv_pf "RulehearthModel" 94 3 38 (tyX4 38) true := ⟨RX4, TX4, 56, "RulehearthModel", tyX4, rv_c3, in_X4, by decide, Or.inl q2137, Or.inl rfl, tyX4_ok, nmX4, rfl, rfl, fun _ => rfl⟩
theorem gX4_97_X4 : rv_gf "RulehearthModel" 97 3 40 := ⟨RX4, TX4, 56, "RulehearthModel", rv_c3, in_X4, by decide, Or.inl q2139, Or.inl rfl⟩
theorem pX4_97_X4 : rv_pf "RulehearthModel" 97 3 40 (tyX4 40) true := ⟨RX4, TX4, 56, "RulehearthModel", tyX4, rv_c3, in_X4, by decide, Or.inl q2139, Or.inl rfl, tyX4_ok, nmX4, rfl, rfl, fun _ => rfl⟩
theorem gX4_100_X4 : rv_gf "RulehearthModel" 100 3 41 := ⟨RX4, TX4, 56, "RulehearthModel", rv_c3, in_X4, by decide, Or.inl q2140, Or.inl rfl⟩
theorem pX4_100_X4 : rv_pf "RulehearthModel" 100 3 41 (tyX4 41) true := ⟨RX4, TX4, 56, "RulehearthModel", tyX4, rv_c3, in_X4, by decide, Or.inl q2140, Or.inl rfl, tyX4_ok, nmX4, rfl, rfl, fun _ => rfl⟩
theorem gX4_104_X4 : rv_gf "RulehearthModel" 104 3 42 := ⟨RX4, TX4, 56, "RulehearthModel", rv_c3, in_X4, by decide, Or.inl q2141, Or.inl rfl⟩
theorem pX4_104_X4 : rv_pf "RulehearthModel" 104 3 42 (tyX4 42) true := ⟨RX4, TX4, 56, "RulehearthModel", tyX4, rv_c3, in_X4, by decide, Or.inl q2141, Or.inl rfl, tyX4_ok, nmX4, rfl, rfl, fun _ => rfl⟩
theorem gX4_107_X4 : rv_gf "RulehearthModel" 107 3 43 := ⟨RX4, TX4, 56, "RulehearthModel", rv_c3, in_X4, by decide, Or.inl q2142, Or.inl rfl⟩
theorem pX4_107_X4 : rv_pf "RulehearthModel" 107 3 43 (tyX4 43) true := ⟨RX4, TX4, 56, "RulehearthModel", tyX4, rv_c3, in_X4, by decide, Or.inl q2142, Or.inl rfl, tyX4_ok, nmX4, rfl, rfl, fun _ => rfl⟩
theorem gX4_110_X4 : rv_gf "RulehearthModel" 110 3 44 := ⟨RX4, TX4, 56, "RulehearthModel", rv_c3, in_X4, by decide, Or.inl q2143, Or.inl rfl⟩
theorem pX4_110_X4 : rv_pf "RulehearthModel" 110 3 44 (tyX4 44) true := ⟨RX4, TX4, 56, "RulehearthModel", tyX4, rv_c3, in_X4, by decide, Or.inl q2143, Or.inl rfl, tyX4_ok, nmX4, rfl, rfl, fun _ => rfl⟩
theorem gX4_113_X4 : rv_gf "RulehearthModel" 113 3 45 := ⟨RX4, TX4, 56, "RulehearthModel", rv_c3, in_X4, by decide, Or.inl q2144, Or.inl rfl⟩
theorem pX4_113_X4 : rv_pf "RulehearthModel" 113 3 45 (tyX4 45) true := ⟨RX4, TX4, 56, "RulehearthModel", tyX4, rv_c3, in_X4, by decide, Or.inl q2144, Or.inl rfl, tyX4_ok, nmX4, rfl, rfl, fun _ => rfl⟩
theorem gX4_116_X4 : rv_gf "RulehearthModel" 116 3 46 := ⟨RX4, TX4, 56, "RulehearthModel", rv_c3, in_X4, by decide, Or.inl q2145, Or.inl rfl⟩
theorem pX4_116_X4 : rv_pf "RulehearthModel" 116 3 46 (tyX4 46) true := ⟨RX4, TX4, 56, "RulehearthModel", tyX4, rv_c3, in_X4, by decide, Or.inl q2145, Or.inl rfl, tyX4_ok, nmX4, rfl, rfl, fun _ => rfl⟩
theorem gX4_119_X4 : rv_gf "RulehearthModel" 119 3 47 := ⟨RX4, TX4, 56, "RulehearthModel", rv_c3, in_X4, by decide, Or.inl q2146, Or.inl rfl⟩
theorem pX4_119_X4 : rv_pf "RulehearthModel" 119 3 47 (tyX4 47) true := ⟨RX4, TX4, 56, "RulehearthModel", tyX4, rv_c3, in_X4, by decide, Or.inl q2146, Or.inl rfl, tyX4_ok, nmX4, rfl, rfl, fun _ => rfl⟩
theorem gX4_122_X4 : rv_gf "RulehearthModel" 122 3 49 := ⟨RX4, TX4, 56, "RulehearthModel", rv_c3, in_X4, by decide, Or.inl q2148, Or.inl rfl⟩
theorem pX4_122_X4 : rv_pf "RulehearthModel" 122 3 49 (tyX4 49) true := ⟨RX4, TX4, 56, "RulehearthModel", tyX4, rv_c3, in_X4, by decide, Or.inl q2148, Or.inl rfl, tyX4_ok, nmX4, rfl, rfl, fun _ => rfl⟩
theorem gX4_125_X4 : rv_gf "RulehearthModel" 125 3 51 := ⟨RX4, TX4, 56, "RulehearthModel", rv_c3, in_X4, by decide, Or.inl q2150, Or.inl rfl⟩
theorem pX4_125_X4 : rv_pf "RulehearthModel" 125 3 51 (tyX4 51) true := ⟨RX4, TX4, 56, "RulehearthModel", tyX4, rv_c3, in_X4, by decide, Or.inl q2150, Or.inl rfl, tyX4_ok, nmX4, rfl, rfl, fun _ => rfl⟩
theorem gX4_128_X4 : rv_gf "RulehearthModel" 128 3 55 := ⟨RX4, TX4, 56, "RulehearthModel", rv_c3, in_X4, by decide, Or.inl q2154, Or.inl rfl⟩
theorem pX4_128_X4 : rv_pf "RulehearthModel" 128 3 55 (tyX4 55) true := ⟨RX4, TX4, 56, "RulehearthModel", tyX4, rv_c3, in_X4, by decide, Or.inl q2154, Or.inl rfl, tyX4_ok, nmX4, rfl, rfl, fun _ => rfl⟩
theorem gX4_131_X4 : rv_gf "RulehearthModel" 131 3 0 := ⟨RX4, TX4, 56, "RulehearthModel", rv_c3, in_X4, by decide, Or.inl q2099, Or.inl rfl⟩
theorem pX4_131_X4 : rv_pf "RulehearthModel" 131 3 0 (tyX4 0) false := ⟨RX4, TX4, 56, "RulehearthModel", tyX4, rv_c3, in_X4, by decide, Or.inl q2099, Or.inl rfl, tyX4_ok, nmX4, rfl, rfl, fun h => by cases h⟩
theorem gX4_155_X4 : rv_gf "RulehearthModel" 155 3 31 := ⟨RX4, TX4, 56, "RulehearthModel", rv_c3, in_X4, by decide, Or.inl q2130, Or.inl rfl⟩
theorem pX4_155_X4 : rv_pf "RulehearthModel" 155 3 31 (tyX4 31) false := ⟨RX4, TX4, 56, "RulehearthModel", tyX4, rv_c3, in_X4, by decide, Or.inl q2130, Or.inl rfl, tyX4_ok, nmX4, rfl, rfl, fun h => by cases h⟩
theorem gX4_158_X4 : rv_gf "RulehearthModel" 158 3 32 := ⟨RX4, TX4, 56, "RulehearthModel", rv_c3, in_X4, by decide, Or.inl q2131, Or.inl rfl⟩
theorem pX4_158_X4 : rv_pf "RulehearthModel" 158 3 32 (tyX4 32) false := ⟨RX4, TX4, 56, "RulehearthModel", tyX4, rv_c3, in_X4, by decide, Or.inl q2131, Or.inl rfl, tyX4_ok, nmX4, rfl, rfl, fun h => by cases h⟩
theorem gX4_161_X4 : rv_gf "RulehearthModel" 161 3 33 := ⟨RX4, TX4, 56, "RulehearthModel", rv_c3, in_X4, by decide, Or.inl q2132, Or.inl rfl⟩
theorem pX4_161_X4 : rv_pf "RulehearthModel" 161 3 33 (tyX4 33) false := ⟨RX4, TX4, 56, "RulehearthModel", tyX4, rv_c3, in_X4, by decide, Or.inl q2132, Or.inl rfl, tyX4_ok, nmX4, rfl, rfl, fun h => by cases h⟩
theorem gX4_165_X4 : rv_gf "RulehearthModel" 165 3 34 := ⟨RX4, TX4, 56, "RulehearthModel", rv_c3, in_X4, by decide, Or.inl q2133, Or.inl rfl⟩
theorem pX4_165_X4 : rv_pf "RulehearthModel" 165 3 34 (tyX4 34) false := ⟨RX4, TX4, 56, "RulehearthModel", tyX4, rv_c3, in_X4, by decide, Or.inl q2133, Or.inl rfl, tyX4_ok, nmX4, rfl, rfl, fun h => by cases h⟩
theorem gX4_208_X4 : rv_gf "RulehearthModel" 208 3 39 := ⟨RX4, TX4, 56, "RulehearthModel", rv_c3, in_X4, by decide, Or.inl q2138, Or.inl rfl⟩
theorem pX4_208_X4 : rv_pf "RulehearthModel" 208 3 39 (tyX4 39) false := ⟨RX4, TX4, 56, "RulehearthModel", tyX4, rv_c3, in_X4, by decide, Or.inl q2138, Or.inl rfl, tyX4_ok, nmX4, rfl, rfl, fun h => by cases h⟩
theorem gX4_239_X4 : rv_gf "RulehearthModel" 239 3 30 := ⟨RX4, TX4, 56, "RulehearthModel", rv_c3, in_X4, by decide, Or.inl q2129, Or.inl rfl⟩
theorem pX4_239_X4 : rv_pf "RulehearthModel" 239 3 30 (tyX4 30) false := ⟨RX4, TX4, 56, "RulehearthModel", tyX4, rv_c3, in_X4, by decide, Or.inl q2129, Or.inl rfl, tyX4_ok, nmX4, rfl, rfl, fun h => by cases h⟩
theorem gX4_242_X4 : rv_gf "RulehearthModel" 242 3 29 := ⟨RX4, TX4, 56, "RulehearthModel", rv_c3, in_X4, by decide, Or.inl q2128, Or.inl rfl⟩
theorem pX4_242_X4 : rv_pf "RulehearthModel" 242 3 29 (tyX4 29) false := ⟨RX4, TX4, 56, "RulehearthModel", tyX4, rv_c3, in_X4, by decide, Or.inl q2128, Or.inl rfl, tyX4_ok, nmX4, rfl, rfl, fun h => by cases h⟩
theorem gX4_296_X4 : rv_gf "RulehearthModel" 296 3 24 := ⟨RX4, TX4, 56, "RulehearthModel", rv_c3, in_X4, by decide, Or.inl q2123, Or.inl rfl⟩
theorem pX4_296_X4 : rv_pf "RulehearthModel" 296 3 24 (tyX4 24) false := ⟨RX4, TX4, 56, "RulehearthModel", tyX4, rv_c3, in_X4, by decide, Or.inl q2123, Or.inl rfl, tyX4_ok, nmX4, rfl, rfl, fun h => by cases h⟩
theorem gX4_302_X4 : rv_gf "RulehearthModel" 302 3 23 := ⟨RX4, TX4, 56, "RulehearthModel", rv_c3, in_X4, by decide, Or.inl q2122, Or.inl rfl⟩
theorem pX4_302_X4 : rv_pf "RulehearthModel" 302 3 23 (tyX4 23) false := ⟨RX4, TX4, 56, "RulehearthModel", tyX4, rv_c3, in_X4, by decide, Or.inl q2122, Or.inl rfl, tyX4_ok, nmX4, rfl, rfl, fun h => by cases h⟩
theorem gX4_344_X4 : rv_gf "RulehearthModel" 344 3 48 := ⟨RX4, TX4, 56, "RulehearthModel", rv_c3, in_X4, by decide, Or.inl q2147, Or.inl rfl⟩
theorem pX4_344_X4 : rv_pf "RulehearthModel" 344 3 48 (tyX4 48) false := ⟨RX4, TX4, 56, "RulehearthModel", tyX4, rv_c3, in_X4, by decide, Or.inl q2147, Or.inl rfl, tyX4_ok, nmX4, rfl, rfl, fun h => by cases h⟩
theorem gX4_367_X4 : rv_gf "RulehearthModel" 367 3 50 := ⟨RX4, TX4, 56, "RulehearthModel", rv_c3, in_X4, by decide, Or.inl q2149, Or.inl rfl⟩
theorem pX4_367_X4 : rv_pf "RulehearthModel" 367 3 50 (tyX4 50) false := ⟨RX4, TX4, 56, "RulehearthModel", tyX4, rv_c3, in_X4, by decide, Or.inl q2149, Or.inl rfl, tyX4_ok, nmX4, rfl, rfl, fun h => by cases h⟩
theorem gX4_411_X4 : rv_gf "RulehearthModel" 411 3 52 := ⟨RX4, TX4, 56, "RulehearthModel", rv_c3, in_X4, by decide, Or.inl q2151, Or.inl rfl⟩
theorem pX4_411_X4 : rv_pf "RulehearthModel" 411 3 52 (tyX4 52) false := ⟨RX4, TX4, 56, "RulehearthModel", tyX4, rv_c3, in_X4, by decide, Or.inl q2151, Or.inl rfl, tyX4_ok, nmX4, rfl, rfl, fun h => by cases h⟩
theorem gX4_423_X4 : rv_gf "RulehearthModel" 423 3 53 := ⟨RX4, TX4, 56, "RulehearthModel", rv_c3, in_X4, by decide, Or.inl q2152, Or.inl rfl⟩
theorem pX4_423_X4 : rv_pf "RulehearthModel" 423 3 53 (tyX4 53) false := ⟨RX4, TX4, 56, "RulehearthModel", tyX4, rv_c3, in_X4, by decide, Or.inl q2152, Or.inl rfl, tyX4_ok, nmX4, rfl, rfl, fun h => by cases h⟩
theorem gX4_426_X4 : rv_gf "RulehearthModel" 426 3 54 := ⟨RX4, TX4, 56, "RulehearthModel", rv_c3, in_X4, by decide, Or.inl q2153, Or.inl rfl⟩
theorem pX4_426_X4 : rv_pf "RulehearthModel" 426 3 54 (tyX4 54) false := ⟨RX4, TX4, 56, "RulehearthModel", tyX4, rv_c3, in_X4, by decide, Or.inl q2153, Or.inl rfl, tyX4_ok, nmX4, rfl, rfl, fun h => by cases h⟩
theorem gX4_441_X4 : rv_gf "RulehearthModel" 441 3 22 := ⟨RX4, TX4, 56, "RulehearthModel", rv_c3, in_X4, by decide, Or.inl q2121, Or.inl rfl⟩
theorem pX4_441_X4 : rv_pf "RulehearthModel" 441 3 22 (tyX4 22) false := ⟨RX4, TX4, 56, "RulehearthModel", tyX4, rv_c3, in_X4, by decide, Or.inl q2121, Or.inl rfl, tyX4_ok, nmX4, rfl, rfl, fun h => by cases h⟩
theorem gJ7_15_J8 : rv_gf "java/lang/AbstractStringBuilder" 15 18 0 := ⟨RJ8, TJ8, 4, "java/lang/AbstractStringBuilder", rv_c18, in_J8, by decide, Or.inl q257, Or.inl rfl⟩
theorem pJ7_15_J8 : rv_pf "java/lang/AbstractStringBuilder" 15 18 0 (tyJ8 0) false := ⟨RJ8, TJ8, 4, "java/lang/AbstractStringBuilder", tyJ8, rv_c18, in_J8, by decide, Or.inl q257, Or.inl rfl, tyJ8_ok, nmJ8, rfl, rfl, fun h => by cases h⟩
theorem gJ7_22_J8 : rv_gf "java/lang/AbstractStringBuilder" 22 18 1 := ⟨RJ8, TJ8, 4, "java/lang/AbstractStringBuilder", rv_c18, in_J8, by decide, Or.inl q258, Or.inl rfl⟩
theorem pJ7_22_J8 : rv_pf "java/lang/AbstractStringBuilder" 22 18 1 (tyJ8 1) false := ⟨RJ8, TJ8, 4, "java/lang/AbstractStringBuilder", tyJ8, rv_c18, in_J8, by decide, Or.inl q258, Or.inl rfl, tyJ8_ok, nmJ8, rfl, rfl, fun h => by cases h⟩
theorem gJ7_79_J8 : rv_gf "java/lang/AbstractStringBuilder" 79 18 3 := ⟨RJ8, TJ8, 4, "java/lang/AbstractStringBuilder", rv_c18, in_J8, by decide, Or.inl q260, Or.inl rfl⟩
theorem pJ7_79_J8 : rv_pf "java/lang/AbstractStringBuilder" 79 18 3 (tyJ8 3) false := ⟨RJ8, TJ8, 4, "java/lang/AbstractStringBuilder", tyJ8, rv_c18, in_J8, by decide, Or.inl q260, Or.inl rfl, tyJ8_ok, nmJ8, rfl, rfl, fun h => by cases h⟩
theorem gJ17_205_J17 : rv_gf "java/lang/Integer" 205 20 0 := ⟨RJ17, TJ17, 1, "java/lang/Integer", rv_c20, in_J17, by decide, Or.inl q625, Or.inl rfl⟩
theorem pJ17_205_J17 : rv_pf "java/lang/Integer" 205 20 0 (tyJ17 0) true := ⟨RJ17, TJ17, 1, "java/lang/Integer", tyJ17, rv_c20, in_J17, by decide, Or.inl q625, Or.inl rfl, tyJ17_ok, nmJ17, rfl, rfl, fun _ => rfl⟩
theorem gJ9_9_J9 : rv_gf "java/lang/String" 9 19 0 := ⟨RJ9, TJ9, 4, "java/lang/String", rv_c19, in_J9, by decide, Or.inl q498, Or.inl rfl⟩
theorem pJ9_9_J9 : rv_pf "java/lang/String" 9 19 0 (tyJ9 0) true := ⟨RJ9, TJ9, 4, "java/lang/String", tyJ9, rv_c19, in_J9, by decide, Or.inl q498, Or.inl rfl, tyJ9_ok, nmJ9, rfl, rfl, fun _ => rfl⟩
theorem gJ9_15_J9 : rv_gf "java/lang/String" 15 19 1 := ⟨RJ9, TJ9, 4, "java/lang/String", rv_c19, in_J9, by decide, Or.inl q499, Or.inl rfl⟩
theorem pJ9_15_J9 : rv_pf "java/lang/String" 15 19 1 (tyJ9 1) true := ⟨RJ9, TJ9, 4, "java/lang/String", tyJ9, rv_c19, in_J9, by decide, Or.inl q499, Or.inl rfl, tyJ9_ok, nmJ9, rfl, rfl, fun _ => rfl⟩
theorem gJ9_1048_J8 : rv_gf "java/lang/String" 1048 18 2 := ⟨RJ8, TJ8, 4, "java/lang/AbstractStringBuilder", rv_c18, in_J8, by decide, Or.inl q259, Or.inl rfl⟩
theorem pJ9_1048_J8 : rv_pf "java/lang/String" 1048 18 2 (tyJ8 2) false := ⟨RJ8, TJ8, 4, "java/lang/AbstractStringBuilder", tyJ8, rv_c18, in_J8, by decide, Or.inl q259, Or.inl rfl, tyJ8_ok, nmJ8, rfl, rfl, fun h => by cases h⟩
theorem gJ3_7_X5 : rv_gf "java/lang/Throwable" 7 4 0 := ⟨RX5, TX5, 6, "java/lang/Throwable", rv_c4, in_X5, by decide, Or.inl q474, Or.inl rfl⟩
theorem pJ3_7_X5 : rv_pf "java/lang/Throwable" 7 4 0 (tyX5 0) false := ⟨RX5, TX5, 6, "java/lang/Throwable", tyX5, rv_c4, in_X5, by decide, Or.inl q474, Or.inl rfl, tyX5_ok, nmX5, rfl, rfl, fun h => by cases h⟩
theorem gJ3_7_X6 : rv_gf "java/lang/Throwable" 7 5 0 := ⟨RX6, TX6, 6, "java/lang/Throwable", rv_c5, in_X6, by decide, Or.inl q474, Or.inl rfl⟩
theorem pJ3_7_X6 : rv_pf "java/lang/Throwable" 7 5 0 (tyX6 0) false := ⟨RX6, TX6, 6, "java/lang/Throwable", tyX6, rv_c5, in_X6, by decide, Or.inl q474, Or.inl rfl, tyX6_ok, nmX6, rfl, rfl, fun h => by cases h⟩
theorem gJ3_7_J6 : rv_gf "java/lang/Throwable" 7 21 0 := ⟨RJ6, TJ6, 6, "java/lang/Throwable", rv_c21, in_J6, by decide, Or.inl q474, Or.inl rfl⟩
theorem pJ3_7_J6 : rv_pf "java/lang/Throwable" 7 21 0 (tyJ6 0) false := ⟨RJ6, TJ6, 6, "java/lang/Throwable", tyJ6, rv_c21, in_J6, by decide, Or.inl q474, Or.inl rfl, tyJ6_ok, nmJ6, rfl, rfl, fun h => by cases h⟩
theorem gJ3_7_J18 : rv_gf "java/lang/Throwable" 7 22 0 := ⟨RJ18, TJ18, 6, "java/lang/Throwable", rv_c22, in_J18, by decide, Or.inl q474, Or.inl rfl⟩
theorem pJ3_7_J18 : rv_pf "java/lang/Throwable" 7 22 0 (tyJ18 0) false := ⟨RJ18, TJ18, 6, "java/lang/Throwable", tyJ18, rv_c22, in_J18, by decide, Or.inl q474, Or.inl rfl, tyJ18_ok, nmJ18, rfl, rfl, fun h => by cases h⟩
theorem gJ3_7_J19 : rv_gf "java/lang/Throwable" 7 23 0 := ⟨RJ19, TJ19, 6, "java/lang/Throwable", rv_c23, in_J19, by decide, Or.inl q474, Or.inl rfl⟩
theorem pJ3_7_J19 : rv_pf "java/lang/Throwable" 7 23 0 (tyJ19 0) false := ⟨RJ19, TJ19, 6, "java/lang/Throwable", tyJ19, rv_c23, in_J19, by decide, Or.inl q474, Or.inl rfl, tyJ19_ok, nmJ19, rfl, rfl, fun h => by cases h⟩
theorem gJ3_17_X5 : rv_gf "java/lang/Throwable" 17 4 1 := ⟨RX5, TX5, 6, "java/lang/Throwable", rv_c4, in_X5, by decide, Or.inl q475, Or.inl rfl⟩
theorem pJ3_17_X5 : rv_pf "java/lang/Throwable" 17 4 1 (tyX5 1) false := ⟨RX5, TX5, 6, "java/lang/Throwable", tyX5, rv_c4, in_X5, by decide, Or.inl q475, Or.inl rfl, tyX5_ok, nmX5, rfl, rfl, fun h => by cases h⟩
theorem gJ3_17_X6 : rv_gf "java/lang/Throwable" 17 5 1 := ⟨RX6, TX6, 6, "java/lang/Throwable", rv_c5, in_X6, by decide, Or.inl q475, Or.inl rfl⟩
theorem pJ3_17_X6 : rv_pf "java/lang/Throwable" 17 5 1 (tyX6 1) false := ⟨RX6, TX6, 6, "java/lang/Throwable", tyX6, rv_c5, in_X6, by decide, Or.inl q475, Or.inl rfl, tyX6_ok, nmX6, rfl, rfl, fun h => by cases h⟩
theorem gJ3_17_J6 : rv_gf "java/lang/Throwable" 17 21 1 := ⟨RJ6, TJ6, 6, "java/lang/Throwable", rv_c21, in_J6, by decide, Or.inl q475, Or.inl rfl⟩
theorem pJ3_17_J6 : rv_pf "java/lang/Throwable" 17 21 1 (tyJ6 1) false := ⟨RJ6, TJ6, 6, "java/lang/Throwable", tyJ6, rv_c21, in_J6, by decide, Or.inl q475, Or.inl rfl, tyJ6_ok, nmJ6, rfl, rfl, fun h => by cases h⟩
theorem gJ3_17_J18 : rv_gf "java/lang/Throwable" 17 22 1 := ⟨RJ18, TJ18, 6, "java/lang/Throwable", rv_c22, in_J18, by decide, Or.inl q475, Or.inl rfl⟩
theorem pJ3_17_J18 : rv_pf "java/lang/Throwable" 17 22 1 (tyJ18 1) false := ⟨RJ18, TJ18, 6, "java/lang/Throwable", tyJ18, rv_c22, in_J18, by decide, Or.inl q475, Or.inl rfl, tyJ18_ok, nmJ18, rfl, rfl, fun h => by cases h⟩
theorem gJ3_17_J19 : rv_gf "java/lang/Throwable" 17 23 1 := ⟨RJ19, TJ19, 6, "java/lang/Throwable", rv_c23, in_J19, by decide, Or.inl q475, Or.inl rfl⟩
theorem pJ3_17_J19 : rv_pf "java/lang/Throwable" 17 23 1 (tyJ19 1) false := ⟨RJ19, TJ19, 6, "java/lang/Throwable", tyJ19, rv_c23, in_J19, by decide, Or.inl q475, Or.inl rfl, tyJ19_ok, nmJ19, rfl, rfl, fun h => by cases h⟩
theorem gJ3_24_X5 : rv_gf "java/lang/Throwable" 24 4 2 := ⟨RX5, TX5, 6, "java/lang/Throwable", rv_c4, in_X5, by decide, Or.inl q476, Or.inl rfl⟩
theorem pJ3_24_X5 : rv_pf "java/lang/Throwable" 24 4 2 (tyX5 2) false := ⟨RX5, TX5, 6, "java/lang/Throwable", tyX5, rv_c4, in_X5, by decide, Or.inl q476, Or.inl rfl, tyX5_ok, nmX5, rfl, rfl, fun h => by cases h⟩
theorem gJ3_24_X6 : rv_gf "java/lang/Throwable" 24 5 2 := ⟨RX6, TX6, 6, "java/lang/Throwable", rv_c5, in_X6, by decide, Or.inl q476, Or.inl rfl⟩
theorem pJ3_24_X6 : rv_pf "java/lang/Throwable" 24 5 2 (tyX6 2) false := ⟨RX6, TX6, 6, "java/lang/Throwable", tyX6, rv_c5, in_X6, by decide, Or.inl q476, Or.inl rfl, tyX6_ok, nmX6, rfl, rfl, fun h => by cases h⟩
theorem gJ3_24_J6 : rv_gf "java/lang/Throwable" 24 21 2 := ⟨RJ6, TJ6, 6, "java/lang/Throwable", rv_c21, in_J6, by decide, Or.inl q476, Or.inl rfl⟩
theorem pJ3_24_J6 : rv_pf "java/lang/Throwable" 24 21 2 (tyJ6 2) false := ⟨RJ6, TJ6, 6, "java/lang/Throwable", tyJ6, rv_c21, in_J6, by decide, Or.inl q476, Or.inl rfl, tyJ6_ok, nmJ6, rfl, rfl, fun h => by cases h⟩
theorem gJ3_24_J18 : rv_gf "java/lang/Throwable" 24 22 2 := ⟨RJ18, TJ18, 6, "java/lang/Throwable", rv_c22, in_J18, by decide, Or.inl q476, Or.inl rfl⟩
theorem pJ3_24_J18 : rv_pf "java/lang/Throwable" 24 22 2 (tyJ18 2) false := ⟨RJ18, TJ18, 6, "java/lang/Throwable", tyJ18, rv_c22, in_J18, by decide, Or.inl q476, Or.inl rfl, tyJ18_ok, nmJ18, rfl, rfl, fun h => by cases h⟩
theorem gJ3_24_J19 : rv_gf "java/lang/Throwable" 24 23 2 := ⟨RJ19, TJ19, 6, "java/lang/Throwable", rv_c23, in_J19, by decide, Or.inl q476, Or.inl rfl⟩
theorem pJ3_24_J19 : rv_pf "java/lang/Throwable" 24 23 2 (tyJ19 2) false := ⟨RJ19, TJ19, 6, "java/lang/Throwable", tyJ19, rv_c23, in_J19, by decide, Or.inl q476, Or.inl rfl, tyJ19_ok, nmJ19, rfl, rfl, fun h => by cases h⟩
theorem gJ3_31_X5 : rv_gf "java/lang/Throwable" 31 4 3 := ⟨RX5, TX5, 6, "java/lang/Throwable", rv_c4, in_X5, by decide, Or.inl q473, Or.inl rfl⟩
theorem pJ3_31_X5 : rv_pf "java/lang/Throwable" 31 4 3 (tyX5 3) false := ⟨RX5, TX5, 6, "java/lang/Throwable", tyX5, rv_c4, in_X5, by decide, Or.inl q473, Or.inl rfl, tyX5_ok, nmX5, rfl, rfl, fun h => by cases h⟩
theorem gJ3_31_X6 : rv_gf "java/lang/Throwable" 31 5 3 := ⟨RX6, TX6, 6, "java/lang/Throwable", rv_c5, in_X6, by decide, Or.inl q473, Or.inl rfl⟩
theorem pJ3_31_X6 : rv_pf "java/lang/Throwable" 31 5 3 (tyX6 3) false := ⟨RX6, TX6, 6, "java/lang/Throwable", tyX6, rv_c5, in_X6, by decide, Or.inl q473, Or.inl rfl, tyX6_ok, nmX6, rfl, rfl, fun h => by cases h⟩
theorem gJ3_31_J6 : rv_gf "java/lang/Throwable" 31 21 3 := ⟨RJ6, TJ6, 6, "java/lang/Throwable", rv_c21, in_J6, by decide, Or.inl q473, Or.inl rfl⟩
theorem pJ3_31_J6 : rv_pf "java/lang/Throwable" 31 21 3 (tyJ6 3) false := ⟨RJ6, TJ6, 6, "java/lang/Throwable", tyJ6, rv_c21, in_J6, by decide, Or.inl q473, Or.inl rfl, tyJ6_ok, nmJ6, rfl, rfl, fun h => by cases h⟩
theorem gJ3_31_J18 : rv_gf "java/lang/Throwable" 31 22 3 := ⟨RJ18, TJ18, 6, "java/lang/Throwable", rv_c22, in_J18, by decide, Or.inl q473, Or.inl rfl⟩
theorem pJ3_31_J18 : rv_pf "java/lang/Throwable" 31 22 3 (tyJ18 3) false := ⟨RJ18, TJ18, 6, "java/lang/Throwable", tyJ18, rv_c22, in_J18, by decide, Or.inl q473, Or.inl rfl, tyJ18_ok, nmJ18, rfl, rfl, fun h => by cases h⟩
theorem gJ3_31_J19 : rv_gf "java/lang/Throwable" 31 23 3 := ⟨RJ19, TJ19, 6, "java/lang/Throwable", rv_c23, in_J19, by decide, Or.inl q473, Or.inl rfl⟩
theorem pJ3_31_J19 : rv_pf "java/lang/Throwable" 31 23 3 (tyJ19 3) false := ⟨RJ19, TJ19, 6, "java/lang/Throwable", tyJ19, rv_c23, in_J19, by decide, Or.inl q473, Or.inl rfl, tyJ19_ok, nmJ19, rfl, rfl, fun h => by cases h⟩
theorem gJ3_198_X5 : rv_gf "java/lang/Throwable" 198 4 4 := ⟨RX5, TX5, 6, "java/lang/Throwable", rv_c4, in_X5, by decide, Or.inl q472, Or.inl rfl⟩
theorem pJ3_198_X5 : rv_pf "java/lang/Throwable" 198 4 4 (tyX5 4) false := ⟨RX5, TX5, 6, "java/lang/Throwable", tyX5, rv_c4, in_X5, by decide, Or.inl q472, Or.inl rfl, tyX5_ok, nmX5, rfl, rfl, fun h => by cases h⟩
theorem gJ3_198_X6 : rv_gf "java/lang/Throwable" 198 5 4 := ⟨RX6, TX6, 6, "java/lang/Throwable", rv_c5, in_X6, by decide, Or.inl q472, Or.inl rfl⟩
theorem pJ3_198_X6 : rv_pf "java/lang/Throwable" 198 5 4 (tyX6 4) false := ⟨RX6, TX6, 6, "java/lang/Throwable", tyX6, rv_c5, in_X6, by decide, Or.inl q472, Or.inl rfl, tyX6_ok, nmX6, rfl, rfl, fun h => by cases h⟩
theorem gJ3_198_J6 : rv_gf "java/lang/Throwable" 198 21 4 := ⟨RJ6, TJ6, 6, "java/lang/Throwable", rv_c21, in_J6, by decide, Or.inl q472, Or.inl rfl⟩
theorem pJ3_198_J6 : rv_pf "java/lang/Throwable" 198 21 4 (tyJ6 4) false := ⟨RJ6, TJ6, 6, "java/lang/Throwable", tyJ6, rv_c21, in_J6, by decide, Or.inl q472, Or.inl rfl, tyJ6_ok, nmJ6, rfl, rfl, fun h => by cases h⟩
theorem gJ3_198_J18 : rv_gf "java/lang/Throwable" 198 22 4 := ⟨RJ18, TJ18, 6, "java/lang/Throwable", rv_c22, in_J18, by decide, Or.inl q472, Or.inl rfl⟩
theorem pJ3_198_J18 : rv_pf "java/lang/Throwable" 198 22 4 (tyJ18 4) false := ⟨RJ18, TJ18, 6, "java/lang/Throwable", tyJ18, rv_c22, in_J18, by decide, Or.inl q472, Or.inl rfl, tyJ18_ok, nmJ18, rfl, rfl, fun h => by cases h⟩
theorem gJ3_198_J19 : rv_gf "java/lang/Throwable" 198 23 4 := ⟨RJ19, TJ19, 6, "java/lang/Throwable", rv_c23, in_J19, by decide, Or.inl q472, Or.inl rfl⟩
theorem pJ3_198_J19 : rv_pf "java/lang/Throwable" 198 23 4 (tyJ19 4) false := ⟨RJ19, TJ19, 6, "java/lang/Throwable", tyJ19, rv_c23, in_J19, by decide, Or.inl q472, Or.inl rfl, tyJ19_ok, nmJ19, rfl, rfl, fun h => by cases h⟩
theorem gJ1_7_J2 : rv_gf "java/util/AbstractList" 7 17 0 := ⟨RJ2, TJ2, 3, "java/util/AbstractList", rv_c17, in_J2, by decide, Or.inl q512, Or.inl rfl⟩
theorem pJ1_7_J2 : rv_pf "java/util/AbstractList" 7 17 0 (tyJ2 0) false := ⟨RJ2, TJ2, 3, "java/util/AbstractList", tyJ2, rv_c17, in_J2, by decide, Or.inl q512, Or.inl rfl, tyJ2_ok, nmJ2, rfl, rfl, fun h => by cases h⟩
theorem gJ2_9_J2 : rv_gf "java/util/ArrayList" 9 17 1 := ⟨RJ2, TJ2, 3, "java/util/ArrayList", rv_c17, in_J2, by decide, Or.inl q510, Or.inl rfl⟩
theorem pJ2_9_J2 : rv_pf "java/util/ArrayList" 9 17 1 (tyJ2 1) false := ⟨RJ2, TJ2, 3, "java/util/ArrayList", tyJ2, rv_c17, in_J2, by decide, Or.inl q510, Or.inl rfl, tyJ2_ok, nmJ2, rfl, rfl, fun h => by cases h⟩
theorem gJ2_48_J2 : rv_gf "java/util/ArrayList" 48 17 2 := ⟨RJ2, TJ2, 3, "java/util/ArrayList", rv_c17, in_J2, by decide, Or.inl q511, Or.inl rfl⟩
theorem pJ2_48_J2 : rv_pf "java/util/ArrayList" 48 17 2 (tyJ2 2) false := ⟨RJ2, TJ2, 3, "java/util/ArrayList", tyJ2, rv_c17, in_J2, by decide, Or.inl q511, Or.inl rfl, tyJ2_ok, nmJ2, rfl, rfl, fun h => by cases h⟩
theorem gJ2_63_J2 : rv_gf "java/util/ArrayList" 63 17 0 := ⟨RJ2, TJ2, 3, "java/util/ArrayList", rv_c17, in_J2, by decide, Or.inl q513, Or.inr q514⟩
theorem pJ2_63_J2 : rv_pf "java/util/ArrayList" 63 17 0 (tyJ2 0) false := ⟨RJ2, TJ2, 3, "java/util/ArrayList", tyJ2, rv_c17, in_J2, by decide, Or.inl q513, Or.inr q514, tyJ2_ok, nmJ2, rfl, rfl, fun h => by cases h⟩
theorem gX1_322_X12 : rv_gf "Rulehearth" 322 11 3 := ⟨RX12, TX12, 6, "Rulehearth$Reasons", rv_c11, in_X12, by decide, Or.inr ⟨_, q1779⟩, Or.inl rfl⟩
theorem gX1_338_X12 : rv_gf "Rulehearth" 338 11 1 := ⟨RX12, TX12, 6, "Rulehearth$Reasons", rv_c11, in_X12, by decide, Or.inr ⟨_, q1774⟩, Or.inl rfl⟩
theorem gX1_372_X15 : rv_gf "Rulehearth" 372 14 4 := ⟨RX15, TX15, 5, "Rulehearth$First", rv_c14, in_X15, by decide, Or.inr ⟨_, q1863⟩, Or.inl rfl⟩
theorem pX1_372_X15 : rv_pf "Rulehearth" 372 14 4 (tyX15 4) false := ⟨RX15, TX15, 5, "Rulehearth$First", tyX15, rv_c14, in_X15, by decide, Or.inr ⟨rfl, _, q1863⟩, Or.inl rfl, tyX15_ok, nmX15, rfl, rfl, fun h => by cases h⟩
theorem gX1_383_X12 : rv_gf "Rulehearth" 383 11 2 := ⟨RX12, TX12, 6, "Rulehearth$Reasons", rv_c11, in_X12, by decide, Or.inr ⟨_, q1776⟩, Or.inl rfl⟩
theorem gX1_455_X17 : rv_gf "Rulehearth" 455 16 3 := ⟨RX17, TX17, 8, "Rulehearth$Agenda", rv_c16, in_X17, by decide, Or.inr ⟨_, q849⟩, Or.inl rfl⟩
theorem pX1_455_X17 : rv_pf "Rulehearth" 455 16 3 (tyX17 3) false := ⟨RX17, TX17, 8, "Rulehearth$Agenda", tyX17, rv_c16, in_X17, by decide, Or.inr ⟨rfl, _, q849⟩, Or.inl rfl, tyX17_ok, nmX17, rfl, rfl, fun h => by cases h⟩
theorem gX1_462_X17 : rv_gf "Rulehearth" 462 16 4 := ⟨RX17, TX17, 8, "Rulehearth$Agenda", rv_c16, in_X17, by decide, Or.inr ⟨_, q851⟩, Or.inl rfl⟩
theorem pX1_462_X17 : rv_pf "Rulehearth" 462 16 4 (tyX17 4) false := ⟨RX17, TX17, 8, "Rulehearth$Agenda", tyX17, rv_c16, in_X17, by decide, Or.inr ⟨rfl, _, q851⟩, Or.inl rfl, tyX17_ok, nmX17, rfl, rfl, fun h => by cases h⟩
theorem gX1_465_X17 : rv_gf "Rulehearth" 465 16 6 := ⟨RX17, TX17, 8, "Rulehearth$Agenda", rv_c16, in_X17, by decide, Or.inr ⟨_, q854⟩, Or.inl rfl⟩
theorem pX1_465_X17 : rv_pf "Rulehearth" 465 16 6 (tyX17 6) false := ⟨RX17, TX17, 8, "Rulehearth$Agenda", tyX17, rv_c16, in_X17, by decide, Or.inr ⟨rfl, _, q854⟩, Or.inl rfl, tyX17_ok, nmX17, rfl, rfl, fun h => by cases h⟩
theorem gX1_468_X17 : rv_gf "Rulehearth" 468 16 7 := ⟨RX17, TX17, 8, "Rulehearth$Agenda", rv_c16, in_X17, by decide, Or.inr ⟨_, q856⟩, Or.inl rfl⟩
theorem gX15_24_X12 : rv_gf "Rulehearth$First" 24 11 3 := ⟨RX12, TX12, 6, "Rulehearth$Reasons", rv_c11, in_X12, by decide, Or.inr ⟨_, q1778⟩, Or.inl rfl⟩
theorem gX16_64_X1 : rv_gf "Rulehearth$Goals" 64 0 0 := ⟨RX1, TX1, 7, "Rulehearth", rv_c0, in_X1, by decide, Or.inr ⟨_, q685⟩, Or.inl rfl⟩
theorem pX16_64_X1 : rv_pf "Rulehearth$Goals" 64 0 0 (tyX1 0) false := ⟨RX1, TX1, 7, "Rulehearth", tyX1, rv_c0, in_X1, by decide, Or.inr ⟨rfl, _, q685⟩, Or.inl rfl, tyX1_ok, nmX1, rfl, rfl, fun h => by cases h⟩
theorem gX12_15_X1 : rv_gf "Rulehearth$Reasons" 15 0 0 := ⟨RX1, TX1, 7, "Rulehearth", rv_c0, in_X1, by decide, Or.inr ⟨_, q684⟩, Or.inl rfl⟩
theorem pX12_15_X1 : rv_pf "Rulehearth$Reasons" 15 0 0 (tyX1 0) false := ⟨RX1, TX1, 7, "Rulehearth", tyX1, rv_c0, in_X1, by decide, Or.inr ⟨rfl, _, q684⟩, Or.inl rfl, tyX1_ok, nmX1, rfl, rfl, fun h => by cases h⟩
theorem nX1_18 : rv_nw "Rulehearth" 18 1 [.null, .null, .null, .null, .int 0, .null, .null, .int 0, .int 0, .null, .null, .int 0] := ⟨RX2, TX2, 12, tyX2, rv_c1, in_X2, q173, q174, q125, tyX2_ok, rfl⟩
theorem nX1_25 : rv_nw "Rulehearth" 25 17 [.int 0, .null, .int 0] := ⟨RJ2, TJ2, 3, tyJ2, rv_c17, in_J2, q607, q180, q128, tyJ2_ok, rfl⟩
theorem nX1_38 : rv_nw "Rulehearth" 38 20 [.int 0] := ⟨RJ17, TJ17, 1, tyJ17, rv_c20, in_J17, q839, q617, q144, tyJ17_ok, rfl⟩
theorem nX1_46 : rv_nw "Rulehearth" 46 21 [.null, .null, .null, .null, .null, .int 0] := ⟨RJ6, TJ6, 6, tyJ6, rv_c21, in_J6, q1113, q196, q132, tyJ6_ok, rfl⟩
theorem nX1_49 : rv_nw "Rulehearth" 49 22 [.null, .null, .null, .null, .null, .int 0] := ⟨RJ18, TJ18, 6, tyJ18, rv_c22, in_J18, q1066, q1067, q148, tyJ18_ok, rfl⟩
theorem nX1_52 : rv_nw "Rulehearth" 52 23 [.null, .null, .null, .null, .null, .int 0] := ⟨RJ19, TJ19, 6, tyJ19, rv_c23, in_J19, q1186, q1187, q149, tyJ19_ok, rfl⟩
theorem nX1_89 : rv_nw "Rulehearth" 89 9 [.int 0, .null, .int 0, .int 0, .null, .int 0, .int 0, .int 0, .int 0] := ⟨RX10, TX10, 9, tyX10, rv_c9, in_X10, q742, q1458, q157, tyX10_ok, rfl⟩
theorem nX1_98 : rv_nw "Rulehearth" 98 5 [.null, .null, .null, .null, .null, .int 0] := ⟨RX6, TX6, 6, tyX6, rv_c5, in_X6, q923, q1267, q153, tyX6_ok, rfl⟩
theorem nX1_100 : rv_nw "Rulehearth" 100 4 [.null, .null, .null, .null, .null, .int 0] := ⟨RX5, TX5, 6, tyX5, rv_c4, in_X5, q1227, q1239, q152, tyX5_ok, rfl⟩
theorem nX1_169 : rv_nw "Rulehearth" 169 10 [.int 0, .int 0, .null, .int 0] := ⟨RX11, TX11, 4, tyX11, rv_c10, in_X11, q754, q1467, q158, tyX11_ok, rfl⟩
theorem nX1_242 : rv_nw "Rulehearth" 242 18 [.null, .int 0, .int 0, .int 0] := ⟨RJ8, TJ8, 4, tyJ8, rv_c18, in_J8, q746, q240, q134, tyJ8_ok, rfl⟩
theorem nX1_287 : rv_nw "Rulehearth" 287 8 [.null, .int 0, .null, .null, .null, .null, .int 0, .int 0, .int 0, .int 0] := ⟨RX9, TX9, 10, tyX9, rv_c8, in_X9, q1725, q882, q156, tyX9_ok, rfl⟩
theorem nX1_303 : rv_nw "Rulehearth" 303 11 [.null, .null, .null, .null, .int 0, .null] := ⟨RX12, TX12, 6, tyX12, rv_c11, in_X12, q1702, q1703, q159, tyX12_ok, rfl⟩
theorem nX1_328 : rv_nw "Rulehearth" 328 13 [.int 0, .int 0, .null] := ⟨RX14, TX14, 3, tyX14, rv_c13, in_X14, q1831, q1832, q161, tyX14_ok, rfl⟩
theorem nX1_355 : rv_nw "Rulehearth" 355 14 [.null, .null, .int 0, .int 0, .null] := ⟨RX15, TX15, 5, tyX15, rv_c14, in_X15, q1853, q998, q162, tyX15_ok, rfl⟩
theorem nX1_397 : rv_nw "Rulehearth" 397 15 [.null, .int 0, .null, .null, .null] := ⟨RX16, TX16, 5, tyX16, rv_c15, in_X16, q1930, q1931, q163, tyX16_ok, rfl⟩
theorem nX1_446 : rv_nw "Rulehearth" 446 16 [.null, .int 0, .null, .int 0, .null, .int 0, .int 0, .null] := ⟨RX17, TX17, 8, tyX17, rv_c16, in_X17, q837, q838, q164, tyX17_ok, rfl⟩
theorem nX17_39 : rv_nw "Rulehearth$Agenda" 39 9 [.int 0, .null, .int 0, .int 0, .null, .int 0, .int 0, .int 0, .int 0] := ⟨RX10, TX10, 9, tyX10, rv_c9, in_X10, q880, q1458, q157, tyX10_ok, rfl⟩
theorem nX17_46 : rv_nw "Rulehearth$Agenda" 46 8 [.null, .int 0, .null, .null, .null, .null, .int 0, .int 0, .int 0, .int 0] := ⟨RX9, TX9, 10, tyX9, rv_c8, in_X9, q881, q882, q156, tyX9_ok, rfl⟩
theorem nX10_15 : rv_nw "Rulehearth$Clause" 15 17 [.int 0, .null, .int 0] := ⟨RJ2, TJ2, 3, tyJ2, rv_c17, in_J2, q1505, q180, q128, tyJ2_ok, rfl⟩
theorem nX10_53 : rv_nw "Rulehearth$Clause" 53 10 [.int 0, .int 0, .null, .int 0] := ⟨RX11, TX11, 4, tyX11, rv_c10, in_X11, q949, q1467, q158, tyX11_ok, rfl⟩
theorem nX7_33 : rv_nw "Rulehearth$Deriver" 33 2 [.null, .null, .int 0] := ⟨RX3, TX3, 3, tyX3, rv_c2, in_X3, q1292, q523, q145, tyX3_ok, rfl⟩
theorem nX7_39 : rv_nw "Rulehearth$Deriver" 39 7 [.null, .null, .int 0] := ⟨RX8, TX8, 3, tyX8, rv_c7, in_X8, q1294, q1295, q155, tyX8_ok, rfl⟩
theorem nX7_52 : rv_nw "Rulehearth$Deriver" 52 8 [.null, .int 0, .null, .null, .null, .null, .int 0, .int 0, .int 0, .int 0] := ⟨RX9, TX9, 10, tyX9, rv_c8, in_X9, q1316, q882, q156, tyX9_ok, rfl⟩
theorem nX3_30 : rv_nw "Rulehearth$Facts" 30 5 [.null, .null, .null, .null, .null, .int 0] := ⟨RX6, TX6, 6, tyX6, rv_c5, in_X6, q1266, q1267, q153, tyX6_ok, rfl⟩
theorem nX16_4 : rv_nw "Rulehearth$Goals" 4 10 [.int 0, .int 0, .null, .int 0] := ⟨RX11, TX11, 4, tyX11, rv_c10, in_X11, q1942, q1467, q158, tyX11_ok, rfl⟩
theorem nX16_26 : rv_nw "Rulehearth$Goals" 26 9 [.int 0, .null, .int 0, .int 0, .null, .int 0, .int 0, .int 0, .int 0] := ⟨RX10, TX10, 9, tyX10, rv_c9, in_X10, q1941, q1458, q157, tyX10_ok, rfl⟩
theorem nX16_55 : rv_nw "Rulehearth$Goals" 55 17 [.int 0, .null, .int 0] := ⟨RJ2, TJ2, 3, tyJ2, rv_c17, in_J2, q1937, q180, q128, tyJ2_ok, rfl⟩
theorem nX16_91 : rv_nw "Rulehearth$Goals" 91 8 [.null, .int 0, .null, .null, .null, .null, .int 0, .int 0, .int 0, .int 0] := ⟨RX9, TX9, 10, tyX9, rv_c8, in_X9, q1955, q882, q156, tyX9_ok, rfl⟩
theorem nX9_72 : rv_nw "Rulehearth$Matcher" 72 10 [.int 0, .int 0, .null, .int 0] := ⟨RX11, TX11, 4, tyX11, rv_c10, in_X11, q1026, q1467, q158, tyX11_ok, rfl⟩
theorem nX12_31 : rv_nw "Rulehearth$Reasons" 31 17 [.int 0, .null, .int 0] := ⟨RJ2, TJ2, 3, tyJ2, rv_c17, in_J2, q1799, q180, q128, tyJ2_ok, rfl⟩
theorem nX12_53 : rv_nw "Rulehearth$Reasons" 53 9 [.int 0, .null, .int 0, .int 0, .null, .int 0, .int 0, .int 0, .int 0] := ⟨RX10, TX10, 9, tyX10, rv_c9, in_X10, q1712, q1458, q157, tyX10_ok, rfl⟩
theorem nX12_82 : rv_nw "Rulehearth$Reasons" 82 12 [.null, .null, .int 0, .int 0, .long 0, .null] := ⟨RX13, TX13, 6, tyX13, rv_c12, in_X13, q1732, q1733, q160, tyX13_ok, rfl⟩
theorem nX12_126 : rv_nw "Rulehearth$Reasons" 126 8 [.null, .int 0, .null, .null, .null, .null, .int 0, .int 0, .int 0, .int 0] := ⟨RX9, TX9, 10, tyX9, rv_c8, in_X9, q1815, q882, q156, tyX9_ok, rfl⟩
theorem nX2_9 : rv_nw "Rulehearth$World" 9 17 [.int 0, .null, .int 0] := ⟨RJ2, TJ2, 3, tyJ2, rv_c17, in_J2, q179, q180, q128, tyJ2_ok, rfl⟩
theorem nX2_15 : rv_nw "Rulehearth$World" 15 1 [.null, .null, .null, .null, .int 0, .null, .null, .int 0, .int 0, .null, .null, .int 0] := ⟨RX2, TX2, 12, tyX2, rv_c1, in_X2, q1135, q174, q125, tyX2_ok, rfl⟩
theorem nX2_23 : rv_nw "Rulehearth$World" 23 2 [.null, .null, .int 0] := ⟨RX3, TX3, 3, tyX3, rv_c2, in_X3, q522, q523, q145, tyX3_ok, rfl⟩
theorem nX2_92 : rv_nw "Rulehearth$World" 92 9 [.int 0, .null, .int 0, .int 0, .null, .int 0, .int 0, .int 0, .int 0] := ⟨RX10, TX10, 9, tyX10, rv_c9, in_X10, q1236, q1458, q157, tyX10_ok, rfl⟩
theorem nX2_97 : rv_nw "Rulehearth$World" 97 10 [.int 0, .int 0, .null, .int 0] := ⟨RX11, TX11, 4, tyX11, rv_c10, in_X11, q1237, q1467, q158, tyX11_ok, rfl⟩
theorem nX2_112 : rv_nw "Rulehearth$World" 112 4 [.null, .null, .null, .null, .null, .int 0] := ⟨RX5, TX5, 6, tyX5, rv_c4, in_X5, q1238, q1239, q152, tyX5_ok, rfl⟩
theorem nX2_122 : rv_nw "Rulehearth$World" 122 6 [.null, .null, .null, .null, .null, .null, .null] := ⟨RX7, TX7, 7, tyX7, rv_c6, in_X7, q1285, q1286, q154, tyX7_ok, rfl⟩
theorem nX0_8 : rv_nw "RulehearthLaw" 8 0 [.null, .null, .null, .null, .null, .null, .int 0] := ⟨RX1, TX1, 7, tyX1, rv_c0, in_X1, q165, q166, q124, tyX1_ok, rfl⟩
theorem nX0_13 : rv_nw "RulehearthLaw" 13 21 [.null, .null, .null, .null, .null, .int 0] := ⟨RJ6, TJ6, 6, tyJ6, rv_c21, in_J6, q1104, q196, q132, tyJ6_ok, rfl⟩
theorem nX0_15 : rv_nw "RulehearthLaw" 15 22 [.null, .null, .null, .null, .null, .int 0] := ⟨RJ18, TJ18, 6, tyJ18, rv_c22, in_J18, q1105, q1067, q148, tyJ18_ok, rfl⟩
theorem nX0_21 : rv_nw "RulehearthLaw" 21 23 [.null, .null, .null, .null, .null, .int 0] := ⟨RJ19, TJ19, 6, tyJ19, rv_c23, in_J19, q1155, q1187, q149, tyJ19_ok, rfl⟩
theorem nX0_146 : rv_nw "RulehearthLaw" 146 3 [.int 0, .null, .null, .null, .null, .null, .null, .null, .null, .null, .null, .null, .null, .null, .null, .null, .null, .null, .null, .null, .null, .null, .int 0, .int 0, .int 0, .null, .null, .null, .null, .int 0, .int 0, .int 0, .int 0, .int 0, .int 0, .null, .null, .null, .null, .int 0, .null, .null, .null, .null, .null, .null, .null, .null, .int 0, .null, .int 0, .null, .int 0, .int 0, .int 0, .null] := ⟨RX4, TX4, 56, tyX4, rv_c3, in_X4, q2093, q2094, q147, tyX4_ok, rfl⟩
theorem nJ17_1 : rv_nw "java/lang/Integer" 1 20 [.int 0] := ⟨RJ17, TJ17, 1, tyJ17, rv_c20, in_J17, q616, q617, q144, tyJ17_ok, rfl⟩
theorem nJ9_10 : rv_nw "java/lang/String" 10 19 [.null, .int 0, .int 0, .int 0] := ⟨RJ9, TJ9, 4, tyJ9, rv_c19, in_J9, q824, q422, q135, tyJ9_ok, rfl⟩
theorem nJ8_18 : rv_nw "java/lang/StringBuilder" 18 19 [.null, .int 0, .int 0, .int 0] := ⟨RJ9, TJ9, 4, tyJ9, rv_c19, in_J9, q421, q422, q135, tyJ9_ok, rfl⟩
theorem nJ2_18 : rv_nw "java/util/ArrayList" 18 21 [.null, .null, .null, .null, .null, .int 0] := ⟨RJ6, TJ6, 6, tyJ6, rv_c21, in_J6, q195, q196, q132, tyJ6_ok, rfl⟩
theorem nJ2_20 : rv_nw "java/util/ArrayList" 20 18 [.null, .int 0, .int 0, .int 0] := ⟨RJ8, TJ8, 4, tyJ8, rv_c18, in_J8, q239, q240, q134, tyJ8_ok, rfl⟩
theorem nJ13_43 : rv_nw "java/util/Arrays" 43 21 [.null, .null, .null, .null, .null, .int 0] := ⟨RJ6, TJ6, 6, tyJ6, rv_c21, in_J6, q453, q196, q132, tyJ6_ok, rfl⟩
theorem nJ13_45 : rv_nw "java/util/Arrays" 45 18 [.null, .int 0, .int 0, .int 0] := ⟨RJ8, TJ8, 4, tyJ8, rv_c18, in_J8, q454, q240, q134, tyJ8_ok, rfl⟩
theorem iX1_4 : rv_ls "Rulehearth" 4 yX1_valueOf := ⟨Or.inl q1047, q984⟩
theorem iX1_8 : rv_ls "Rulehearth" 8 yX1_forget := ⟨Or.inl q751, q752⟩
theorem iX1_12 : rv_li "Rulehearth" 12 yJ22_init := ⟨Or.inl q170, q171, rfl⟩
theorem iX1_27 : rv_li "Rulehearth" 27 yJ2_init := ⟨Or.inl q608, q182, rfl⟩
theorem iX1_37 : rv_ls "Rulehearth" 37 yJ17_valueOf := ⟨Or.inl q609, q610⟩
theorem iX1_42 : rv_lv "Rulehearth" 42 yJ2_add := ⟨Or.inl q629, q630, q631⟩
theorem iX1_48 : rv_li "Rulehearth" 48 yJ6_init_2 := ⟨Or.inl q1114, q1115, rfl⟩
theorem iX1_51 : rv_li "Rulehearth" 51 yJ18_init_2 := ⟨Or.inl q1127, q1128, rfl⟩
theorem iX1_54 : rv_li "Rulehearth" 54 yJ19_init_2 := ⟨Or.inl q1195, q1196, rfl⟩
theorem iX1_58 : rv_lv "Rulehearth" 58 yJ2_size := ⟨Or.inl q724, q725, q726⟩
theorem iX1_62 : rv_ls "Rulehearth" 62 yX1_checkIndex := ⟨Or.inl q1183, q1184⟩
theorem iX1_66 : rv_ls "Rulehearth" 66 yX1_relationOf := ⟨Or.inl q1205, q1206⟩
theorem iX1_70 : rv_lv "Rulehearth" 70 yJ2_get := ⟨Or.inl q728, q729, q730⟩
theorem iX1_74 : rv_lv "Rulehearth" 74 yJ17_intValue := ⟨Or.inl q840, q818, q819⟩
theorem iX1_77 : rv_ls "Rulehearth" 77 yX1_slotOf := ⟨Or.inl q1208, q1042⟩
theorem iX1_81 : rv_lv "Rulehearth" 81 yX1_isProper := ⟨Or.inl q1201, q1203, qs16⟩
theorem iX1_85 : rv_ls "Rulehearth" 85 yX1_checkArgument := ⟨Or.inl q1110, q1111⟩
theorem iX1_95 : rv_lv "Rulehearth" 95 yX2_settle := ⟨Or.inl q1228, q1229, q1230⟩
theorem iX1_102 : rv_li "Rulehearth" 102 yJ18_init := ⟨Or.inl q1075, q1076, rfl⟩
theorem iX1_114 : rv_ls "Rulehearth" 114 yX1_checkState := ⟨Or.inl q1124, q1125⟩
theorem iX1_117 : rv_lv "Rulehearth" 117 yX2_copy := ⟨Or.inl q1131, q1132, q1133⟩
theorem iX1_121 : rv_lv "Rulehearth" 121 yX1_checkFact := ⟨Or.inl q1178, q1180, qs15⟩
theorem iX1_127 : rv_lv "Rulehearth" 127 yX2_tell := ⟨Or.inl q1209, q1210, q1211⟩
theorem iX1_130 : rv_lv "Rulehearth" 130 yX1_become := ⟨Or.inl q1223, q1225, qs17⟩
theorem iX1_134 : rv_lv "Rulehearth" 134 yX2_toldAt := ⟨Or.inl q1406, q1214, q1215⟩
theorem iX1_140 : rv_lv "Rulehearth" 140 yJ2_remove := ⟨Or.inl q1407, q1392, q1393⟩
theorem iX1_143 : rv_lv "Rulehearth" 143 yX3_has := ⟨Or.inl q1415, q966, q967⟩
theorem iX1_146 : rv_lv "Rulehearth" 146 yX2_strata := ⟨Or.inl q1423, q1233, q1234⟩
theorem iX1_150 : rv_lv "Rulehearth" 150 yX2_foundByRounds := ⟨Or.inl q1424, q1425, q1426⟩
theorem iX1_156 : rv_lv "Rulehearth" 156 yX2_tagOf := ⟨Or.inl q1443, q958, q959⟩
theorem iX1_166 : rv_lv "Rulehearth" 166 yX1_checkRelation := ⟨Or.inl q1463, q1465, qs25⟩
theorem iX1_171 : rv_li "Rulehearth" 171 yX11_init := ⟨Or.inl q1468, q1469, rfl⟩
theorem iX1_174 : rv_lv "Rulehearth" 174 yX1_head := ⟨Or.inl q1459, q1461, qs24⟩
theorem iX1_178 : rv_li "Rulehearth" 178 yX10_init := ⟨Or.inl q1501, q1502, rfl⟩
theorem iX1_181 : rv_lv "Rulehearth" 181 yX1_begin := ⟨Or.inl q1556, q1558, qs26⟩
theorem iX1_185 : rv_lv "Rulehearth" 185 yX10_latest := ⟨Or.inl q1581, q1582, q1583⟩
theorem iX1_189 : rv_lv "Rulehearth" 189 yX11_isWhole := ⟨Or.inl q1589, q1590, q1591⟩
theorem iX1_199 : rv_ls "Rulehearth" 199 yX1_checkVariable := ⟨Or.inl q1574, q1575⟩
theorem iX1_202 : rv_lv "Rulehearth" 202 yX1_add := ⟨Or.inl q1577, q1579, qs27⟩
theorem iX1_223 : rv_lv "Rulehearth" 223 yX10_atoms := ⟨Or.inl q1618, q944, q945⟩
theorem iX1_226 : rv_lv "Rulehearth" 226 yX1_addItem := ⟨Or.inl q1614, q1616, qs28⟩
theorem iX1_230 : rv_lv "Rulehearth" 230 yJ2_isEmpty := ⟨Or.inl q1650, q1586, q1587⟩
theorem iX1_235 : rv_li "Rulehearth" 235 yX5_init := ⟨Or.inl q1652, q1249, rfl⟩
theorem iX1_238 : rv_ls "Rulehearth" 238 yX1_needed := ⟨Or.inl q1653, q1654⟩
theorem iX1_244 : rv_li "Rulehearth" 244 yJ8_init := ⟨Or.inl q747, q242, rfl⟩
theorem iX1_247 : rv_lv "Rulehearth" 247 yJ8_append := ⟨Or.inl q1657, q273, q274⟩
theorem iX1_251 : rv_lv "Rulehearth" 251 yJ8_append_2 := ⟨Or.inl q755, q393, q394⟩
theorem iX1_254 : rv_lv "Rulehearth" 254 yJ8_toString := ⟨Or.inl q776, q418, q419⟩
theorem iX1_258 : rv_ls "Rulehearth" 258 yX1_known := ⟨Or.inl q1658, q1659⟩
theorem iX1_263 : rv_ls "Rulehearth" 263 yX1_checkSound := ⟨Or.inl q1647, q1648⟩
theorem iX1_280 : rv_ls "Rulehearth" 280 yX1_find := ⟨Or.inl q1670, q1671⟩
theorem iX1_284 : rv_lv "Rulehearth" 284 yJ2_remove_2 := ⟨Or.inl q1673, q1674, q1675⟩
theorem iX1_286 : rv_lv "Rulehearth" 286 yX9_run := ⟨Or.inl q924, q925, q926⟩
theorem iX1_294 : rv_li "Rulehearth" 294 yX9_init := ⟨Or.inl q1726, q885, rfl⟩
theorem iX1_297 : rv_lv "Rulehearth" 297 yX3_indexOf := ⟨Or.inl q1022, q962, q963⟩
theorem iX1_305 : rv_li "Rulehearth" 305 yX12_init := ⟨Or.inl q1704, q1705, rfl⟩
theorem iX1_308 : rv_lv "Rulehearth" 308 yX12_measure := ⟨Or.inl q1795, q1796, q1797⟩
theorem iX1_319 : rv_lv "Rulehearth" 319 yX1_reasonsOfNow := ⟨Or.inl q1698, q1700, qs29⟩
theorem iX1_334 : rv_lv "Rulehearth" 334 yX1_firstOf := ⟨Or.inl q1849, q1851, qs38⟩
theorem iX1_352 : rv_ls "Rulehearth" 352 yX1_unknown := ⟨Or.inl q748, q749⟩
theorem iX1_357 : rv_li "Rulehearth" 357 yX15_init := ⟨Or.inl q1854, q1855, rfl⟩
theorem iX1_360 : rv_lv "Rulehearth" 360 yX10_binds := ⟨Or.inl q1875, q1358, q1359⟩
theorem iX1_364 : rv_lv "Rulehearth" 364 yX1_matcher := ⟨Or.inl q1876, q1723, qs31⟩
theorem iX1_368 : rv_ls "Rulehearth" 368 yX1_runs := ⟨Or.inl q1877, q921⟩
theorem iX1_379 : rv_lv "Rulehearth" 379 yX1_whyOf := ⟨Or.inl q1827, q1829, qs37⟩
theorem iX1_393 : rv_lv "Rulehearth" 393 yX1_checkGoal := ⟨Or.inl q1919, q1921, qs39⟩
theorem iX1_399 : rv_li "Rulehearth" 399 yX16_init := ⟨Or.inl q1932, q1933, rfl⟩
theorem iX1_400 : rv_lv "Rulehearth" 400 yX16_count := ⟨Or.inl q1974, q1975, q1976⟩
theorem iX1_402 : rv_lv "Rulehearth" 402 yJ8_append_3 := ⟨Or.inl q756, q757, q758⟩
theorem iX1_408 : rv_ls "Rulehearth" 408 yX1_beginning := ⟨Or.inl q743, q744⟩
theorem iX1_412 : rv_lv "Rulehearth" 412 yJ2_contains := ⟨Or.inl q777, q778, q779⟩
theorem iX1_415 : rv_li "Rulehearth" 415 yJ2_init_2 := ⟨Or.inl q720, q550, rfl⟩
theorem iX1_416 : rv_ls "Rulehearth" 416 yX1_addBeginnings := ⟨Or.inl q721, q722⟩
theorem iX1_423 : rv_lv "Rulehearth" 423 yX1_count := ⟨Or.inl q1996, q1998, qs45⟩
theorem iX1_426 : rv_lv "Rulehearth" 426 yX11_hasVariable := ⟨Or.inl q2019, q2020, q2021⟩
theorem iX1_429 : rv_ls "Rulehearth" 429 yX1_atomsOf := ⟨Or.inl q2013, q2014⟩
theorem iX1_433 : rv_ls "Rulehearth" 433 yX1_haveCommon := ⟨Or.inl q2016, q2017⟩
theorem iX1_437 : rv_lv "Rulehearth" 437 yX3_countOf := ⟨Or.inl q2023, q2024, q2025⟩
theorem iX1_440 : rv_lv "Rulehearth" 440 yX1_plan := ⟨Or.inl q2009, q2011, qs46⟩
theorem iX1_443 : rv_lv "Rulehearth" 443 yJ2_indexOf := ⟨Or.inl q2028, q782, q783⟩
theorem iX1_448 : rv_li "Rulehearth" 448 yX17_init := ⟨Or.inl q841, q842, rfl⟩
theorem iX1_451 : rv_lv "Rulehearth" 451 yX17_look := ⟨Or.inl q874, q875, q876⟩
theorem iX1_458 : rv_ls "Rulehearth" 458 yX1_ahead := ⟨Or.inl q834, q835⟩
theorem iX1_475 : rv_lv "Rulehearth" 475 yX1_fire := ⟨Or.inl q2057, q2047, q2048⟩
theorem iX17_3 : rv_li "Rulehearth$Agenda" 3 yJ22_init := ⟨Or.inl q844, q171, rfl⟩
theorem iX17_29 : rv_lv "Rulehearth$Agenda" 29 yJ2_size := ⟨Or.inl q878, q725, q726⟩
theorem iX17_35 : rv_lv "Rulehearth$Agenda" 35 yJ2_get := ⟨Or.inl q879, q729, q730⟩
theorem iX17_59 : rv_li "Rulehearth$Agenda" 59 yX9_init := ⟨Or.inl q884, q885, rfl⟩
theorem iX17_66 : rv_lv "Rulehearth$Agenda" 66 yX10_atoms := ⟨Or.inl q943, q944, q945⟩
theorem iX17_72 : rv_lv "Rulehearth$Agenda" 72 yX2_hasFired := ⟨Or.inl q950, q951, q952⟩
theorem iX17_79 : rv_lv "Rulehearth$Agenda" 79 yX2_tagOf := ⟨Or.inl q973, q958, q959⟩
theorem iX17_83 : rv_ls "Rulehearth$Agenda" 83 yJ12_max := ⟨Or.inl q974, q295⟩
theorem iX17_92 : rv_lv "Rulehearth$Agenda" 92 yX17_isAhead := ⟨Or.inl q975, q977, qs5⟩
theorem iX17_99 : rv_lv "Rulehearth$Agenda" 99 yX10_fact := ⟨Or.inl q979, q980, q981⟩
theorem iX10_3 : rv_li "Rulehearth$Clause" 3 yJ22_init := ⟨Or.inl q1504, q171, rfl⟩
theorem iX10_17 : rv_li "Rulehearth$Clause" 17 yJ2_init := ⟨Or.inl q1506, q182, rfl⟩
theorem iX10_41 : rv_lv "Rulehearth$Clause" 41 yJ2_isEmpty := ⟨Or.inl q1585, q1586, q1587⟩
theorem iX10_45 : rv_lv "Rulehearth$Clause" 45 yJ2_size := ⟨Or.inl q947, q725, q726⟩
theorem iX10_49 : rv_lv "Rulehearth$Clause" 49 yJ2_get := ⟨Or.inl q948, q729, q730⟩
theorem iX6_1 : rv_li "Rulehearth$CrowdException" 1 yJ4_init_3 := ⟨Or.inl q1278, q1121, rfl⟩
theorem iX7_3 : rv_li "Rulehearth$Deriver" 3 yJ22_init := ⟨Or.inl q1290, q171, rfl⟩
theorem iX7_41 : rv_li "Rulehearth$Deriver" 41 yX8_init := ⟨Or.inl q1296, q1297, rfl⟩
theorem iX7_58 : rv_lv "Rulehearth$Deriver" 58 yJ2_size := ⟨Or.inl q1317, q725, q726⟩
theorem iX7_64 : rv_li "Rulehearth$Deriver" 64 yX9_init := ⟨Or.inl q1318, q885, rfl⟩
theorem iX7_74 : rv_lv "Rulehearth$Deriver" 74 yX9_run_2 := ⟨Or.inl q1345, q1346, q1347⟩
theorem iX7_81 : rv_lv "Rulehearth$Deriver" 81 yX9_run := ⟨Or.inl q1350, q925, q926⟩
theorem iX7_83 : rv_lv "Rulehearth$Deriver" 83 yX8_clear := ⟨Or.inl q1351, q1352, q1353⟩
theorem iX7_89 : rv_lv "Rulehearth$Deriver" 89 yX10_binds := ⟨Or.inl q1357, q1358, q1359⟩
theorem iX7_93 : rv_lv "Rulehearth$Deriver" 93 yX8_fact := ⟨Or.inl q1364, q1365, q1366⟩
theorem iX7_97 : rv_lv "Rulehearth$Deriver" 97 yX3_add := ⟨Or.inl q1315, q1263, q1264⟩
theorem iX7_104 : rv_lv "Rulehearth$Deriver" 104 yX10_atoms := ⟨Or.inl q1383, q944, q945⟩
theorem iX7_107 : rv_lv "Rulehearth$Deriver" 107 yX10_fact := ⟨Or.inl q1314, q980, q981⟩
theorem iX5_1 : rv_li "Rulehearth$DraftException" 1 yJ4_init := ⟨Or.inl q1251, q467, rfl⟩
theorem iX3_3 : rv_li "Rulehearth$Facts" 3 yJ22_init := ⟨Or.inl q527, q171, rfl⟩
theorem iX3_22 : rv_lv "Rulehearth$Facts" 22 yX3_placeOf := ⟨Or.inl q969, q970, q971⟩
theorem iX3_26 : rv_lv "Rulehearth$Facts" 26 yX3_has := ⟨Or.inl q965, q966, q967⟩
theorem iX15_1 : rv_li "Rulehearth$First" 1 yJ22_init := ⟨Or.inl q1857, q171, rfl⟩
theorem iX15_30 : rv_lv "Rulehearth$First" 30 yX3_indexOf := ⟨Or.inl q993, q962, q963⟩
theorem iX15_36 : rv_ls "Rulehearth$First" 36 yJ12_max := ⟨Or.inl q994, q295⟩
theorem iX15_45 : rv_lv "Rulehearth$First" 45 yX15_isLower := ⟨Or.inl q995, q997, qs6⟩
theorem iX16_42 : rv_li "Rulehearth$Goals" 42 yJ22_init := ⟨Or.inl q1935, q171, rfl⟩
theorem iX16_57 : rv_li "Rulehearth$Goals" 57 yJ2_init := ⟨Or.inl q1938, q182, rfl⟩
theorem iX16_73 : rv_lv "Rulehearth$Goals" 73 yJ2_size := ⟨Or.inl q1939, q725, q726⟩
theorem iX16_77 : rv_lv "Rulehearth$Goals" 77 yJ2_get := ⟨Or.inl q1940, q729, q730⟩
theorem iX16_97 : rv_li "Rulehearth$Goals" 97 yX9_init := ⟨Or.inl q1956, q885, rfl⟩
theorem iX16_100 : rv_lv "Rulehearth$Goals" 100 yJ2_add := ⟨Or.inl q1957, q630, q631⟩
theorem iX16_104 : rv_lv "Rulehearth$Goals" 104 yX16_binds := ⟨Or.inl q1982, q1984, qs44⟩
theorem iX16_116 : rv_lv "Rulehearth$Goals" 116 yX16_setUp := ⟨Or.inl q1951, q1953, qs42⟩
theorem iX16_119 : rv_lv "Rulehearth$Goals" 119 yX16_ask := ⟨Or.inl q1978, q1980, qs43⟩
theorem iX16_123 : rv_lv "Rulehearth$Goals" 123 yX16_goalOf := ⟨Or.inl q1946, q1948, qs41⟩
theorem iX8_3 : rv_li "Rulehearth$Group" 3 yJ22_init := ⟨Or.inl q1299, q171, rfl⟩
theorem iX8_45 : rv_ls "Rulehearth$Group" 45 yJ12_min := ⟨Or.inl q1377, q313⟩
theorem iX8_54 : rv_lv "Rulehearth$Group" 54 yX8_value := ⟨Or.inl q1371, q1372, q1373⟩
theorem iX8_58 : rv_lv "Rulehearth$Group" 58 yX8_fact := ⟨Or.inl q1768, q1365, q1366⟩
theorem iX11_3 : rv_li "Rulehearth$Item" 3 yJ22_init := ⟨Or.inl q1471, q171, rfl⟩
theorem iX9_3 : rv_li "Rulehearth$Matcher" 3 yJ22_init := ⟨Or.inl q887, q171, rfl⟩
theorem iX9_41 : rv_lv "Rulehearth$Matcher" 41 yX9_go := ⟨Or.inl q928, q930, qs4⟩
theorem iX9_48 : rv_lv "Rulehearth$Matcher" 48 yX9_run := ⟨Or.inl q1349, q925, q926⟩
theorem iX9_54 : rv_ls "Rulehearth$Matcher" 54 yJ12_max := ⟨Or.inl q932, q295⟩
theorem iX9_66 : rv_lv "Rulehearth$Matcher" 66 yJ2_get := ⟨Or.inl q1025, q729, q730⟩
theorem iX9_77 : rv_lv "Rulehearth$Matcher" 77 yX9_goAtom := ⟨Or.inl q1027, q1029, qs8⟩
theorem iX9_81 : rv_lv "Rulehearth$Matcher" 81 yX9_factOf := ⟨Or.inl q1052, q1054, qs12⟩
theorem iX9_85 : rv_lv "Rulehearth$Matcher" 85 yX3_has := ⟨Or.inl q1057, q966, q967⟩
theorem iX9_91 : rv_lv "Rulehearth$Matcher" 91 yX9_holds := ⟨Or.inl q1058, q1060, qs13⟩
theorem iX9_95 : rv_lv "Rulehearth$Matcher" 95 yX9_goPlus := ⟨Or.inl q1062, q1064, qs14⟩
theorem iX9_112 : rv_lv "Rulehearth$Matcher" 112 yX3_placeOf := ⟨Or.inl q1032, q970, q971⟩
theorem iX9_116 : rv_lv "Rulehearth$Matcher" 116 yX9_mask := ⟨Or.inl q1033, q1035, qs9⟩
theorem iX9_120 : rv_lv "Rulehearth$Matcher" 120 yX9_isAllowed := ⟨Or.inl q1037, q1039, qs10⟩
theorem iX9_134 : rv_lv "Rulehearth$Matcher" 134 yX9_unbind := ⟨Or.inl q1048, q1050, qs11⟩
theorem iX12_9 : rv_li "Rulehearth$Reasons" 9 yJ22_init := ⟨Or.inl q1707, q171, rfl⟩
theorem iX12_30 : rv_lv "Rulehearth$Reasons" 30 yJ2_size := ⟨Or.inl q1708, q725, q726⟩
theorem iX12_49 : rv_lv "Rulehearth$Reasons" 49 yJ2_get := ⟨Or.inl q1711, q729, q730⟩
theorem iX12_55 : rv_lv "Rulehearth$Reasons" 55 yX10_atoms := ⟨Or.inl q1713, q944, q945⟩
theorem iX12_78 : rv_lv "Rulehearth$Reasons" 78 yX12_gatherBy := ⟨Or.inl q1728, q1730, qs32⟩
theorem iX12_84 : rv_li "Rulehearth$Reasons" 84 yX13_init := ⟨Or.inl q1734, q1735, rfl⟩
theorem iX12_95 : rv_lv "Rulehearth$Reasons" 95 yX13_of := ⟨Or.inl q1752, q1753, q1754⟩
theorem iX12_101 : rv_ls "Rulehearth$Reasons" 101 yJ12_max := ⟨Or.inl q1808, q295⟩
theorem iX12_107 : rv_lv "Rulehearth$Reasons" 107 yX3_indexOf := ⟨Or.inl q1718, q962, q963⟩
theorem iX12_115 : rv_li "Rulehearth$Reasons" 115 yJ2_init := ⟨Or.inl q1800, q182, rfl⟩
theorem iX12_119 : rv_lv "Rulehearth$Reasons" 119 yJ2_add := ⟨Or.inl q1813, q630, q631⟩
theorem iX12_123 : rv_lv "Rulehearth$Reasons" 123 yX2_toldAt := ⟨Or.inl q1814, q1214, q1215⟩
theorem iX12_128 : rv_lv "Rulehearth$Reasons" 128 yX12_above_2 := ⟨Or.inl q1816, q1818, qs36⟩
theorem iX12_132 : rv_lv "Rulehearth$Reasons" 132 yX12_relax := ⟨Or.inl q1809, q1811, qs35⟩
theorem iX12_136 : rv_lv "Rulehearth$Reasons" 136 yX10_fact := ⟨Or.inl q1717, q980, q981⟩
theorem iX12_140 : rv_lv "Rulehearth$Reasons" 140 yX12_above := ⟨Or.inl q1804, q1806, qs34⟩
theorem iX13_9 : rv_li "Rulehearth$Together" 9 yX8_init := ⟨Or.inl q1737, q1297, rfl⟩
theorem iX13_15 : rv_lv "Rulehearth$Together" 15 yX10_atoms := ⟨Or.inl q1738, q944, q945⟩
theorem iX13_40 : rv_lv "Rulehearth$Together" 40 yX10_binds := ⟨Or.inl q1760, q1358, q1359⟩
theorem iX14_3 : rv_li "Rulehearth$Why" 3 yJ22_init := ⟨Or.inl q1836, q171, rfl⟩
theorem iX2_3 : rv_li "Rulehearth$World" 3 yJ22_init := ⟨Or.inl q178, q171, rfl⟩
theorem iX2_11 : rv_li "Rulehearth$World" 11 yJ2_init := ⟨Or.inl q181, q182, rfl⟩
theorem iX2_40 : rv_li "Rulehearth$World" 40 yJ2_init_2 := ⟨Or.inl q549, q550, rfl⟩
theorem iX2_47 : rv_li "Rulehearth$World" 47 yX2_init := ⟨Or.inl q1136, q176, rfl⟩
theorem iX2_48 : rv_lv "Rulehearth$World" 48 yJ2_addAll := ⟨Or.inl q1137, q1138, q1139⟩
theorem iX2_65 : rv_lv "Rulehearth$World" 65 yJ2_size := ⟨Or.inl q954, q725, q726⟩
theorem iX2_69 : rv_lv "Rulehearth$World" 69 yJ2_get := ⟨Or.inl q955, q729, q730⟩
theorem iX2_74 : rv_lv "Rulehearth$World" 74 yX2_toldAt := ⟨Or.inl q1213, q1214, q1215⟩
theorem iX2_78 : rv_lv "Rulehearth$World" 78 yJ2_add := ⟨Or.inl q1217, q630, q631⟩
theorem iX2_82 : rv_ls "Rulehearth$World" 82 yJ12_max := ⟨Or.inl q1218, q295⟩
theorem iX2_88 : rv_lv "Rulehearth$World" 88 yJ2_set := ⟨Or.inl q1219, q1220, q1221⟩
theorem iX2_116 : rv_li "Rulehearth$World" 116 yX5_init := ⟨Or.inl q1248, q1249, rfl⟩
theorem iX2_119 : rv_lv "Rulehearth$World" 119 yX3_add := ⟨Or.inl q1262, q1263, q1264⟩
theorem iX2_124 : rv_li "Rulehearth$World" 124 yX7_init := ⟨Or.inl q1287, q1288, rfl⟩
theorem iX2_127 : rv_lv "Rulehearth$World" 127 yX2_toldFacts := ⟨Or.inl q1258, q1260, qs19⟩
theorem iX2_131 : rv_lv "Rulehearth$World" 131 yX2_derivers := ⟨Or.inl q1281, q1283, qs20⟩
theorem iX2_138 : rv_lv "Rulehearth$World" 138 yX7_deriveAll := ⟨Or.inl q1341, q1342, q1343⟩
theorem iX2_141 : rv_lv "Rulehearth$World" 141 yX7_deriveNew := ⟨Or.inl q1379, q1380, q1381⟩
theorem iX2_144 : rv_ls "Rulehearth$World" 144 yX2_merge := ⟨Or.inl q1384, q1385⟩
theorem iX2_151 : rv_lv "Rulehearth$World" 151 yX2_strata := ⟨Or.inl q1232, q1233, q1234⟩
theorem iX2_155 : rv_lv "Rulehearth$World" 155 yX2_found := ⟨Or.inl q1254, q1256, qs18⟩
theorem iX2_159 : rv_lv "Rulehearth$World" 159 yX3_indexOf := ⟨Or.inl q961, q962, q963⟩
theorem iX2_162 : rv_lv "Rulehearth$World" 162 yX2_areTags := ⟨Or.inl q1387, q1389, qs22⟩
theorem iX2_166 : rv_lv "Rulehearth$World" 166 yJ2_remove := ⟨Or.inl q1391, q1392, q1393⟩
theorem iX2_169 : rv_lv "Rulehearth$World" 169 yX2_tagOf := ⟨Or.inl q957, q958, q959⟩
theorem iX0_7 : rv_lv "RulehearthLaw" 7 yX1_relation := ⟨Or.inl q1106, q1107, q1108⟩
theorem iX0_17 : rv_lv "RulehearthLaw" 17 yX1_tell := ⟨Or.inl q1174, q1175, q1176⟩
theorem iX0_23 : rv_lv "RulehearthLaw" 23 yX1_take := ⟨Or.inl q1402, q1403, q1404⟩
theorem iX0_26 : rv_lv "RulehearthLaw" 26 yX1_stands := ⟨Or.inl q1411, q1412, q1413⟩
theorem iX0_30 : rv_lv "RulehearthLaw" 30 yX1_standsByRounds := ⟨Or.inl q1419, q1420, q1421⟩
theorem iX0_33 : rv_lv "RulehearthLaw" 33 yX1_endOf := ⟨Or.inl q1431, q1432, q1433⟩
theorem iX0_36 : rv_lv "RulehearthLaw" 36 yX1_tag := ⟨Or.inl q1439, q1440, q1441⟩
theorem iX0_39 : rv_lv "RulehearthLaw" 39 yX1_standingAt := ⟨Or.inl q1447, q1448, q1449⟩
theorem iX0_42 : rv_lv "RulehearthLaw" 42 yX1_rule := ⟨Or.inl q1454, q1455, q1456⟩
theorem iX0_46 : rv_lv "RulehearthLaw" 46 yX1_deed := ⟨Or.inl q1563, q1564, q1565⟩
theorem iX0_50 : rv_lv "RulehearthLaw" 50 yX1_variable := ⟨Or.inl q1570, q1571, q1572⟩
theorem iX0_53 : rv_lv "RulehearthLaw" 53 yX1_value := ⟨Or.inl q1596, q1597, q1598⟩
theorem iX0_56 : rv_lv "RulehearthLaw" 56 yX1_gather := ⟨Or.inl q1603, q1604, q1605⟩
theorem iX0_60 : rv_lv "RulehearthLaw" 60 yX1_atom := ⟨Or.inl q1610, q1611, q1612⟩
theorem iX0_63 : rv_lv "RulehearthLaw" 63 yX1_not := ⟨Or.inl q1622, q1623, q1624⟩
theorem iX0_66 : rv_lv "RulehearthLaw" 66 yX1_test := ⟨Or.inl q1629, q1630, q1631⟩
theorem iX0_69 : rv_lv "RulehearthLaw" 69 yX1_plus := ⟨Or.inl q1636, q1637, q1638⟩
theorem iX0_72 : rv_lv "RulehearthLaw" 72 yX1_done := ⟨Or.inl q1643, q1644, q1645⟩
theorem iX0_76 : rv_lv "RulehearthLaw" 76 yX1_drop := ⟨Or.inl q1666, q1667, q1668⟩
theorem iX0_79 : rv_lv "RulehearthLaw" 79 yX1_dropDeed := ⟨Or.inl q1680, q1681, q1682⟩
theorem iX0_82 : rv_lv "RulehearthLaw" 82 yX1_stratum := ⟨Or.inl q1687, q1688, q1689⟩
theorem iX0_85 : rv_lv "RulehearthLaw" 85 yX1_depth := ⟨Or.inl q1694, q1695, q1696⟩
theorem iX0_88 : rv_lv "RulehearthLaw" 88 yX1_why := ⟨Or.inl q1823, q1824, q1825⟩
theorem iX0_91 : rv_lv "RulehearthLaw" 91 yX1_reasons := ⟨Or.inl q1884, q1885, q1886⟩
theorem iX0_94 : rv_lv "RulehearthLaw" 94 yX1_reasonAt := ⟨Or.inl q1891, q1892, q1893⟩
theorem iX0_97 : rv_lv "RulehearthLaw" 97 yX1_dependsOn := ⟨Or.inl q1898, q1899, q1900⟩
theorem iX0_101 : rv_lv "RulehearthLaw" 101 yX1_whyNot := ⟨Or.inl q1906, q1907, q1908⟩
theorem iX0_104 : rv_lv "RulehearthLaw" 104 yX1_answers := ⟨Or.inl q1915, q1916, q1917⟩
theorem iX0_108 : rv_lv "RulehearthLaw" 108 yX1_goals := ⟨Or.inl q1926, q1927, q1928⟩
theorem iX0_111 : rv_lv "RulehearthLaw" 111 yX1_matches := ⟨Or.inl q1992, q1993, q1994⟩
theorem iX0_114 : rv_lv "RulehearthLaw" 114 yX1_planAt := ⟨Or.inl q2005, q2006, q2007⟩
theorem iX0_117 : rv_lv "RulehearthLaw" 117 yX1_work := ⟨Or.inl q2032, q2033, q2034⟩
theorem iX0_121 : rv_lv "RulehearthLaw" 121 yX1_agenda := ⟨Or.inl q2039, q2040, q2041⟩
theorem iX0_124 : rv_lv "RulehearthLaw" 124 yX1_fire := ⟨Or.inl q2046, q2047, q2048⟩
theorem iX0_127 : rv_lv "RulehearthLaw" 127 yX1_run := ⟨Or.inl q2053, q2054, q2055⟩
theorem iX0_130 : rv_lv "RulehearthLaw" 130 yX1_focus := ⟨Or.inl q2061, q2062, q2063⟩
theorem iX0_133 : rv_lv "RulehearthLaw" 133 yX1_tick := ⟨Or.inl q2068, q2069, q2070⟩
theorem iX0_136 : rv_lv "RulehearthLaw" 136 yX1_begin_2 := ⟨Or.inl q2075, q2076, q2077⟩
theorem iX0_139 : rv_lv "RulehearthLaw" 139 yX1_commit := ⟨Or.inl q2082, q2083, q2084⟩
theorem iX0_142 : rv_lv "RulehearthLaw" 142 yX1_rollBack := ⟨Or.inl q2089, q2090, q2091⟩
theorem iX0_145 : rv_li "RulehearthLaw" 145 yX1_init := ⟨Or.inl q167, q168, rfl⟩
theorem iX0_148 : rv_li "RulehearthLaw" 148 yX4_init := ⟨Or.inl q2095, q2096, rfl⟩
theorem iX0_149 : rv_ls "RulehearthLaw" 149 yX0_relation := ⟨Or.inl q1101, q1102⟩
theorem iX0_154 : rv_lv "RulehearthLaw" 154 yX4_relation := ⟨Or.inl q2272, q2273, q2274⟩
theorem iX0_155 : rv_lv "RulehearthLaw" 155 yX4_thrown := ⟨Or.inl q2268, q2269, q2270⟩
theorem iX0_158 : rv_ls "RulehearthLaw" 158 yX0_tell := ⟨Or.inl q1152, q1153⟩
theorem iX0_161 : rv_lv "RulehearthLaw" 161 yX4_tell := ⟨Or.inl q2283, q2284, q2285⟩
theorem iX0_162 : rv_ls "RulehearthLaw" 162 yX0_take := ⟨Or.inl q1399, q1400⟩
theorem iX0_164 : rv_lv "RulehearthLaw" 164 yX4_take := ⟨Or.inl q2437, q2438, q2439⟩
theorem iX0_165 : rv_ls "RulehearthLaw" 165 yX0_stands := ⟨Or.inl q1408, q1409⟩
theorem iX0_167 : rv_lv "RulehearthLaw" 167 yX4_stands := ⟨Or.inl q2445, q2446, q2447⟩
theorem iX0_168 : rv_ls "RulehearthLaw" 168 yX0_standsByRounds := ⟨Or.inl q1416, q1417⟩
theorem iX0_170 : rv_lv "RulehearthLaw" 170 yX4_standsByRounds := ⟨Or.inl q2453, q2450, q2451⟩
theorem iX0_171 : rv_ls "RulehearthLaw" 171 yX0_endOf := ⟨Or.inl q1428, q1429⟩
theorem iX0_173 : rv_lv "RulehearthLaw" 173 yX4_endOf := ⟨Or.inl q2454, q2455, q2456⟩
theorem iX0_174 : rv_ls "RulehearthLaw" 174 yX0_tag := ⟨Or.inl q1436, q1437⟩
theorem iX0_176 : rv_lv "RulehearthLaw" 176 yX4_tag := ⟨Or.inl q2458, q2459, q2460⟩
theorem iX0_177 : rv_lv "RulehearthLaw" 177 yX1_standing := ⟨Or.inl q708, q709, q710⟩
theorem iX0_180 : rv_lv "RulehearthLaw" 180 yX4_standing := ⟨Or.inl q2462, q2463, q2464⟩
theorem iX0_181 : rv_ls "RulehearthLaw" 181 yX0_standingAt := ⟨Or.inl q1444, q1445⟩
theorem iX0_183 : rv_lv "RulehearthLaw" 183 yX4_standingAt := ⟨Or.inl q2466, q2467, q2468⟩
theorem iX0_184 : rv_ls "RulehearthLaw" 184 yX0_rule := ⟨Or.inl q1451, q1452⟩
theorem iX0_187 : rv_lv "RulehearthLaw" 187 yX4_rule := ⟨Or.inl q2470, q2471, q2472⟩
theorem iX0_188 : rv_ls "RulehearthLaw" 188 yX0_deed := ⟨Or.inl q1560, q1561⟩
theorem iX0_191 : rv_lv "RulehearthLaw" 191 yX4_deed := ⟨Or.inl q2478, q2479, q2480⟩
theorem iX0_192 : rv_ls "RulehearthLaw" 192 yX0_variable := ⟨Or.inl q1567, q1568⟩
theorem iX0_194 : rv_lv "RulehearthLaw" 194 yX4_variable := ⟨Or.inl q2482, q2483, q2484⟩
theorem iX0_195 : rv_ls "RulehearthLaw" 195 yX0_value := ⟨Or.inl q1593, q1594⟩
theorem iX0_197 : rv_lv "RulehearthLaw" 197 yX4_value := ⟨Or.inl q2498, q2499, q2500⟩
theorem iX0_198 : rv_ls "RulehearthLaw" 198 yX0_gather := ⟨Or.inl q1600, q1601⟩
theorem iX0_201 : rv_lv "RulehearthLaw" 201 yX4_gather := ⟨Or.inl q2502, q2503, q2504⟩
theorem iX0_202 : rv_ls "RulehearthLaw" 202 yX0_atom := ⟨Or.inl q1607, q1608⟩
theorem iX0_204 : rv_lv "RulehearthLaw" 204 yX4_atom := ⟨Or.inl q2506, q2507, q2508⟩
theorem iX0_205 : rv_ls "RulehearthLaw" 205 yX0_not := ⟨Or.inl q1619, q1620⟩
theorem iX0_207 : rv_lv "RulehearthLaw" 207 yX4_not := ⟨Or.inl q2522, q2523, q2524⟩
theorem iX0_208 : rv_ls "RulehearthLaw" 208 yX0_test := ⟨Or.inl q1626, q1627⟩
theorem iX0_210 : rv_lv "RulehearthLaw" 210 yX4_test := ⟨Or.inl q2526, q2527, q2528⟩
theorem iX0_211 : rv_ls "RulehearthLaw" 211 yX0_plus := ⟨Or.inl q1633, q1634⟩
theorem iX0_214 : rv_lv "RulehearthLaw" 214 yX4_plus := ⟨Or.inl q2530, q2531, q2532⟩
theorem iX0_215 : rv_ls "RulehearthLaw" 215 yX0_done := ⟨Or.inl q1640, q1641⟩
theorem iX0_218 : rv_lv "RulehearthLaw" 218 yX4_done := ⟨Or.inl q2534, q2535, q2536⟩
theorem iX0_219 : rv_lv "RulehearthLaw" 219 yX1_cancel := ⟨Or.inl q712, q713, q714⟩
theorem iX0_223 : rv_lv "RulehearthLaw" 223 yX4_cancel := ⟨Or.inl q2546, q2547, q2548⟩
theorem iX0_224 : rv_ls "RulehearthLaw" 224 yX0_drop := ⟨Or.inl q1663, q1664⟩
theorem iX0_226 : rv_lv "RulehearthLaw" 226 yX4_drop := ⟨Or.inl q2550, q2551, q2552⟩
theorem iX0_227 : rv_ls "RulehearthLaw" 227 yX0_dropDeed := ⟨Or.inl q1677, q1678⟩
theorem iX0_229 : rv_lv "RulehearthLaw" 229 yX4_dropDeed := ⟨Or.inl q2562, q2563, q2564⟩
theorem iX0_230 : rv_ls "RulehearthLaw" 230 yX0_stratum := ⟨Or.inl q1684, q1685⟩
theorem iX0_232 : rv_lv "RulehearthLaw" 232 yX4_stratum := ⟨Or.inl q2566, q2567, q2568⟩
theorem iX0_233 : rv_ls "RulehearthLaw" 233 yX0_depth := ⟨Or.inl q1691, q1692⟩
theorem iX0_235 : rv_lv "RulehearthLaw" 235 yX4_depth := ⟨Or.inl q2570, q2571, q2572⟩
theorem iX0_236 : rv_ls "RulehearthLaw" 236 yX0_why := ⟨Or.inl q1820, q1821⟩
theorem iX0_238 : rv_lv "RulehearthLaw" 238 yX4_why := ⟨Or.inl q2586, q2587, q2588⟩
theorem iX0_239 : rv_ls "RulehearthLaw" 239 yX0_reasons := ⟨Or.inl q1881, q1882⟩
theorem iX0_241 : rv_lv "RulehearthLaw" 241 yX4_reasons := ⟨Or.inl q2602, q2603, q2604⟩
theorem iX0_242 : rv_ls "RulehearthLaw" 242 yX0_reasonAt := ⟨Or.inl q1888, q1889⟩
theorem iX0_244 : rv_lv "RulehearthLaw" 244 yX4_reasonAt := ⟨Or.inl q2606, q2607, q2608⟩
theorem iX0_245 : rv_ls "RulehearthLaw" 245 yX0_dependsOn := ⟨Or.inl q1895, q1896⟩
theorem iX0_247 : rv_lv "RulehearthLaw" 247 yX4_dependsOn := ⟨Or.inl q2610, q2611, q2612⟩
theorem iX0_248 : rv_ls "RulehearthLaw" 248 yX0_whyNot := ⟨Or.inl q1903, q1904⟩
theorem iX0_250 : rv_lv "RulehearthLaw" 250 yX4_whyNot := ⟨Or.inl q2618, q2619, q2620⟩
theorem iX0_251 : rv_ls "RulehearthLaw" 251 yX0_answers := ⟨Or.inl q1912, q1913⟩
theorem iX0_254 : rv_lv "RulehearthLaw" 254 yX4_answers := ⟨Or.inl q2626, q2627, q2628⟩
theorem iX0_255 : rv_ls "RulehearthLaw" 255 yX0_goals := ⟨Or.inl q1923, q1924⟩
theorem iX0_257 : rv_lv "RulehearthLaw" 257 yX4_goals := ⟨Or.inl q2634, q2635, q2636⟩
theorem iX0_258 : rv_lv "RulehearthLaw" 258 yX1_beginnings := ⟨Or.inl q716, q717, q718⟩
theorem iX0_261 : rv_lv "RulehearthLaw" 261 yX4_beginnings := ⟨Or.inl q2654, q2655, q2656⟩
theorem iX0_262 : rv_ls "RulehearthLaw" 262 yX0_matches := ⟨Or.inl q1989, q1990⟩
theorem iX0_264 : rv_lv "RulehearthLaw" 264 yX4_matches := ⟨Or.inl q2670, q2671, q2672⟩
theorem iX0_265 : rv_ls "RulehearthLaw" 265 yX0_planAt := ⟨Or.inl q2002, q2003⟩
theorem iX0_267 : rv_lv "RulehearthLaw" 267 yX4_planAt := ⟨Or.inl q2678, q2679, q2680⟩
theorem iX0_268 : rv_ls "RulehearthLaw" 268 yX0_work := ⟨Or.inl q2029, q2030⟩
theorem iX0_271 : rv_lv "RulehearthLaw" 271 yX4_work := ⟨Or.inl q2698, q2699, q2700⟩
theorem iX0_272 : rv_ls "RulehearthLaw" 272 yX0_agenda := ⟨Or.inl q2036, q2037⟩
theorem iX0_274 : rv_lv "RulehearthLaw" 274 yX4_agenda := ⟨Or.inl q2702, q2703, q2704⟩
theorem iX0_275 : rv_lv "RulehearthLaw" 275 yX1_next := ⟨Or.inl q830, q831, q832⟩
theorem iX0_278 : rv_lv "RulehearthLaw" 278 yX4_next := ⟨Or.inl q2726, q2727, q2728⟩
theorem iX0_279 : rv_lv "RulehearthLaw" 279 yX1_nextFact := ⟨Or.inl q1089, q1090, q1091⟩
theorem iX0_282 : rv_lv "RulehearthLaw" 282 yX4_nextFact := ⟨Or.inl q2734, q2735, q2736⟩
theorem iX0_283 : rv_ls "RulehearthLaw" 283 yX0_fire := ⟨Or.inl q2043, q2044⟩
theorem iX0_285 : rv_lv "RulehearthLaw" 285 yX4_fire := ⟨Or.inl q2738, q2739, q2740⟩
theorem iX0_286 : rv_ls "RulehearthLaw" 286 yX0_run := ⟨Or.inl q2050, q2051⟩
theorem iX0_288 : rv_lv "RulehearthLaw" 288 yX4_run := ⟨Or.inl q2746, q2747, q2748⟩
theorem iX0_289 : rv_ls "RulehearthLaw" 289 yX0_focus := ⟨Or.inl q2058, q2059⟩
theorem iX0_291 : rv_lv "RulehearthLaw" 291 yX4_focus := ⟨Or.inl q2750, q2751, q2752⟩
theorem iX0_292 : rv_lv "RulehearthLaw" 292 yX1_focused := ⟨Or.inl q1093, q1094, q1095⟩
theorem iX0_295 : rv_lv "RulehearthLaw" 295 yX4_focused := ⟨Or.inl q2754, q2755, q2756⟩
theorem iX0_296 : rv_ls "RulehearthLaw" 296 yX0_tick := ⟨Or.inl q2065, q2066⟩
theorem iX0_298 : rv_lv "RulehearthLaw" 298 yX4_tick := ⟨Or.inl q2758, q2759, q2760⟩
theorem iX0_299 : rv_lv "RulehearthLaw" 299 yX1_now := ⟨Or.inl q1097, q1098, q1099⟩
theorem iX0_302 : rv_lv "RulehearthLaw" 302 yX4_now := ⟨Or.inl q2766, q2767, q2768⟩
theorem iX0_303 : rv_ls "RulehearthLaw" 303 yX0_begin := ⟨Or.inl q2072, q2073⟩
theorem iX0_305 : rv_lv "RulehearthLaw" 305 yX4_begin := ⟨Or.inl q2770, q2771, q2772⟩
theorem iX0_306 : rv_ls "RulehearthLaw" 306 yX0_commit := ⟨Or.inl q2079, q2080⟩
theorem iX0_308 : rv_lv "RulehearthLaw" 308 yX4_commit := ⟨Or.inl q2774, q2775, q2776⟩
theorem iX0_309 : rv_ls "RulehearthLaw" 309 yX0_rollBack := ⟨Or.inl q2086, q2087⟩
theorem iX0_311 : rv_lv "RulehearthLaw" 311 yX4_rollBack := ⟨Or.inl q2778, q2779, q2780⟩
theorem iX4_1 : rv_li "RulehearthModel" 1 yJ22_init := ⟨Or.inl q2098, q171, rfl⟩
theorem iX4_135 : rv_ls "RulehearthModel" 135 yX4_in := ⟨Or.inl q2276, q2277⟩
theorem iX4_140 : rv_lv "RulehearthModel" 140 yX4_isRelation := ⟨Or.inl q2292, q2294, qs49⟩
theorem iX4_144 : rv_ls "RulehearthModel" 144 yX4_copy := ⟨Or.inl q2300, q2301⟩
theorem iX4_148 : rv_lv "RulehearthModel" 148 yX4_kindOf := ⟨Or.inl q2327, q2329, qs57⟩
theorem iX4_152 : rv_lv "RulehearthModel" 152 yX4_whatOf := ⟨Or.inl q2335, q2337, qs59⟩
theorem iX4_168 : rv_lv "RulehearthModel" 168 yX4_valueOf := ⟨Or.inl q2398, q2400, qs74⟩
theorem iX4_172 : rv_lv "RulehearthModel" 172 yX4_termOf := ⟨Or.inl q2387, q2389, qs72⟩
theorem iX4_176 : rv_ls "RulehearthModel" 176 yX4_slotOf := ⟨Or.inl q2391, q2392⟩
theorem iX4_179 : rv_lv "RulehearthModel" 179 yX4_fits := ⟨Or.inl q2394, q2396, qs73⟩
theorem iX4_182 : rv_lv "RulehearthModel" 182 yX4_fitsFact := ⟨Or.inl q2383, q2385, qs71⟩
theorem iX4_185 : rv_lv "RulehearthModel" 185 yX4_unbind := ⟨Or.inl q2371, q2373, qs68⟩
theorem iX4_189 : rv_ls "RulehearthModel" 189 yX4_weight := ⟨Or.inl q2406, q2407⟩
theorem iX4_192 : rv_lv "RulehearthModel" 192 yX4_indexOf := ⟨Or.inl q2343, q2345, qs61⟩
theorem iX4_195 : rv_lv "RulehearthModel" 195 yX4_advanceAtom := ⟨Or.inl q2379, q2381, qs70⟩
theorem iX4_198 : rv_lv "RulehearthModel" 198 yX4_holds := ⟨Or.inl q2402, q2404, qs75⟩
theorem iX4_202 : rv_lv "RulehearthModel" 202 yX4_advance := ⟨Or.inl q2375, q2377, qs69⟩
theorem iX4_205 : rv_lv "RulehearthModel" 205 yX4_gatheredSlot := ⟨Or.inl q2355, q2357, qs64⟩
theorem iX4_211 : rv_lv "RulehearthModel" 211 yX4_forget := ⟨Or.inl q2359, q2361, qs65⟩
theorem iX4_214 : rv_lv "RulehearthModel" 214 yX4_beginMatches := ⟨Or.inl q2363, q2365, qs66⟩
theorem iX4_218 : rv_lv "RulehearthModel" 218 yX4_nextMatch := ⟨Or.inl q2367, q2369, qs67⟩
theorem iX4_222 : rv_lv "RulehearthModel" 222 yX4_headFact := ⟨Or.inl q2409, q2411, qs76⟩
theorem iX4_225 : rv_lv "RulehearthModel" 225 yX4_matchDepth := ⟨Or.inl q2413, q2415, qs77⟩
theorem iX4_229 : rv_lv "RulehearthModel" 229 yX4_matchFacts := ⟨Or.inl q2417, q2419, qs78⟩
theorem iX4_233 : rv_lv "RulehearthModel" 233 yX4_leastStratum := ⟨Or.inl q2323, q2325, qs56⟩
theorem iX4_236 : rv_lv "RulehearthModel" 236 yX4_isGathering := ⟨Or.inl q2331, q2333, qs58⟩
theorem iX4_245 : rv_lv "RulehearthModel" 245 yX4_gatherAll := ⟨Or.inl q2351, q2353, qs63⟩
theorem iX4_248 : rv_lv "RulehearthModel" 248 yX4_groupFact := ⟨Or.inl q2421, q2423, qs79⟩
theorem iX4_251 : rv_lv "RulehearthModel" 251 yX4_expect := ⟨Or.inl q2425, q2427, qs80⟩
theorem iX4_254 : rv_lv "RulehearthModel" 254 yX4_insert := ⟨Or.inl q2339, q2341, qs60⟩
theorem iX4_257 : rv_lv "RulehearthModel" 257 yX4_findStrata := ⟨Or.inl q2319, q2321, qs55⟩
theorem iX4_260 : rv_lv "RulehearthModel" 260 yX4_give := ⟨Or.inl q2347, q2349, qs62⟩
theorem iX4_263 : rv_lv "RulehearthModel" 263 yX4_giveTags := ⟨Or.inl q2429, q2431, qs81⟩
theorem iX4_266 : rv_lv "RulehearthModel" 266 yX4_goesWell := ⟨Or.inl q2279, q2281, qs47⟩
theorem iX4_269 : rv_lv "RulehearthModel" 269 yX4_toldAt := ⟨Or.inl q2307, q2309, qs52⟩
theorem iX4_272 : rv_lv "RulehearthModel" 272 yX4_faultOf := ⟨Or.inl q2287, q2289, qs48⟩
theorem iX4_275 : rv_lv "RulehearthModel" 275 yX4_save := ⟨Or.inl q2296, q2298, qs50⟩
theorem iX4_278 : rv_lv "RulehearthModel" 278 yX4_tellFact := ⟨Or.inl q2303, q2305, qs51⟩
theorem iX4_281 : rv_lv "RulehearthModel" 281 yX4_settledOr := ⟨Or.inl q2311, q2313, qs53⟩
theorem iX4_284 : rv_lv "RulehearthModel" 284 yX4_settle := ⟨Or.inl q2315, q2317, qs54⟩
theorem iX4_287 : rv_lv "RulehearthModel" 287 yX4_bringBack := ⟨Or.inl q2433, q2435, qs82⟩
theorem iX4_290 : rv_lv "RulehearthModel" 290 yX4_takeFact := ⟨Or.inl q2441, q2443, qs83⟩
theorem iX4_293 : rv_lv "RulehearthModel" 293 yX4_standsByRounds := ⟨Or.inl q2449, q2450, q2451⟩
theorem iX4_299 : rv_lv "RulehearthModel" 299 yX4_termsOf := ⟨Or.inl q2490, q2492, qs86⟩
theorem iX4_305 : rv_lv "RulehearthModel" 305 yX4_beginDraft := ⟨Or.inl q2474, q2476, qs84⟩
theorem iX4_308 : rv_lv "RulehearthModel" 308 yX4_lacksTerm := ⟨Or.inl q2486, q2488, qs85⟩
theorem iX4_311 : rv_lv "RulehearthModel" 311 yX4_addTerm := ⟨Or.inl q2494, q2496, qs87⟩
theorem iX4_314 : rv_lv "RulehearthModel" 314 yX4_canAdd := ⟨Or.inl q2510, q2512, qs88⟩
theorem iX4_317 : rv_lv "RulehearthModel" 317 yX4_atomsOf := ⟨Or.inl q2514, q2516, qs89⟩
theorem iX4_320 : rv_lv "RulehearthModel" 320 yX4_addItem := ⟨Or.inl q2518, q2520, qs90⟩
theorem iX4_323 : rv_lv "RulehearthModel" 323 yX4_isSound := ⟨Or.inl q2538, q2540, qs91⟩
theorem iX4_326 : rv_lv "RulehearthModel" 326 yX4_copyBody := ⟨Or.inl q2542, q2544, qs92⟩
theorem iX4_329 : rv_lv "RulehearthModel" 329 yX4_placeOf := ⟨Or.inl q2558, q2560, qs94⟩
theorem iX4_332 : rv_lv "RulehearthModel" 332 yX4_ruleAt := ⟨Or.inl q2554, q2556, qs93⟩
theorem iX4_335 : rv_lv "RulehearthModel" 335 yX4_lowerBy := ⟨Or.inl q2578, q2580, qs96⟩
theorem iX4_338 : rv_lv "RulehearthModel" 338 yX4_lower := ⟨Or.inl q2582, q2584, qs97⟩
theorem iX4_341 : rv_lv "RulehearthModel" 341 yX4_findDepths := ⟨Or.inl q2574, q2576, qs95⟩
theorem iX4_347 : rv_lv "RulehearthModel" 347 yX4_layReasons := ⟨Or.inl q2598, q2600, qs100⟩
theorem iX4_351 : rv_lv "RulehearthModel" 351 yX4_givesWith := ⟨Or.inl q2594, q2596, qs99⟩
theorem iX4_354 : rv_lv "RulehearthModel" 354 yX4_findReasons := ⟨Or.inl q2590, q2592, qs98⟩
theorem iX4_357 : rv_lv "RulehearthModel" 357 yX4_findRests := ⟨Or.inl q2614, q2616, qs101⟩
theorem iX4_360 : rv_lv "RulehearthModel" 360 yX4_layHead := ⟨Or.inl q2622, q2624, qs102⟩
theorem iX4_364 : rv_lv "RulehearthModel" 364 yX4_isGoal := ⟨Or.inl q2630, q2632, qs103⟩
theorem iX4_371 : rv_lv "RulehearthModel" 371 yX4_openValue := ⟨Or.inl q2650, q2652, qs106⟩
theorem iX4_374 : rv_ls "RulehearthModel" 374 yX4_goalOf := ⟨Or.inl q2638, q2639⟩
theorem iX4_378 : rv_lv "RulehearthModel" 378 yX4_addGoal := ⟨Or.inl q2642, q2644, qs104⟩
theorem iX4_381 : rv_lv "RulehearthModel" 381 yX4_setUp := ⟨Or.inl q2646, q2648, qs105⟩
theorem iX4_384 : rv_lv "RulehearthModel" 384 yX4_renamed := ⟨Or.inl q2666, q2668, qs109⟩
theorem iX4_387 : rv_lv "RulehearthModel" 387 yX4_areAlike := ⟨Or.inl q2662, q2664, qs108⟩
theorem iX4_390 : rv_lv "RulehearthModel" 390 yX4_alikeAhead := ⟨Or.inl q2658, q2660, qs107⟩
theorem iX4_393 : rv_lv "RulehearthModel" 393 yX4_countMatches := ⟨Or.inl q2674, q2676, qs110⟩
theorem iX4_396 : rv_lv "RulehearthModel" 396 yX4_variablesOf := ⟨Or.inl q2690, q2692, qs113⟩
theorem iX4_399 : rv_lv "RulehearthModel" 399 yX4_standingOf := ⟨Or.inl q2694, q2696, qs114⟩
theorem iX4_402 : rv_lv "RulehearthModel" 402 yX4_nextAtom := ⟨Or.inl q2686, q2688, qs112⟩
theorem iX4_405 : rv_lv "RulehearthModel" 405 yX4_findPlan := ⟨Or.inl q2682, q2684, qs111⟩
theorem iX4_408 : rv_lv "RulehearthModel" 408 yX4_tagOf := ⟨Or.inl q2714, q2716, qs117⟩
theorem iX4_414 : rv_lv "RulehearthModel" 414 yX4_canFire := ⟨Or.inl q2710, q2712, qs116⟩
theorem iX4_417 : rv_lv "RulehearthModel" 417 yX4_compare := ⟨Or.inl q2718, q2720, qs118⟩
theorem iX4_420 : rv_lv "RulehearthModel" 420 yX4_greatestTag := ⟨Or.inl q2722, q2724, qs119⟩
theorem iX4_429 : rv_lv "RulehearthModel" 429 yX4_findBest := ⟨Or.inl q2706, q2708, qs115⟩
theorem iX4_432 : rv_lv "RulehearthModel" 432 yX4_findNext := ⟨Or.inl q2730, q2732, qs120⟩
theorem iX4_435 : rv_lv "RulehearthModel" 435 yX4_fireOnce := ⟨Or.inl q2742, q2744, qs121⟩
theorem iX4_438 : rv_lv "RulehearthModel" 438 yX4_beginTick := ⟨Or.inl q2762, q2764, qs122⟩
theorem iJ7_3 : rv_li "java/lang/AbstractStringBuilder" 3 yJ22_init := ⟨Or.inl q247, q171, rfl⟩
theorem iJ7_26 : rv_ls "java/lang/AbstractStringBuilder" 26 yJ10_newBytesFor := ⟨Or.inl q250, q251⟩
theorem iJ7_32 : rv_lv "java/lang/AbstractStringBuilder" 32 yJ9_length := ⟨Or.inl q349, q350, q351⟩
theorem iJ7_40 : rv_lv "java/lang/AbstractStringBuilder" 40 yJ9_coder := ⟨Or.inl q366, q354, q355⟩
theorem iJ7_108 : rv_ls "java/lang/AbstractStringBuilder" 108 yJ13_copyOf := ⟨Or.inl q302, q303⟩
theorem iJ7_114 : rv_ls "java/lang/AbstractStringBuilder" 114 yJ11_newLength := ⟨Or.inl q291, q292⟩
theorem iJ7_125 : rv_ls "java/lang/AbstractStringBuilder" 125 yJ15_inflate := ⟨Or.inl q371, q372⟩
theorem iJ7_191 : rv_ls "java/lang/AbstractStringBuilder" 191 yJ15_canEncode := ⟨Or.inl q763, q764⟩
theorem iJ7_197 : rv_ls "java/lang/AbstractStringBuilder" 197 yJ10_putCharSB := ⟨Or.inl q766, q767⟩
theorem iJ7_226 : rv_ls "java/lang/AbstractStringBuilder" 226 yJ10_putCharsAt := ⟨Or.inl q323, q324⟩
theorem iJ7_245 : rv_ls "java/lang/AbstractStringBuilder" 245 yJ17_stringSize := ⟨Or.inl q399, q400⟩
theorem iJ7_248 : rv_ls "java/lang/AbstractStringBuilder" 248 yJ17_getChars := ⟨Or.inl q402, q403⟩
theorem iJ7_251 : rv_ls "java/lang/AbstractStringBuilder" 251 yJ10_getChars := ⟨Or.inl q409, q410⟩
theorem iJ7_399 : rv_lv "java/lang/AbstractStringBuilder" 399 yJ9_getBytes := ⟨Or.inl q386, q387, q388⟩
theorem iJ20_7 : rv_li "java/lang/ArrayIndexOutOfBoundsException" 7 yJ19_init := ⟨Or.inl q1159, q1160, rfl⟩
theorem iJ4_1 : rv_li "java/lang/Exception" 1 yJ3_init := ⟨Or.inl q1123, q218, rfl⟩
theorem iJ4_7 : rv_li "java/lang/Exception" 7 yJ3_init_2 := ⟨Or.inl q469, q470, rfl⟩
theorem iJ4_10 : rv_li "java/lang/Exception" 10 yJ3_init_3 := ⟨Or.inl q1084, q1085, rfl⟩
theorem iJ6_1 : rv_li "java/lang/IllegalArgumentException" 1 yJ5_init_3 := ⟨Or.inl q1117, q1118, rfl⟩
theorem iJ6_7 : rv_li "java/lang/IllegalArgumentException" 7 yJ5_init := ⟨Or.inl q463, q464, rfl⟩
theorem iJ18_1 : rv_li "java/lang/IllegalStateException" 1 yJ5_init_3 := ⟨Or.inl q1130, q1118, rfl⟩
theorem iJ18_10 : rv_li "java/lang/IllegalStateException" 10 yJ5_init_2 := ⟨Or.inl q1078, q1079, rfl⟩
theorem iJ19_1 : rv_li "java/lang/IndexOutOfBoundsException" 1 yJ5_init_3 := ⟨Or.inl q1198, q1118, rfl⟩
theorem iJ19_7 : rv_li "java/lang/IndexOutOfBoundsException" 7 yJ5_init := ⟨Or.inl q1162, q464, rfl⟩
theorem iJ17_199 : rv_li "java/lang/Integer" 199 yJ17_init := ⟨Or.inl q618, q619, rfl⟩
theorem iJ17_202 : rv_li "java/lang/Integer" 202 yJ16_init := ⟨Or.inl q621, q622, rfl⟩
theorem iJ17_211 : rv_lv "java/lang/Integer" 211 yJ17_intValue := ⟨Or.inl q817, q818, q819⟩
theorem iJ16_1 : rv_li "java/lang/Number" 1 yJ22_init := ⟨Or.inl q624, q171, rfl⟩
theorem iJ5_1 : rv_li "java/lang/RuntimeException" 1 yJ4_init_3 := ⟨Or.inl q1120, q1121, rfl⟩
theorem iJ5_7 : rv_li "java/lang/RuntimeException" 7 yJ4_init := ⟨Or.inl q466, q467, rfl⟩
theorem iJ5_10 : rv_li "java/lang/RuntimeException" 10 yJ4_init_2 := ⟨Or.inl q1081, q1082, rfl⟩
theorem iJ9_1 : rv_li "java/lang/String" 1 yJ22_init := ⟨Or.inl q429, q171, rfl⟩
theorem iJ9_47 : rv_ls "java/lang/String" 47 yJ10_coderFromArrayLen := ⟨Or.inl q495, q496⟩
theorem iJ9_54 : rv_ls "java/lang/String" 54 yJ13_copyOfRange := ⟨Or.inl q444, q445⟩
theorem iJ9_106 : rv_ls "java/lang/String" 106 yJ15_inflate := ⟨Or.inl q391, q372⟩
theorem iJ9_335 : rv_lv "java/lang/String" 335 yJ9_coder := ⟨Or.inl q353, q354, q355⟩
theorem iJ9_489 : rv_li "java/lang/String" 489 yJ9_init_2 := ⟨Or.inl q426, q427, rfl⟩
theorem iJ9_541 : rv_ls "java/lang/String" 541 yJ15_equals := ⟨Or.inl q825, q826⟩
theorem iJ9_1051 : rv_ls "java/lang/String" 1051 yJ10_compress := ⟨Or.inl q485, q486⟩
theorem iJ9_1059 : rv_ls "java/lang/String" 1059 yJ14_checkIndex := ⟨Or.inl q775, q736⟩
theorem iJ9_1062 : rv_ls "java/lang/String" 1062 yJ14_checkFromToIndex := ⟨Or.inl q337, q338⟩
theorem iJ9_1065 : rv_ls "java/lang/String" 1065 yJ14_checkFromIndexSize := ⟨Or.inl q383, q384⟩
theorem iJ8_1 : rv_li "java/lang/StringBuilder" 1 yJ7_init := ⟨Or.inl q244, q245, rfl⟩
theorem iJ8_137 : rv_li "java/lang/StringBuilder" 137 yJ9_init := ⟨Or.inl q423, q424, rfl⟩
theorem iJ15_240 : rv_ls "java/lang/StringLatin1" 240 yJ10_inflate := ⟨Or.inl q374, q375⟩
theorem iJ10_11 : rv_ls "java/lang/StringUTF16" 11 yJ10_newBytesLength := ⟨Or.inl q253, q254⟩
theorem iJ10_48 : rv_ls "java/lang/StringUTF16" 48 yJ10_length := ⟨Or.inl q329, q330⟩
theorem iJ10_67 : rv_ls "java/lang/StringUTF16" 67 yJ10_checkIndex := ⟨Or.inl q769, q770⟩
theorem iJ10_71 : rv_ls "java/lang/StringUTF16" 71 yJ10_getChar := ⟨Or.inl q491, q492⟩
theorem iJ10_96 : rv_ls "java/lang/StringUTF16" 96 yJ10_checkBoundsBeginEnd := ⟨Or.inl q326, q327⟩
theorem iJ10_111 : rv_ls "java/lang/StringUTF16" 111 yJ10_putChar := ⟨Or.inl q340, q341⟩
theorem iJ10_123 : rv_ls "java/lang/StringUTF16" 123 yJ10_compress_2 := ⟨Or.inl q488, q489⟩
theorem iJ10_126 : rv_ls "java/lang/StringUTF16" 126 yJ13_copyOfRange := ⟨Or.inl q494, q445⟩
theorem iJ10_173 : rv_ls "java/lang/StringUTF16" 173 yJ10_checkBoundsOffCount := ⟨Or.inl q377, q378⟩
theorem iJ10_241 : rv_ls "java/lang/StringUTF16" 241 yJ9_checkBoundsBeginEnd := ⟨Or.inl q332, q333⟩
theorem iJ10_393 : rv_ls "java/lang/StringUTF16" 393 yJ10_getChars_2 := ⟨Or.inl q412, q413⟩
theorem iJ10_414 : rv_ls "java/lang/StringUTF16" 414 yJ9_checkIndex := ⟨Or.inl q772, q773⟩
theorem iJ10_419 : rv_ls "java/lang/StringUTF16" 419 yJ9_checkBoundsOffCount := ⟨Or.inl q380, q381⟩
theorem iJ3_1 : rv_li "java/lang/Throwable" 1 yJ22_init := ⟨Or.inl q220, q171, rfl⟩
theorem iJ0_1 : rv_li "java/util/AbstractCollection" 1 yJ22_init := ⟨Or.inl q190, q171, rfl⟩
theorem iJ1_1 : rv_li "java/util/AbstractList" 1 yJ0_init := ⟨Or.inl q187, q188, rfl⟩
theorem iJ2_1 : rv_li "java/util/ArrayList" 1 yJ1_init := ⟨Or.inl q184, q185, rfl⟩
theorem iJ2_22 : rv_li "java/util/ArrayList" 22 yJ8_init := ⟨Or.inl q241, q242, rfl⟩
theorem iJ2_25 : rv_lv "java/util/ArrayList" 25 yJ8_append := ⟨Or.inl q272, q273, q274⟩
theorem iJ2_29 : rv_lv "java/util/ArrayList" 29 yJ8_append_2 := ⟨Or.inl q392, q393, q394⟩
theorem iJ2_32 : rv_lv "java/util/ArrayList" 32 yJ8_toString := ⟨Or.inl q417, q418, q419⟩
theorem iJ2_36 : rv_li "java/util/ArrayList" 36 yJ6_init := ⟨Or.inl q509, q461, rfl⟩
theorem iJ2_66 : rv_ls "java/util/ArrayList" 66 yJ13_copyOf_2 := ⟨Or.inl q646, q647⟩
theorem iJ2_69 : rv_lv "java/util/ArrayList" 69 yJ2_grow_2 := ⟨Or.inl q641, q643, qs3⟩
theorem iJ2_73 : rv_ls "java/util/ArrayList" 73 yJ11_newLength := ⟨Or.inl q645, q292⟩
theorem iJ2_79 : rv_ls "java/util/ArrayList" 79 yJ12_max := ⟨Or.inl q683, q295⟩
theorem iJ2_85 : rv_lv "java/util/ArrayList" 85 yJ2_indexOf := ⟨Or.inl q781, q782, q783⟩
theorem iJ2_89 : rv_lv "java/util/ArrayList" 89 yJ2_indexOfRange := ⟨Or.inl q785, q786, q787⟩
theorem iJ2_118 : rv_ls "java/util/ArrayList" 118 yJ21_checkIndex := ⟨Or.inl q732, q733⟩
theorem iJ2_123 : rv_lv "java/util/ArrayList" 123 yJ2_elementData := ⟨Or.inl q738, q739, q740⟩
theorem iJ2_129 : rv_lv "java/util/ArrayList" 129 yJ2_grow := ⟨Or.inl q637, q639, qs2⟩
theorem iJ2_131 : rv_lv "java/util/ArrayList" 131 yJ2_add_2 := ⟨Or.inl q633, q635, qs1⟩
theorem iJ2_144 : rv_lv "java/util/ArrayList" 144 yJ2_fastRemove := ⟨Or.inl q1395, q1397, qs23⟩
theorem iJ13_47 : rv_li "java/util/Arrays" 47 yJ8_init := ⟨Or.inl q455, q242, rfl⟩
theorem iJ13_50 : rv_lv "java/util/Arrays" 50 yJ8_append := ⟨Or.inl q458, q273, q274⟩
theorem iJ13_54 : rv_lv "java/util/Arrays" 54 yJ8_append_2 := ⟨Or.inl q456, q393, q394⟩
theorem iJ13_61 : rv_lv "java/util/Arrays" 61 yJ8_toString := ⟨Or.inl q459, q418, q419⟩
theorem iJ13_65 : rv_li "java/util/Arrays" 65 yJ6_init := ⟨Or.inl q460, q461, rfl⟩
theorem iJ13_300 : rv_ls "java/util/Arrays" 300 yJ13_copyOf_3 := ⟨Or.inl q678, q679⟩
theorem iJ13_304 : rv_ls "java/util/Arrays" 304 yJ12_min := ⟨Or.inl q312, q313⟩
theorem iJ13_339 : rv_ls "java/util/Arrays" 339 yJ13_copyOfRangeByte := ⟨Or.inl q447, q448⟩
theorem iJ13_343 : rv_ls "java/util/Arrays" 343 yJ13_checkLength := ⟨Or.inl q450, q451⟩
theorem iJ21_105 : rv_ls "java/util/Objects" 105 yJ14_checkIndex := ⟨Or.inl q735, q736⟩
theorem iJ11_194 : rv_ls "jdk/internal/util/ArraysSupport" 194 yJ12_max := ⟨Or.inl q294, q295⟩
theorem iJ11_201 : rv_ls "jdk/internal/util/ArraysSupport" 201 yJ11_hugeLength := ⟨Or.inl q298, q299⟩
theorem iX1_20 : rv_li "Rulehearth" 20 yX2_init := ⟨Or.inr ⟨_, q175⟩, q176, rfl⟩
theorem iX1_330 : rv_li "Rulehearth" 330 yX14_init := ⟨Or.inr ⟨_, q1833⟩, q1834, rfl⟩
theorem iX1_344 : rv_lv "Rulehearth" 344 yX12_above_2 := ⟨Or.inr ⟨_, q1880⟩, q1818, qs36⟩
theorem iX17_55 : rv_ls "Rulehearth$Agenda" 55 yX1_unknown := ⟨Or.inr ⟨_, q883⟩, q749⟩
theorem iX17_62 : rv_ls "Rulehearth$Agenda" 62 yX1_runs := ⟨Or.inr ⟨_, q920⟩, q921⟩
theorem iX10_65 : rv_ls "Rulehearth$Clause" 65 yX1_valueOf := ⟨Or.inr ⟨_, q983⟩, q984⟩
theorem iX10_69 : rv_ls "Rulehearth$Clause" 69 yX1_relationOf := ⟨Or.inr ⟨_, q1361⟩, q1206⟩
theorem iX10_73 : rv_ls "Rulehearth$Clause" 73 yX1_slotOf := ⟨Or.inr ⟨_, q1362⟩, q1042⟩
theorem iX10_77 : rv_ls "Rulehearth$Clause" 77 yX1_bind := ⟨Or.inr ⟨_, q1363⟩, q1045⟩
theorem iX7_9 : rv_ls "Rulehearth$Deriver" 9 yX1_unknown := ⟨Or.inr ⟨_, q1291⟩, q749⟩
theorem iX7_35 : rv_li "Rulehearth$Deriver" 35 yX3_init := ⟨Or.inr ⟨_, q1293⟩, q525, rfl⟩
theorem iX7_100 : rv_ls "Rulehearth$Deriver" 100 yX1_forget := ⟨Or.inr ⟨_, q1378⟩, q752⟩
theorem iX3_32 : rv_li "Rulehearth$Facts" 32 yX6_init := ⟨Or.inr ⟨_, q1275⟩, q1276, rfl⟩
theorem iX16_13 : rv_ls "Rulehearth$Goals" 13 yX1_valueOf := ⟨Or.inr ⟨_, q1950⟩, q984⟩
theorem iX16_34 : rv_ls "Rulehearth$Goals" 34 yX1_bind := ⟨Or.inr ⟨_, q1986⟩, q1045⟩
theorem iX16_48 : rv_ls "Rulehearth$Goals" 48 yX1_unknown := ⟨Or.inr ⟨_, q1936⟩, q749⟩
theorem iX16_108 : rv_ls "Rulehearth$Goals" 108 yX1_runs := ⟨Or.inr ⟨_, q1987⟩, q921⟩
theorem iX16_112 : rv_ls "Rulehearth$Goals" 112 yX1_forget := ⟨Or.inr ⟨_, q1988⟩, q752⟩
theorem iX8_38 : rv_ls "Rulehearth$Group" 38 yX1_valueOf := ⟨Or.inr ⟨_, q1011⟩, q984⟩
theorem iX8_51 : rv_ls "Rulehearth$Group" 51 yX1_slotOf := ⟨Or.inr ⟨_, q1370⟩, q1042⟩
theorem iX9_104 : rv_ls "Rulehearth$Matcher" 104 yX1_valueOf := ⟨Or.inr ⟨_, q1056⟩, q984⟩
theorem iX9_127 : rv_ls "Rulehearth$Matcher" 127 yX1_slotOf := ⟨Or.inr ⟨_, q1041⟩, q1042⟩
theorem iX9_130 : rv_ls "Rulehearth$Matcher" 130 yX1_bind := ⟨Or.inr ⟨_, q1044⟩, q1045⟩
theorem iX12_66 : rv_ls "Rulehearth$Reasons" 66 yX1_unknown := ⟨Or.inr ⟨_, q1720⟩, q749⟩
theorem iX12_70 : rv_lv "Rulehearth$Reasons" 70 yX1_matcher := ⟨Or.inr ⟨_, q1721⟩, q1723, qs31⟩
theorem iX12_74 : rv_ls "Rulehearth$Reasons" 74 yX1_runs := ⟨Or.inr ⟨_, q1727⟩, q921⟩
theorem iX12_142 : rv_lv "Rulehearth$Reasons" 142 yX1_maskOf := ⟨Or.inr ⟨_, q1719⟩, q1020, qs7⟩
theorem iX13_28 : rv_lv "Rulehearth$Together" 28 yX1_maskOf := ⟨Or.inr ⟨_, q1018⟩, q1020, qs7⟩
theorem iX13_44 : rv_ls "Rulehearth$Together" 44 yX1_runs := ⟨Or.inr ⟨_, q1761⟩, q921⟩
theorem iX13_52 : rv_ls "Rulehearth$Together" 52 yX1_forget := ⟨Or.inr ⟨_, q1769⟩, q752⟩
theorem iX2_25 : rv_li "Rulehearth$World" 25 yX3_init := ⟨Or.inr ⟨_, q524⟩, q525, rfl⟩
theorem rc_X1 : rv_rc 0 RX1 := ⟨TX1, 7, rv_c0⟩
theorem rc_X2 : rv_rc 1 RX2 := ⟨TX2, 12, rv_c1⟩
theorem rc_X3 : rv_rc 2 RX3 := ⟨TX3, 3, rv_c2⟩
theorem rc_X4 : rv_rc 3 RX4 := ⟨TX4, 56, rv_c3⟩
theorem rc_X5 : rv_rc 4 RX5 := ⟨TX5, 6, rv_c4⟩
theorem rc_X6 : rv_rc 5 RX6 := ⟨TX6, 6, rv_c5⟩
theorem rc_X7 : rv_rc 6 RX7 := ⟨TX7, 7, rv_c6⟩
theorem rc_X8 : rv_rc 7 RX8 := ⟨TX8, 3, rv_c7⟩
theorem rc_X9 : rv_rc 8 RX9 := ⟨TX9, 10, rv_c8⟩
theorem rc_X10 : rv_rc 9 RX10 := ⟨TX10, 9, rv_c9⟩
theorem rc_X11 : rv_rc 10 RX11 := ⟨TX11, 4, rv_c10⟩
theorem rc_X12 : rv_rc 11 RX12 := ⟨TX12, 6, rv_c11⟩
theorem rc_X13 : rv_rc 12 RX13 := ⟨TX13, 6, rv_c12⟩
theorem rc_X14 : rv_rc 13 RX14 := ⟨TX14, 3, rv_c13⟩
theorem rc_X15 : rv_rc 14 RX15 := ⟨TX15, 5, rv_c14⟩
theorem rc_X16 : rv_rc 15 RX16 := ⟨TX16, 5, rv_c15⟩
theorem rc_X17 : rv_rc 16 RX17 := ⟨TX17, 8, rv_c16⟩
theorem rc_J2 : rv_rc 17 RJ2 := ⟨TJ2, 3, rv_c17⟩
theorem rc_J8 : rv_rc 18 RJ8 := ⟨TJ8, 4, rv_c18⟩
theorem rc_J9 : rv_rc 19 RJ9 := ⟨TJ9, 4, rv_c19⟩
theorem rc_J17 : rv_rc 20 RJ17 := ⟨TJ17, 1, rv_c20⟩
theorem rc_J6 : rv_rc 21 RJ6 := ⟨TJ6, 6, rv_c21⟩
theorem rc_J18 : rv_rc 22 RJ18 := ⟨TJ18, 6, rv_c22⟩
theorem rc_J19 : rv_rc 23 RJ19 := ⟨TJ19, 6, rv_c23⟩
