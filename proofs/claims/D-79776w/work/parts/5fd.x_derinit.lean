/-! THE SYSTEM: a deriver made -/
set_option maxRecDepth 100000
theorem x_derInit0 {G : rv_G} (hG : rv_GK G) (hLK : rv_LK G) {d D ca fo ms n m : Nat} (hd : 60 ≤ d) {C : sp_C} {F : xF} {h : rv_H} (hC : xCl G false (xr G F) ca C) (hg : C.gath = none) (hb6 : C.its.length ≤ 6) (hn : 4 ≤ n) (hm : 23 ≤ m) (hH : xH G F [(D, cO 6 [.null, .null, .null, .null, .null, .null, .null])] n m h) : rv_Call G d yX7_init wX7_init [.ref D, .ref ca, .ref fo, .ref ms] h (xN (fun u h' => ∃ V L Mo fr bo vf, u = none ∧ xLp G (xr G F) xIt bo C.its ∧ xva (fun _ => none) vf ∧ xS G F h [D] [(D, cO 6 [.ref ca, .ref ms, .ref V, .ref ms, .null, .ref Mo, .null]), (V, cI 8 vf), (L, .inr (24, [.ref D, .ref ca])), (Mo, mX bo C.its.length fo L V fr (-1) 0 false 0), (fr, cI 3 (fun _ => 0))] (n - 4) (m - 23) h')) := by
  refine rv_startN hG (by decide +kernel) (L := [some (.ref D), some (.ref ca), some (.ref fo), some (.ref ms), none, none]) rfl (Nat.le_of_ble_eq_true rfl) (fun X hX1 hX hN hE => ?_)
  subst hX1
  have hS := hH.start
  obtain ⟨hd1, bo, gk, md, sal, tl, h1, -, hxL, -⟩ := hC
  rw [hg] at h1
  obtain ⟨es, hL, hes, hxs⟩ := id hxL
  obtain ⟨lm, led, lcap, lf, l1, l2⟩ := id hL
  refine rv_aload_n hX dX7_init_0 rfl ?_
  refine rv_objInit hX q1290 q171 q172 (by omega) (Nat.le_of_ble_eq_true rfl) dX7_init_1 ?_
  refine rv_aload_n hX dX7_init_4 rfl ?_
  refine rv_invS hX iX7_9 mdX1_unknown (x_unknown hG (d := d - 1) (by omega) (by omega) (by omega) (hS.cpre0 [] 0 rfl rfl rfl)) (by omega) rfl rfl (Nat.le_of_ble_eq_true rfl) dX7_init_5 (fun v h' hq => ?_) (fun E h' hq => by first | exact hq.elim | cases hq.2 | cases hq.1)
  obtain ⟨V, vf, hu, hvf, hQ⟩ := hq
  have hS := hS.cpost0 [] 0 rfl rfl rfl hQ
  cases hu
  refine xv_putf hX hS (k := 0) rfl pX7_13_X7 (fun _ => rfl) rfl rfl rfl dX7_init_8 (fun h_8 hS => ?_)
  refine rv_aload_n hX dX7_init_11 rfl ?_
  refine rv_getfR hX gX7_19_X10 (hS.f h1) rfl dX7_init_12 ?_
  refine rv_iconst hX (v := -1) dX7_init_15 (by decide) ?_
  refine rv_icmp_eq hX 23 dX7_init_16 (by decide) (fun c_16 => ?_) (fun q => absurd rfl q)
  refine nv_iconst hX (m := 0) (by decide) dX7_init_23 ?_
  refine rv_istore hX dX7_init_24 (rv_st_4 rfl) ?_
  refine rv_aload_n hX dX7_init_26 rfl ?_
  refine rv_aload_n hX dX7_init_27 rfl ?_
  refine xv_putf hX hS (k := 0) rfl pX7_25_X7 (fun _ => rfl) rfl rfl rfl dX7_init_28 (fun h_28 hS => ?_)
  refine rv_aload_n hX dX7_init_31 rfl ?_
  refine rv_aload_n hX dX7_init_32 rfl ?_
  refine xv_putf hX hS (k := 0) rfl pX7_29_X7 (fun _ => rfl) rfl rfl rfl dX7_init_33 (fun h_33 hS => ?_)
  refine rv_aload_n hX dX7_init_36 rfl ?_
  refine rv_iload hX dX7_init_37 rfl ?_
  refine rv_if_eq hX 52 dX7_init_39 (by decide) (fun _ => ?_) (fun q => absurd q (by decide))
  refine rv_aload_n hX dX7_init_52 rfl ?_
  refine xv_putf hX hS (k := 0) rfl pX7_36_X7 (fun _ => rfl) rfl rfl rfl dX7_init_53 (fun h_53 hS => ?_)
  refine rv_aload_n hX dX7_init_56 rfl ?_
  refine rv_iload hX dX7_init_57 rfl ?_
  refine rv_if_eq hX 73 dX7_init_59 (by decide) (fun _ => ?_) (fun q => absurd q (by decide))
  refine rv_null hX dX7_init_73 ?_
  refine xv_putf hX hS (k := 0) rfl pX7_44_X7 (fun _ => rfl) rfl rfl rfl dX7_init_74 (fun h_74 hS => ?_)
  refine rv_aload_n hX dX7_init_77 rfl ?_
  refine rv_aload_n hX dX7_init_78 rfl ?_
  refine rv_lamNew hX hN hLK.1 (fun vm d c dk h1 h2 h3 h4 => lm1_made h1 h2 h3 h4) (vals := [.ref D, .ref ca]) (by decide) rfl rfl (fun i v e => match i, e with | 0, e => (by cases e; exact ⟨_, rfl, rfl⟩) | 1, e => (by cases e; exact ⟨_, rfl, rfl⟩) | i + 2, e => (by simp at e)) rfl (Nat.le_of_ble_eq_true rfl) (by omega) (hS.1.cN (by omega)) (hS.1.cS (show 2 ≤ _ by omega)) dX7_init_79 ?_
  have hS := hS.add (c := .inr (24, [.ref D, .ref ca])) (z := 2) (by omega) (by omega) (show rv_k6 _ from trivial)
  refine rv_astore hX dX7_init_84 (rv_st_5 rfl) ?_
  refine rv_aload_n hX dX7_init_86 rfl ?_
  refine xv_new hX hS nX7_52 (by omega) (show 10 ≤ _ by omega) dX7_init_87 (fun a_87 h_87 hS => ?_)
  have hS := hS.bud (Nat.le_refl _) (show _ - 10 ≤ _ from Nat.le_refl _)
  refine rv_dup hX dX7_init_90 rfl ?_
  refine rv_aload_n hX dX7_init_91 rfl ?_
  refine rv_getfR hX gX7_54_X10 (hS.f h1) rfl dX7_init_92 ?_
  refine rv_aload_n hX dX7_init_95 rfl ?_
  refine rv_getfR hX gX7_54_X10 (hS.f h1) rfl dX7_init_96 ?_
  refine rv_invVR hX iX7_58 mdJ2_size (hS.f l1) ⟨TJ2, 3, rv_c17⟩ (j_size hG (d := d - 1) (hL.mono (fun _ _ => hS.f)).L) (by omega) rfl rfl (Nat.le_of_ble_eq_true rfl) dX7_init_99 (fun v h' hq => ?_) (fun E h' hq => by first | exact hq.elim | cases hq.2 | cases hq.1)
  obtain ⟨rfl, hq⟩ := hq
  cases hq
  rw [hes]
  refine rv_aload_n hX dX7_init_102 rfl ?_
  refine rv_aload_n hX dX7_init_103 rfl ?_
  refine rv_getfR hX gX7_13_X7 (hS.mc (k := 0) rfl) rfl dX7_init_104 ?_
  refine rv_aload hX dX7_init_107 rfl ?_
  refine rv_invI hX iX7_64 mdX9_init rfl (x_matcherInit hG (d := d - 1) (by omega) (by omega) (by omega) (hS.cpre0 [0,0,0] 1 rfl rfl rfl)) (by omega) rfl rfl (Nat.le_of_ble_eq_true rfl) dX7_init_109 (fun v h' hq => ?_) (fun E h' hq => by first | exact hq.elim | cases hq.2 | cases hq.1)
  obtain ⟨fr, hu, hQ⟩ := hq
  have hS := hS.cpost0 [0,0,0] 1 rfl rfl rfl hQ
  cases hu
  refine xv_putf hX hS (k := 0) rfl pX7_67_X7 (fun _ => rfl) rfl rfl rfl dX7_init_112 (fun h_112 hS => ?_)
  refine rv_aload_n hX dX7_init_115 rfl ?_
  refine rv_iload hX dX7_init_116 rfl ?_
  refine rv_if_eq hX 151 dX7_init_118 (by decide) (fun _ => ?_) (fun q => absurd q (by decide))
  refine rv_null hX dX7_init_151 ?_
  refine xv_putf hX hS (k := 0) rfl pX7_71_X7 (fun _ => rfl) rfl rfl rfl dX7_init_152 (fun h_152 hS => ?_)
  refine rv_return hX hE ?_ dX7_init_155
  exact ⟨V, _, _, fr, bo, vf, rfl, hxL, hvf, hS.bud (by omega) (by omega)⟩
theorem x_derInit1 {G : rv_G} (hG : rv_GK G) (hLK : rv_LK G) {d D ca fo ms n m : Nat} (hd : 60 ≤ d) {C : sp_C} {F : xF} {h : rv_H} (hC : xCl G false (xr G F) ca C) (hg : C.gath ≠ none) (hgo : ∀ s, C.gath = some s → s < 3) (hb6 : C.its.length ≤ 6) (hn : 11 ≤ n) (hm : 262 ≤ m) (hH : xH G F [(D, cO 6 [.null, .null, .null, .null, .null, .null, .null])] n m h) : rv_Call G d yX7_init wX7_init [.ref D, .ref ca, .ref fo, .ref ms] h (xN (fun u h' => ∃ V gs gn gr Go Ha L Mo fr Mo2 fr2 bo vf, u = none ∧ xLp G (xr G F) xIt bo C.its ∧ xva (fun _ => none) vf ∧ xS G F h [D] [(D, cO 6 [.ref ca, .ref ms, .ref V, .ref gs, .ref Go, .ref Mo, .ref Mo2]), (V, cI 8 vf), (gs, cO 2 [.ref gn, .ref gr, .int (nI 0)]), (gn, cI 60 (fun _ => 0)), (gr, cI 60 (fun _ => 0)), (Go, cO 7 [.ref ca, .ref Ha, .int 0]), (Ha, cZ 100 (fun _ => 0)), (L, .inr (24, [.ref D, .ref ca])), (Mo, mX bo C.its.length fo L V fr (-1) 0 false 0), (fr, cI 3 (fun _ => 0)), (Mo2, mX bo C.its.length fo Go V fr2 (-1) 0 false 0), (fr2, cI 3 (fun _ => 0))] (n - 11) (m - 262) h')) := by
  refine rv_startN hG (by decide +kernel) (L := [some (.ref D), some (.ref ca), some (.ref fo), some (.ref ms), none, none]) rfl (Nat.le_of_ble_eq_true rfl) (fun X hX1 hX hN hE => ?_)
  subst hX1
  have hS := hH.start
  obtain ⟨hd1, bo, gk, md, sal, tl, h1, -, hxL, -⟩ := hC
  obtain ⟨es, hL, hes, hxs⟩ := id hxL
  obtain ⟨lm, led, lcap, lf, l1, l2⟩ := id hL
  have hgm : ¬ rv_oi C.gath = -1 := fun e => hg ((rv_oi_m1 (fun a e => by have := hgo a e; omega)).mp e)
  refine rv_aload_n hX dX7_init_0 rfl ?_
  refine rv_objInit hX q1290 q171 q172 (by omega) (Nat.le_of_ble_eq_true rfl) dX7_init_1 ?_
  refine rv_aload_n hX dX7_init_4 rfl ?_
  refine rv_invS hX iX7_9 mdX1_unknown (x_unknown hG (d := d - 1) (by omega) (by omega) (by omega) (hS.cpre0 [] 0 rfl rfl rfl)) (by omega) rfl rfl (Nat.le_of_ble_eq_true rfl) dX7_init_5 (fun v h' hq => ?_) (fun E h' hq => by first | exact hq.elim | cases hq.2 | cases hq.1)
  obtain ⟨V, vf, hu, hvf, hQ⟩ := hq
  have hS := hS.cpost0 [] 0 rfl rfl rfl hQ
  cases hu
  refine xv_putf hX hS (k := 0) rfl pX7_13_X7 (fun _ => rfl) rfl rfl rfl dX7_init_8 (fun h_8 hS => ?_)
  refine rv_aload_n hX dX7_init_11 rfl ?_
  refine rv_getfR hX gX7_19_X10 (hS.f h1) rfl dX7_init_12 ?_
  refine rv_iconst hX (v := -1) dX7_init_15 (by decide) ?_
  refine rv_icmp_eq hX 23 dX7_init_16 (by decide) (fun q => absurd q hgm) (fun c_16 => ?_)
  refine nv_iconst hX (m := 1) (by decide) dX7_init_19 ?_
  refine rv_goto hX 24 dX7_init_20 (by decide) ?_
  refine rv_istore hX dX7_init_24 (rv_st_4 rfl) ?_
  refine rv_aload_n hX dX7_init_26 rfl ?_
  refine rv_aload_n hX dX7_init_27 rfl ?_
  refine xv_putf hX hS (k := 0) rfl pX7_25_X7 (fun _ => rfl) rfl rfl rfl dX7_init_28 (fun h_28 hS => ?_)
  refine rv_aload_n hX dX7_init_31 rfl ?_
  refine rv_aload_n hX dX7_init_32 rfl ?_
  refine xv_putf hX hS (k := 0) rfl pX7_29_X7 (fun _ => rfl) rfl rfl rfl dX7_init_33 (fun h_33 hS => ?_)
  refine rv_aload_n hX dX7_init_36 rfl ?_
  refine rv_iload hX dX7_init_37 rfl ?_
  refine rv_if_eq hX 52 dX7_init_39 (by decide) (fun q => absurd q (by decide)) (fun _ => ?_)
  refine xv_new hX hS nX7_33 (by omega) (show 3 ≤ _ by omega) dX7_init_42 (fun a_42 h_42 hS => ?_)
  have hS := hS.bud (Nat.le_refl _) (show _ - 3 ≤ _ from Nat.le_refl _)
  refine rv_dup hX dX7_init_45 rfl ?_
  refine rv_invI hX iX7_35 mdX3_init rfl (x_factsNew hG (d := d - 1) (by omega) (by omega) (by omega) (hS.cpre0 [0,0,1] 0 rfl rfl rfl)) (by omega) rfl rfl (Nat.le_of_ble_eq_true rfl) dX7_init_46 (fun v h' hq => ?_) (fun E h' hq => by first | exact hq.elim | cases hq.2 | cases hq.1)
  obtain ⟨gn, gr, hu, hQ⟩ := hq
  have hS := hS.cpost0 [0,0,1] 0 rfl rfl rfl hQ
  cases hu
  refine rv_goto hX 53 dX7_init_49 (by decide) ?_
  refine xv_putf hX hS (k := 0) rfl pX7_36_X7 (fun _ => rfl) rfl rfl rfl dX7_init_53 (fun h_53 hS => ?_)
  refine rv_aload_n hX dX7_init_56 rfl ?_
  refine rv_iload hX dX7_init_57 rfl ?_
  refine rv_if_eq hX 73 dX7_init_59 (by decide) (fun q => absurd q (by decide)) (fun _ => ?_)
  refine xv_new hX hS nX7_39 (by omega) (show 3 ≤ _ by omega) dX7_init_62 (fun a_62 h_62 hS => ?_)
  have hS := hS.bud (Nat.le_refl _) (show _ - 3 ≤ _ from Nat.le_refl _)
  refine rv_dup hX dX7_init_65 rfl ?_
  refine rv_aload_n hX dX7_init_66 rfl ?_
  refine rv_invI hX iX7_41 mdX8_init rfl (x_groupInit hG (d := d - 1) (by omega) (by omega) (by omega) (hS.cpre0 [0,0,0,0,0,1] 0 rfl rfl rfl)) (by omega) rfl rfl (Nat.le_of_ble_eq_true rfl) dX7_init_67 (fun v h' hq => ?_) (fun E h' hq => by first | exact hq.elim | cases hq.2 | cases hq.1)
  obtain ⟨Ha, hu, hQ⟩ := hq
  have hS := hS.cpost0 [0,0,0,0,0,1] 0 rfl rfl rfl hQ
  cases hu
  refine rv_goto hX 74 dX7_init_70 (by decide) ?_
  refine xv_putf hX hS (k := 0) rfl pX7_44_X7 (fun _ => rfl) rfl rfl rfl dX7_init_74 (fun h_74 hS => ?_)
  refine rv_aload_n hX dX7_init_77 rfl ?_
  refine rv_aload_n hX dX7_init_78 rfl ?_
  refine rv_lamNew hX hN hLK.1 (fun vm d c dk h1 h2 h3 h4 => lm1_made h1 h2 h3 h4) (vals := [.ref D, .ref ca]) (by decide) rfl rfl (fun i v e => match i, e with | 0, e => (by cases e; exact ⟨_, rfl, rfl⟩) | 1, e => (by cases e; exact ⟨_, rfl, rfl⟩) | i + 2, e => (by simp at e)) rfl (Nat.le_of_ble_eq_true rfl) (by omega) (hS.1.cN (by omega)) (hS.1.cS (show 2 ≤ _ by omega)) dX7_init_79 ?_
  have hS := hS.add (c := .inr (24, [.ref D, .ref ca])) (z := 2) (by omega) (by omega) (show rv_k6 _ from trivial)
  refine rv_astore hX dX7_init_84 (rv_st_5 rfl) ?_
  refine rv_aload_n hX dX7_init_86 rfl ?_
  refine xv_new hX hS nX7_52 (by omega) (show 10 ≤ _ by omega) dX7_init_87 (fun a_87 h_87 hS => ?_)
  have hS := hS.bud (Nat.le_refl _) (show _ - 10 ≤ _ from Nat.le_refl _)
  refine rv_dup hX dX7_init_90 rfl ?_
  refine rv_aload_n hX dX7_init_91 rfl ?_
  refine rv_getfR hX gX7_54_X10 (hS.f h1) rfl dX7_init_92 ?_
  refine rv_aload_n hX dX7_init_95 rfl ?_
  refine rv_getfR hX gX7_54_X10 (hS.f h1) rfl dX7_init_96 ?_
  refine rv_invVR hX iX7_58 mdJ2_size (hS.f l1) ⟨TJ2, 3, rv_c17⟩ (j_size hG (d := d - 1) (hL.mono (fun _ _ => hS.f)).L) (by omega) rfl rfl (Nat.le_of_ble_eq_true rfl) dX7_init_99 (fun v h' hq => ?_) (fun E h' hq => by first | exact hq.elim | cases hq.2 | cases hq.1)
  obtain ⟨rfl, hq⟩ := hq
  cases hq
  rw [hes]
  refine rv_aload_n hX dX7_init_102 rfl ?_
  refine rv_aload_n hX dX7_init_103 rfl ?_
  refine rv_getfR hX gX7_13_X7 (hS.mc (k := 0) rfl) rfl dX7_init_104 ?_
  refine rv_aload hX dX7_init_107 rfl ?_
  refine rv_invI hX iX7_64 mdX9_init rfl (x_matcherInit hG (d := d - 1) (by omega) (by omega) (by omega) (hS.cpre0 [0,0,0,0,0,0,0,0] 1 rfl rfl rfl)) (by omega) rfl rfl (Nat.le_of_ble_eq_true rfl) dX7_init_109 (fun v h' hq => ?_) (fun E h' hq => by first | exact hq.elim | cases hq.2 | cases hq.1)
  obtain ⟨fr, hu, hQ⟩ := hq
  have hS := hS.cpost0 [0,0,0,0,0,0,0,0] 1 rfl rfl rfl hQ
  cases hu
  refine xv_putf hX hS (k := 0) rfl pX7_67_X7 (fun _ => rfl) rfl rfl rfl dX7_init_112 (fun h_112 hS => ?_)
  refine rv_aload_n hX dX7_init_115 rfl ?_
  refine rv_iload hX dX7_init_116 rfl ?_
  refine rv_if_eq hX 151 dX7_init_118 (by decide) (fun q => absurd q (by decide)) (fun _ => ?_)
  refine xv_new hX hS nX7_52 (by omega) (show 10 ≤ _ by omega) dX7_init_121 (fun a_121 h_121 hS => ?_)
  have hS := hS.bud (Nat.le_refl _) (show _ - 10 ≤ _ from Nat.le_refl _)
  refine rv_dup hX dX7_init_124 rfl ?_
  refine rv_aload_n hX dX7_init_125 rfl ?_
  refine rv_getfR hX gX7_54_X10 (hS.f h1) rfl dX7_init_126 ?_
  refine rv_aload_n hX dX7_init_129 rfl ?_
  refine rv_getfR hX gX7_54_X10 (hS.f h1) rfl dX7_init_130 ?_
  refine rv_invVR hX iX7_58 mdJ2_size (hS.f l1) ⟨TJ2, 3, rv_c17⟩ (j_size hG (d := d - 1) (hL.mono (fun _ _ => hS.f)).L) (by omega) rfl rfl (Nat.le_of_ble_eq_true rfl) dX7_init_133 (fun v h' hq => ?_) (fun E h' hq => by first | exact hq.elim | cases hq.2 | cases hq.1)
  obtain ⟨rfl, hq⟩ := hq
  cases hq
  rw [hes]
  refine rv_aload_n hX dX7_init_136 rfl ?_
  refine rv_aload_n hX dX7_init_137 rfl ?_
  refine rv_getfR hX gX7_13_X7 (hS.mc (k := 0) rfl) rfl dX7_init_138 ?_
  refine rv_aload_n hX dX7_init_141 rfl ?_
  refine rv_getfR hX gX7_44_X7 (hS.mc (k := 0) rfl) rfl dX7_init_142 ?_
  refine rv_invI hX iX7_64 mdX9_init rfl (x_matcherInit hG (d := d - 1) (by omega) (by omega) (by omega) (hS.cpre0 [0,0,0,0,0,0,0,0,0,0] 1 rfl rfl rfl)) (by omega) rfl rfl (Nat.le_of_ble_eq_true rfl) dX7_init_145 (fun v h' hq => ?_) (fun E h' hq => by first | exact hq.elim | cases hq.2 | cases hq.1)
  obtain ⟨fr2, hu2, hQ⟩ := hq
  have hS := hS.cpost0 [0,0,0,0,0,0,0,0,0,0] 1 rfl rfl rfl hQ
  cases hu2
  refine rv_goto hX 152 dX7_init_148 (by decide) ?_
  refine xv_putf hX hS (k := 0) rfl pX7_71_X7 (fun _ => rfl) rfl rfl rfl dX7_init_152 (fun h_152 hS => ?_)
  refine rv_return hX hE ?_ dX7_init_155
  exact ⟨V, _, gn, gr, _, Ha, _, _, fr, _, fr2, bo, vf, rfl, hxL, hvf, hS.bud (by omega) (by omega)⟩
