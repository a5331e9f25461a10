/-! THE SYSTEM: strata asked, facts by rounds -/
set_option maxRecDepth 100000
theorem x_stratum {G : rv_G} (hG : rv_GK G) {d xo n m N : Nat} {s : wS} {M : xM} {r : Int32} {F : xF} {h : rv_H} (hd : 12 ≤ d) (hN : N ≤ 24) (hSt : xSt G F xo s M) (hw : wfS N s) (hn : 40000 ≤ n) (hm : 200000 ≤ m) (hH : xH G F M n m h) : rv_Call G d yX1_stratum wX1_stratum [.ref xo, .int r] h (xOq G F xo (xad M) n m h [RJ19] false (o_stratum s r)) := by
  refine rv_startW hG (by decide +kernel) (L := [some (.ref xo), some (.int r), none]) rfl (Nat.le_of_ble_eq_true rfl) (fun X hX1 hX hE => ?_)
  subst hX1
  obtain ⟨wd, bg, dv, rv, rw1, lv, lf, Nb, Nd, rfl, hW, hDr, hnew⟩ := hSt.world
  have hS0 : xS X.1 F h (xo :: xad (Nb ++ Nd)) ([(xo, cO 0 [.ref wd, dv, .ref bg, rv, rw1, lv, .int lf])] ++ (Nb ++ Nd)) n m h := hH.start
  have hS : xS X.1 F h [xo] [(xo, cO 0 [.ref wd, dv, .ref bg, rv, rw1, lv, .int lf])] n m h := hS0.foc
  have hp : ([(xo, cO 0 [.ref wd, dv, .ref bg, rv, rw1, lv, .int lf])] : xM).Perm ([(xo, cO 0 [.ref wd, dv, .ref bg, rv, rw1, lv, .int lf])] ++ []) := List.Perm.refl _
  have hZ := fun a c (q : xr X.1 F a c) => (hS.frz hp).2.xr q
  have hX0 := hS.frzr hp (a := xo) (List.mem_singleton.mpr rfl)
  obtain ⟨rel, ta, st, tg, ru, de, fi, sk, tf, r9, ps, es1, es2, es3, es4, es5, es6, w1, ⟨a1, a2, a3, a4, a5, a6⟩, ⟨b1, b2, b3, b4, b5, b6⟩, ⟨e1, e2, e3, e4, e5, e6⟩, w4, w5, w9⟩ := hW.parts hw.1 hN
  have hS8 := hw.1.S
  obtain ⟨st9, hst9, -⟩ := sp_set_spec hw.1.set
  refine rv_aload_n hX dX1_stratum_0 rfl ?_
  refine rv_iload_n hX dX1_stratum_1 rfl ?_
  refine rv_invVR hX iX1_166 mdX1_checkRelation (hS.mc (k := 0) rfl) ⟨TX1, 7, rv_c0⟩ (x_checkRelation hG (d := d - 1) (by omega) hX0 (hW.mono hZ) hS8 (by omega) (by omega) (hS.cpre [2] 0 rfl rfl rfl)) (by omega) rfl rfl (Nat.le_of_ble_eq_true rfl) dX1_stratum_2 (fun v h' hq => ?_) (fun E h' hq => by exact rv_out hX hE (by decide) (xOq.thr (i := 0) (by unfold o_stratum; rw [hq.2.1]; exact ⟨rfl, rfl⟩) (by rw [hq.1]; rfl) hSt (hS0.unf0 (hS.cpost [2] 0 rfl rfl rfl hq.2.2)) (by omega) (by omega)))
  obtain ⟨⟨k, hk⟩, rfl, rfl⟩ := hq
  obtain ⟨hk1, rfl⟩ := w_idx_some (by omega) hk
  refine rv_aload_n hX dX1_stratum_5 rfl ?_
  refine rv_getfR hX gX1_21_X1 (hS.mc (k := 0) rfl) rfl dX1_stratum_6 ?_
  refine rv_invVR hX iX1_146 mdX2_strata (hS.f w1) ⟨TX2, 12, rv_c1⟩ (x_strata hG (d := d - 1) (by omega) w1 ⟨es3, a3, b3⟩ hw.1.R.1 (fun C hC => (hw.1.R.2.1 C hC).1) hS8.2 hS8.1 (by omega) (by omega) (hS.cpre0 [0] 0 rfl rfl rfl)) (by omega) rfl rfl (Nat.le_of_ble_eq_true rfl) dX1_stratum_9 (fun v h' hq => ?_) (fun E h' hq => by exact absurd hq.2.1 (by rw [hst9]; intro e; cases e))
  obtain ⟨sta, sf, st8, hu, hst8, hsf, hQ⟩ := hq
  have hS := hS.cpost0 [0] 0 rfl rfl rfl hQ
  cases hu
  refine rv_iload_n hX dX1_stratum_12 rfl ?_
  refine xv_iald hX (hS.mc (k := 1) rfl) (by omega) (by omega) dX1_stratum_13 ?_
  rw [hsf k (by omega)]
  refine rv_ireturn hX hE rfl ?_ dX1_stratum_14
  have ho : o_stratum s (nI k) = (0, nI (st8 k), s) := by
    unfold o_stratum
    rw [hk, hst8]
    rfl
  rw [ho]
  exact xOq.ret hSt (hS0.unf0 (hS.drop (List.sublist_append_left [(xo, cO 0 [.ref wd, dv, .ref bg, rv, rw1, lv, .int lf])] _))) (by omega) (by omega)
theorem x_standsByRounds {G : rv_G} (hG : rv_GK G) (hLK : rv_LK G) {d xo n m N : Nat} {s : wS} {M : xM} {f : Int32} {F : xF} {h : rv_H} (hd : 70 ≤ d) (hN : N ≤ 24) (hSt : xSt G F xo s M) (hw : wfS N s) (hn : 40000 ≤ n) (hm : 200000 ≤ m) (hH : xH G F M n m h) : rv_Call G d yX1_standsByRounds wX1_standsByRounds [.ref xo, .int f] h (xOq G F xo (xad M) n m h [RJ19, RJ6] false (o_stands s f)) := by
  refine rv_startW hG (by decide +kernel) (L := [some (.ref xo), some (.int f), none]) rfl (Nat.le_of_ble_eq_true rfl) (fun X hX1 hX hE => ?_)
  subst hX1
  obtain ⟨wd, bg, dv, rv, rw1, lv, lf, Nb, Nd, rfl, hW, hDr, hnew⟩ := hSt.world
  have hS0 : xS X.1 F h (xo :: xad (Nb ++ Nd)) ([(xo, cO 0 [.ref wd, dv, .ref bg, rv, rw1, lv, .int lf])] ++ (Nb ++ Nd)) n m h := hH.start
  have hS : xS X.1 F h [xo] [(xo, cO 0 [.ref wd, dv, .ref bg, rv, rw1, lv, .int lf])] n m h := hS0.foc
  have hp : ([(xo, cO 0 [.ref wd, dv, .ref bg, rv, rw1, lv, .int lf])] : xM).Perm ([(xo, cO 0 [.ref wd, dv, .ref bg, rv, rw1, lv, .int lf])] ++ []) := List.Perm.refl _
  have hZ := fun a c (q : xr X.1 F a c) => (hS.frz hp).2.xr q
  have hX0 := hS.frzr hp (a := xo) (List.mem_singleton.mpr rfl)
  obtain ⟨rel, ta, st, tg, ru, de, fi, sk, tf, r9, ps, es1, es2, es3, es4, es5, es6, w1, ⟨a1, a2, a3, a4, a5, a6⟩, ⟨b1, b2, b3, b4, b5, b6⟩, ⟨e1, e2, e3, e4, e5, e6⟩, w4, w5, w9⟩ := hW.parts hw.1 hN
  have hS8 := hw.1.S
  obtain ⟨st9, hst9, hstl9⟩ := sp_set_spec hw.1.set
  have hT60 := hw.1.b6.1
  refine rv_aload_n hX dX1_standsByRounds_0 rfl ?_
  refine rv_iload_n hX dX1_standsByRounds_1 rfl ?_
  refine rv_invVR hX iX1_121 mdX1_checkFact (hS.mc (k := 0) rfl) ⟨TX1, 7, rv_c0⟩ (x_checkFact hG (d := d - 1) (by omega) hX0 (hW.mono hZ) hS8 (by omega) (by omega) (hS.cpre [2] 0 rfl rfl rfl)) (by omega) rfl rfl (Nat.le_of_ble_eq_true rfl) dX1_standsByRounds_2 (fun v h' hq => ?_) (fun E h' hq => by exact rv_out hX hE (by decide) (xOq.flt ⟨rfl, rfl⟩ (fun e => if_pos e) hSt hq.1 (hS0.unf0 (hS.cpost [2] 0 rfl rfl rfl hq.2)) (by omega) (by omega)))
  obtain ⟨⟨k, rfl, hk8, hkr⟩, hfa, rfl, rfl⟩ := hq
  refine rv_aload_n hX dX1_standsByRounds_5 rfl ?_
  refine rv_getfR hX gX1_21_X1 (hS.mc (k := 0) rfl) rfl dX1_standsByRounds_6 ?_
  refine rv_aload_n hX dX1_standsByRounds_9 rfl ?_
  refine rv_getfR hX gX1_21_X1 (hS.mc (k := 0) rfl) rfl dX1_standsByRounds_10 ?_
  refine rv_invVR hX iX1_146 mdX2_strata (hS.f w1) ⟨TX2, 12, rv_c1⟩ (x_strata hG (d := d - 1) (by omega) w1 ⟨es3, a3, b3⟩ hw.1.R.1 (fun C hC => (hw.1.R.2.1 C hC).1) hS8.2 hS8.1 (by omega) (by omega) (hS.cpre0 [0] 0 rfl rfl rfl)) (by omega) rfl rfl (Nat.le_of_ble_eq_true rfl) dX1_standsByRounds_13 (fun v h' hq => ?_) (fun E h' hq => by exact absurd hq.2.1 (by rw [hst9]; intro e; cases e))
  obtain ⟨sta, sf, st8, hu, hst8, hsf, hQ⟩ := hq
  have hS := hS.cpost0 [0] 0 rfl rfl rfl hQ
  cases hu
  rw [hst9] at hst8
  cases hst8
  have hS : xS X.1 F _ [xo] ([(sta, cI 8 sf)] ++ [(xo, cO 0 [.ref wd, dv, .ref bg, rv, rw1, lv, .int lf])]) _ _ _ := hS.reo 2 [1, 0] rfl (by decide) rfl
  have hsta := hS.frzr (List.Perm.refl _) (a := sta) (List.mem_singleton.mpr rfl)
  have hZ2 := fun a c (q : xr X.1 F a c) => (hS.frz (Z := [(sta, cI 8 sf)]) (List.Perm.refl _)).2.xr q
  refine rv_invVR hX iX1_150 mdX2_foundByRounds (hS.f w1) ⟨TX2, 12, rv_c1⟩ (x_foundByRounds hG hLK (d := d - 1) (by omega) (hZ2 _ _ w1) ⟨es3, a3.mono hZ2, b3.mono (fun _ _ q => q.mono hZ2)⟩ ⟨es2, a2.mono hZ2, b2.mono (fun _ _ q => q.mono hZ2)⟩ hw.1.R.1 (fun C hC => (hw.1.R.2.1 C hC).1) hS8.2 hS8.1 hst9 hsf hsta (by omega) hw.1.t8 (by omega) (by omega) (hS.cpre [2,0,0] 0 rfl rfl rfl)) (by omega) rfl rfl (Nat.le_of_ble_eq_true rfl) dX1_standsByRounds_16 (fun v h' hq => ?_) (fun E h' hq => by exact absurd ⟨_, hstl9⟩ hq.2.1)
  obtain ⟨fo, fn, fr, sI, hu, hstl, hQ⟩ := hq
  have hS := hS.cpost [2,0,0] 0 rfl rfl rfl hQ
  cases hu
  have hS : xS X.1 F _ [xo] ([(sta, cI 8 sf), (xo, cO 0 [.ref wd, dv, .ref bg, rv, rw1, lv, .int lf])] ++ sI.M fo fn fr) _ _ _ := hS
  obtain ⟨ri, hri⟩ := sI.ok
  have hF9 : xFc (rv_rd X.1 _) fo sI.F ri := xIn.Fd hri _ (fun b c q => Or.inl ⟨(hS.1.2.1 _ (List.mem_append_right _ q)).2.1, (hS.1.2.1 _ (List.mem_append_right _ q)).1⟩)
  have hFF : sI.F = s.w.F := sp_stl_uniq hstl hstl9
  refine rv_iload_n hX dX1_standsByRounds_19 rfl ?_
  refine rv_invVR hX iX1_143 mdX3_has (hS.mc (k := 2) rfl) ⟨TX3, 3, rv_c2⟩ (x_has hG (d := d - 1) (by omega) hF9 (by omega)) (by omega) rfl rfl (Nat.le_of_ble_eq_true rfl) dX1_standsByRounds_20 (fun v h' hq => ?_) (fun E h' hq => by first | exact hq.elim | cases hq.2 | cases hq.1)
  obtain ⟨rfl, hq⟩ := hq
  cases hq
  refine rv_ireturn hX hE (rv_zn _) ?_ dX1_standsByRounds_23
  have e : o_stands s (nI k) = (0, rv_z (decide (k ∈ sI.F)), s) := by
    unfold o_stands
    rw [if_neg (by rw [hfa]; decide), nI_clamp (by omega), hFF]
  rw [e]
  exact xOq.ret hSt (hS0.unf0 (hS.drop ((List.Sublist.refl _).cons _ |>.trans (List.sublist_append_left _ _)))) (by omega) (by omega)
