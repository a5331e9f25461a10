/-! THE SYSTEM: rules and deeds dropped -/
set_option maxRecDepth 100000
theorem xr_fld0 {G : rv_G} {F : xF} {M : xM} {n m a ci : Nat} {v v' : Value} {fs fs' : List Value} {h : rv_H} (hH : xH G F M n m h) (h1 : xr G F a (cO ci (v :: fs))) (h2 : xr G F a (cO ci (v' :: fs'))) : v = v' := by
  have hb : ∀ c, F a = some c → rv_b G ≤ a := fun c e => (hH.2.2.2.1.2 _ _ (hH.1 _ _ e).1).1
  rcases h1 with e1 | e1
  · rcases h2 with e2 | e2
    · rw [e1] at e2
      cases e2
      rfl
    · have := hb _ e1
      have := e2.1
      omega
  · rcases h2 with e2 | e2
    · have := hb _ e2
      have := e1.1
      omega
    · obtain ⟨-, c1, q1, -, -, -, q2⟩ := e1
      obtain ⟨-, c2, p1, -, -, -, p2⟩ := e2
      rw [q1] at p1
      cases p1
      have e3 := (q2 0 (Nat.succ_pos _)).symm.trans (p2 0 (Nat.succ_pos _))
      exact Option.some.inj e3
theorem xCl.num {G : rv_G} {F : xF} {M : xM} {n m a : Nat} {b : Bool} {C D : sp_C} {h : rv_H} (hH : xH G F M n m h) (h1 : xCl G b (xr G F) a C) (h2 : xCl G b (xr G F) a D) : nI C.num = nI D.num := by
  obtain ⟨_, _, _, _, _, _, q1, -⟩ := h1
  obtain ⟨_, _, _, _, _, _, q2, -⟩ := h2
  have := xr_fld0 hH q1 q2
  exact Value.int.inj this
theorem wfP_drop {N k : Nat} {s : wS} (h : wfS N s) : wfP (N + 1) (1200 * N) (10 * N) (20 * N + 20) (s.w.setR (s.w.R.eraseIdx k) s.w.nr) := by
  have hX := h.P.mn (Nat.le_succ N) (Nat.le_refl _) (Nat.le_refl _) (Nat.le_add_right _ 20)
  obtain ⟨⟨hS, hR, hD, hT, hF, hA, hK, hN, hE⟩, -⟩ := hX
  have hsub := List.eraseIdx_sublist s.w.R k
  exact ⟨hS, ⟨Nat.le_trans hsub.length_le hR.1, fun C hC => hR.2.1 C (hsub.mem hC), (hsub.map _).nodup hR.2.2.1, hR.2.2.2⟩, hD, hT, hF, hA, hK, hN, hE⟩
theorem x_drop {G : rv_G} (hG : rv_GK G) (hLK : rv_LK G) {d xo n m N : Nat} {s : wS} {M : xM} {k : Int32} {F : xF} {h : rv_H} (hd : 70 ≤ d) (hN : N ≤ 24) (hSt : xSt G F xo s M) (hw : wfS N s) (hn : 40000 ≤ n) (hm : 200000 ≤ m) (hH : xH G F M n m h) : rv_Call G d yX1_drop wX1_drop [.ref xo, .int k] h (xOq G F xo (xad M) n m h [RJ19, RJ18] false (o_drop s k)) := by
  refine rv_start hG (by decide +kernel) (L := [some (.ref xo), some (.int k), none, none]) rfl (Nat.le_of_ble_eq_true rfl) (fun X hX1 hX hE => ?_)
  subst hX1
  obtain ⟨wd, bg, dv, rv, rw1, lv, lf, Nb, Nd, rfl, hW, hDr, hnew⟩ := hSt.world
  have hS0 : xS X.1 F h (xo :: xad (Nb ++ Nd)) ([(xo, cO 0 [.ref wd, dv, .ref bg, rv, rw1, lv, .int lf])] ++ (Nb ++ Nd)) n m h := hH.start
  have hS : xS X.1 F h [xo] [(xo, cO 0 [.ref wd, dv, .ref bg, rv, rw1, lv, .int lf])] n m h := hS0.foc
  obtain ⟨rel, ta, st, tg, ru, de, fi, sk, tf, r, ps, es1, es2, es3, es4, es5, es6, w1, ⟨a1, a2, a3, a4, a5, a6⟩, ⟨b1, b2, b3, b4, b5, b6⟩, ⟨e1, e2, e3, e4, e5, e6⟩, w4, w5, w9⟩ := hW.parts hw.1 hN
  have hT60 := hw.1.b6.1
  refine rv_aload_n hX dX1_drop_0 rfl ?_
  refine rv_getfR hX gX1_21_X1 (hS.mc (k := 0) rfl) rfl dX1_drop_1 ?_
  refine rv_getfR hX gX1_274_X2 (hS.f w1) rfl dX1_drop_4 ?_
  refine rv_iload_n hX dX1_drop_7 rfl ?_
  refine rv_invS hX iX1_280 mdX1_find (x_find hG (d := d - 1) (by omega) a3 b3 (by omega) (by omega) (hS.cpre0 [] 0 rfl rfl rfl)) (by omega) rfl rfl (Nat.le_of_ble_eq_true rfl) dX1_drop_8 (fun v h' hq => ?_) (fun E h' hq => by exact rv_out hX hE (fun x hx => by cases hx) (xOq.thr (i := 0) (by unfold o_drop; rw [hq.2.1]; exact ⟨rfl, rfl⟩) (by rw [hq.1]; rfl) hSt (hS0.unf0 (hS.cpost0 [] 0 rfl rfl rfl hq.2.2)) (by omega) (by omega)))
  obtain ⟨⟨j, C, e, hfd, hC, he, hnum, hfst, hu⟩, rfl⟩ := hq
  cases hu
  have ho : o_drop s k = s.step 2 (s.w.setR (s.w.R.eraseIdx j) s.w.nr) := by unfold o_drop; rw [hfd]
  have hwP := wfP_drop (k := j) hw
  have hCl := b3.2 j e C he hC
  have hCl' := hCl
  obtain ⟨c1, c2, c3, c4, c5, c6, hc1, -⟩ := hCl'
  have hfirst : ∀ i e', i < j → es3[i]? = some e' → e' ≠ e := fun i e' hi he' q => by
    subst q
    have hil := (List.getElem?_eq_some_iff.mp he').1
    have hiR : i < s.w.R.length := by rw [← b3.1]; exact hil
    have hCi : s.w.R[i]? = some s.w.R[i] := List.getElem?_eq_getElem hiR
    exact hfst i _ hi hCi ((xCl.num hS.1 (b3.2 i _ _ he' hCi) hCl).trans hnum)
  refine rv_astore_n hX dX1_drop_11 (rv_st_2 rfl) ?_
  refine rv_aload_n hX dX1_drop_12 rfl ?_
  refine rv_getfR hX gX1_21_X1 (hS.mc (k := 0) rfl) rfl dX1_drop_13 ?_
  refine rv_invVR hX iX1_117 mdX2_copy (hS.f w1) ⟨TX2, 12, rv_c1⟩ (x_copy hG (d := d - 1) (by omega) w1 a1 a2 a3 a4 a5 a6 e1 e2 e3 e4 e5 e6 (by omega) (by omega) (hS.cpre0 [0] 0 rfl rfl rfl)) (by omega) rfl rfl (Nat.le_of_ble_eq_true rfl) dX1_drop_16 (fun v h' hq => ?_) (fun E h' hq => by first | exact hq.elim | cases hq.2 | cases hq.1)
  obtain ⟨nx, rel1, ta1, ru1, de1, fi1, sk1, N1, N2, N3, N4, N5, N6, hu, ⟨hN1, hN2, hN3, hN4, hN5, hN6⟩, hQ⟩ := hq
  have hS := hS.cpost0 [0] 0 rfl rfl rfl hQ
  cases hu
  have hS : xS X.1 F _ [xo] ([[(xo, cO 0 [.ref wd, dv, .ref bg, rv, rw1, lv, .int lf])], [(nx, cW rel1 ta1 st tg (nI s.w.g) ru1 de1 (nI s.w.nr) (nI s.w.nd) fi1 sk1 (nI s.w.now))], N1, N2, N3, N4, N6, N5].flatten) _ _ _ := hS.perm (by simp [xRe, xRa])
  have hl9 := hN3.rd hG hS.1 (xflat_mem (j := 4) rfl)
  obtain ⟨m9, e9, c9, f9, l9, -⟩ := id hl9
  refine rv_astore_n hX dX1_drop_19 (rv_st_3 rfl) ?_
  refine rv_aload_n hX dX1_drop_20 rfl ?_
  refine rv_getfR hX gX1_274_X2 (hS.mc (k := 1) rfl) rfl dX1_drop_21 ?_
  refine rv_aload_n hX dX1_drop_24 rfl ?_
  refine rv_invVR hX iX1_284 mdJ2_remove_2 l9 ⟨TJ2, 3, rv_c17⟩ (j_removeO hG (d := d - 1) (by omega) q795 ⟨_, _, rv_c9⟩ hc1 hN3 he hfirst e3.2 (hS.pick (j := 4) rfl).1) (by omega) rfl rfl (Nat.le_of_ble_eq_true rfl) dX1_drop_25 (fun v h' hq => ?_) (fun E h' hq => by first | exact hq.elim | cases hq.2 | cases hq.1)
  obtain ⟨N3', hu, hN3', hQ⟩ := hq
  cases hu
  have hS := (hS.pick (j := 4) rfl).2 _ _ _ _ hQ
  refine rv_pop hX dX1_drop_28 rfl ?_
  refine rv_aload_n hX dX1_drop_29 rfl ?_
  refine rv_aload_n hX dX1_drop_30 rfl ?_
  refine rv_invVR hX iX1_130 mdX1_become (hS.mc (k := 0) rfl) ⟨TX1, 7, rv_c0⟩ (x_becomeW hG hLK (w := s.w.setR (s.w.R.eraseIdx j) s.w.nr) (d := d - 1) (by omega) hwP (by omega) (Nat.le_succ_of_le hT60) ⟨hN1, hN2, hN3', hN4, hN5, hN6⟩ ⟨b1, b2, b3.erase, b4, b5, b6⟩ w4 w5 w9 (by omega) (by omega) (hS.cpre0 [] 1 rfl rfl rfl)) (by omega) rfl rfl (Nat.le_of_ble_eq_true rfl) dX1_drop_31 (fun v h' hq => ?_) (fun E h' hq => by exact rv_out hX hE (fun x hx => by cases hx) (xOq.thr (i := 1) (by rw [ho]; unfold wS.step; rw [hq.2.1]; exact ⟨rfl, rfl⟩) (by rw [hq.1]; rfl) hSt (hS0.unf0 (hS.cpost0 [] 1 rfl rfl rfl hq.2.2)) (by omega) (by omega)))
  obtain ⟨w', Zs, hst9, hu, hnx, hxw, hQ⟩ := hq
  have hS := hS.cpost0 [] 1 rfl rfl rfl hQ
  cases hu
  refine rv_ireturn hX hE rfl ?_ dX1_drop_34
  obtain ⟨F9, -, hw9⟩ := wW.stl_spec hst9
  rw [ho]
  exact xOq.step .rf hst9 (hnew _ (fun _ _ q => q) nx w' Zs _ _ _ _ _ (hS0.unf0 hS) hnx hxw (by rw [hw9]; exact hDr)) (by omega) (by omega)
theorem x_dropDeed {G : rv_G} (hG : rv_GK G) {d xo n m N : Nat} {s : wS} {M : xM} {k : Int32} {F : xF} {h : rv_H} (hd : 70 ≤ d) (hN : N ≤ 24) (hSt : xSt G F xo s M) (hw : wfS N s) (hn : 40000 ≤ n) (hm : 200000 ≤ m) (hH : xH G F M n m h) : rv_Call G d yX1_dropDeed wX1_dropDeed [.ref xo, .int k] h (xOq G F xo (xad M) n m h [RJ19] false (o_dropDeed s k)) := by
  refine rv_start hG (by decide +kernel) (L := [some (.ref xo), some (.int k), none, none]) rfl (Nat.le_of_ble_eq_true rfl) (fun X hX1 hX hE => ?_)
  subst hX1
  obtain ⟨wd, bg, dv, rv, rw1, lv, lf, Nb, Nd, rfl, hW, hDr, hnew⟩ := hSt.world
  have hS0 : xS X.1 F h (xo :: xad (Nb ++ Nd)) ([(xo, cO 0 [.ref wd, dv, .ref bg, rv, rw1, lv, .int lf])] ++ (Nb ++ Nd)) n m h := hH.start
  have hS : xS X.1 F h [xo] [(xo, cO 0 [.ref wd, dv, .ref bg, rv, rw1, lv, .int lf])] n m h := hS0.foc
  obtain ⟨rel, ta, st, tg, ru, de, fi, sk, tf, r, ps, es1, es2, es3, es4, es5, es6, w1, ⟨a1, a2, a3, a4, a5, a6⟩, ⟨b1, b2, b3, b4, b5, b6⟩, ⟨e1, e2, e3, e4, e5, e6⟩, w4, w5, w9⟩ := hW.parts hw.1 hN
  have hT60 := hw.1.b6.1
  refine rv_aload_n hX dX1_dropDeed_0 rfl ?_
  refine rv_getfR hX gX1_21_X1 (hS.mc (k := 0) rfl) rfl dX1_dropDeed_1 ?_
  refine rv_getfR hX gX1_268_X2 (hS.f w1) rfl dX1_dropDeed_4 ?_
  refine rv_iload_n hX dX1_dropDeed_7 rfl ?_
  refine rv_invS hX iX1_280 mdX1_find (x_find hG (d := d - 1) (by omega) a4 b4 (by omega) (by omega) (hS.cpre0 [] 0 rfl rfl rfl)) (by omega) rfl rfl (Nat.le_of_ble_eq_true rfl) dX1_dropDeed_8 (fun v h' hq => ?_) (fun E h' hq => by exact rv_out hX hE (fun x hx => by cases hx) (xOq.thr (i := 0) (by unfold o_dropDeed; rw [hq.2.1]; exact ⟨rfl, rfl⟩) (by rw [hq.1]; rfl) hSt (hS0.unf0 (hS.cpost0 [] 0 rfl rfl rfl hq.2.2)) (by omega) (by omega)))
  obtain ⟨⟨j, C, e, hfd, hC, he, hnum, hfst, hu⟩, rfl⟩ := hq
  cases hu
  have ho : o_dropDeed s k = (0, nI (s.w.D.eraseIdx j).length, s.setw (s.w.setD (s.w.D.eraseIdx j) s.w.nd)) := by unfold o_dropDeed; rw [hfd]
  have hCl := b4.2 j e C he hC
  have hCl' := hCl
  obtain ⟨c1, c2, c3, c4, c5, c6, hc1, -⟩ := hCl'
  have hfirst : ∀ i e', i < j → es4[i]? = some e' → e' ≠ e := fun i e' hi he' q => by
    subst q
    have hil := (List.getElem?_eq_some_iff.mp he').1
    have hiR : i < s.w.D.length := by rw [← b4.1]; exact hil
    have hCi : s.w.D[i]? = some s.w.D[i] := List.getElem?_eq_getElem hiR
    exact hfst i _ hi hCi ((xCl.num hS.1 (b4.2 i _ _ he' hCi) hCl).trans hnum)
  refine rv_astore_n hX dX1_dropDeed_11 (rv_st_2 rfl) ?_
  refine rv_aload_n hX dX1_dropDeed_12 rfl ?_
  refine rv_getfR hX gX1_21_X1 (hS.mc (k := 0) rfl) rfl dX1_dropDeed_13 ?_
  refine rv_invVR hX iX1_117 mdX2_copy (hS.f w1) ⟨TX2, 12, rv_c1⟩ (x_copy hG (d := d - 1) (by omega) w1 a1 a2 a3 a4 a5 a6 e1 e2 e3 e4 e5 e6 (by omega) (by omega) (hS.cpre0 [0] 0 rfl rfl rfl)) (by omega) rfl rfl (Nat.le_of_ble_eq_true rfl) dX1_dropDeed_16 (fun v h' hq => ?_) (fun E h' hq => by first | exact hq.elim | cases hq.2 | cases hq.1)
  obtain ⟨nx, rel1, ta1, ru1, de1, fi1, sk1, N1, N2, N3, N4, N5, N6, hu, ⟨hN1, hN2, hN3, hN4, hN5, hN6⟩, hQ⟩ := hq
  have hS := hS.cpost0 [0] 0 rfl rfl rfl hQ
  cases hu
  have hS : xS X.1 F _ [xo] ([[(xo, cO 0 [.ref wd, dv, .ref bg, rv, rw1, lv, .int lf])], [(nx, cW rel1 ta1 st tg (nI s.w.g) ru1 de1 (nI s.w.nr) (nI s.w.nd) fi1 sk1 (nI s.w.now))], N1, N2, N3, N4, N6, N5].flatten) _ _ _ := hS.perm (by simp [xRe, xRa])
  have hl9 := hN4.rd hG hS.1 (xflat_mem (j := 5) rfl)
  obtain ⟨m9, e9, c9, f9, l9, -⟩ := id hl9
  refine rv_astore_n hX dX1_dropDeed_19 (rv_st_3 rfl) ?_
  refine rv_aload_n hX dX1_dropDeed_20 rfl ?_
  refine rv_getfR hX gX1_268_X2 (hS.mc (k := 1) rfl) rfl dX1_dropDeed_21 ?_
  refine rv_aload_n hX dX1_dropDeed_24 rfl ?_
  refine rv_invVR hX iX1_284 mdJ2_remove_2 l9 ⟨TJ2, 3, rv_c17⟩ (j_removeO hG (d := d - 1) (by omega) q795 ⟨_, _, rv_c9⟩ hc1 hN4 he hfirst e4.2 (hS.pick (j := 5) rfl).1) (by omega) rfl rfl (Nat.le_of_ble_eq_true rfl) dX1_dropDeed_25 (fun v h' hq => ?_) (fun E h' hq => by first | exact hq.elim | cases hq.2 | cases hq.1)
  obtain ⟨N4', hu, hN4', hQ⟩ := hq
  cases hu
  have hS := (hS.pick (j := 5) rfl).2 _ _ _ _ hQ
  refine rv_pop hX dX1_dropDeed_28 rfl ?_
  refine rv_aload_n hX dX1_dropDeed_29 rfl ?_
  refine rv_aload_n hX dX1_dropDeed_30 rfl ?_
  refine xv_putf hX hS (k := 0) rfl pX1_21_X1 (fun q => by cases q) rfl rfl rfl dX1_dropDeed_31 (fun h_31 hS => ?_)
  have hS : xS X.1 F _ [xo] ([[(xo, cO 0 [.ref nx, dv, .ref bg, rv, rw1, lv, .int lf])], [(nx, cW rel1 ta1 st tg (nI s.w.g) ru1 de1 (nI s.w.nr) (nI s.w.nd) fi1 sk1 (nI s.w.now))], N1, N2, N3, N4', N6, N5].flatten) _ _ _ := hS
  have hl10 := hN4'.rd hG hS.1 (xflat_mem (j := 5) rfl)
  obtain ⟨m10, e10, c10, f10, l10, -⟩ := id hl10
  refine rv_aload_n hX dX1_dropDeed_34 rfl ?_
  refine rv_getfR hX gX1_268_X2 (hS.mc (k := 1) rfl) rfl dX1_dropDeed_35 ?_
  refine rv_invVR hX iX1_58 mdJ2_size l10 ⟨TJ2, 3, rv_c17⟩ (j_size hG (d := d - 1) hl10.L) (by omega) rfl rfl (Nat.le_of_ble_eq_true rfl) dX1_dropDeed_38 (fun v h' hq => ?_) (fun E h' hq => by first | exact hq.elim | cases hq.2 | cases hq.1)
  obtain ⟨rfl, hq⟩ := hq
  cases hq
  rw [show (es4.eraseIdx j).length = (s.w.D.eraseIdx j).length from by rw [List.length_eraseIdx, List.length_eraseIdx, b4.1]]
  refine rv_ireturn hX hE rfl ?_ dX1_dropDeed_41
  obtain ⟨F1, k1, k2, k3⟩ := hnew _ (fun _ _ q => q) nx (s.w.setD (s.w.D.eraseIdx j) s.w.nd) ([[(nx, cW rel1 ta1 st tg (nI s.w.g) ru1 de1 (nI s.w.nr) (nI s.w.nd) fi1 sk1 (nI s.w.now))], N1, N2, N3, N4', N6, N5].flatten) _ _ _ _ _ (hS0.unf0 hS) (List.Mem.head _) (fun F1 hmn hZ hb => xW.pub hG (w := s.w.setD (s.w.D.eraseIdx j) s.w.nd) (fun q hq => hq) hZ hb ⟨hN1, hN2, hN3, hN4', hN5, hN6⟩ ⟨b1.mono (fun _ _ q => q), b2.mono (fun _ _ q => q.mono hmn), b3.mono (fun _ _ q => q.mono hmn), (b4.mono (fun _ _ q => q.mono hmn)).erase, b5.mono (fun _ _ q => q.mono hmn), b6.mono (fun _ _ q => q)⟩ (w4.mono2 hmn) ⟨hmn _ _ w5.1, w5.2⟩ w9) hDr
  refine ⟨F1, _, k1, ?_, k3.bud (by omega) (by omega), by rw [ho], by rw [ho]; rfl⟩
  rw [ho]
  exact k2
