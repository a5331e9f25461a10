/-! THE SYSTEM: the focus -/
set_option maxRecDepth 100000
theorem i32_lt4 {k : Int32} (h : ¬ nI 4 ≤ k) : k ≤ nI 3 := by
  rw [Int32.le_iff_toInt_le] at h ⊢
  rw [show (nI 4).toInt = 4 from by decide] at h
  rw [show (nI 3).toInt = 3 from by decide]
  omega
theorem x_focus {G : rv_G} (hG : rv_GK G) {d xo n m N : Nat} {s : wS} {M : xM} {k : Int32} {F : xF} {h : rv_H} (hd : 12 ≤ d) (hN : N ≤ 24) (hSt : xSt G F xo s M) (hw : wfS N s) (hn : 40000 ≤ n) (hm : 200000 ≤ m) (hH : xH G F M n m h) : rv_Call G d yX1_focus wX1_focus [.ref xo, .int k] h (xOq G F xo (xad M) n m h [RJ6, RJ18] false (o_focus s k)) := by
  refine rv_start hG (by decide +kernel) (L := [some (.ref xo), some (.int k), none]) rfl (Nat.le_of_ble_eq_true rfl) (fun X hX1 hX hE => ?_)
  subst hX1
  obtain ⟨wd, bg, dv, rv, rw1, lv, lf, Nb, Nd, rfl, hW, hDr, hnew⟩ := hSt.world
  have hS0 : xS X.1 F h (xo :: xad (Nb ++ Nd)) ([(xo, cO 0 [.ref wd, dv, .ref bg, rv, rw1, lv, .int lf])] ++ (Nb ++ Nd)) n m h := hH.start
  have hS : xS X.1 F h [xo] [(xo, cO 0 [.ref wd, dv, .ref bg, rv, rw1, lv, .int lf])] n m h := hS0.foc
  obtain ⟨rel, ta, st, tg, ru, de, fi, sk, tf, r, ps, es1, es2, es3, es4, es5, es6, w1, ⟨a1, a2, a3, a4, a5, a6⟩, ⟨b1, b2, b3, b4, b5, b6⟩, ⟨e1, e2, e3, e4, e5, e6⟩, w4, w5, w9⟩ := hW.parts hw.1 hN
  obtain ⟨lm, led, lcap, lf9, l1, l2⟩ := id a6
  have hK8 := hw.1.K
  by_cases hrng : w_rng 0 3 k
  · obtain ⟨j, -, hj3, rfl, hjc⟩ := w_rng_nat (by decide) (by decide) hrng
    by_cases h8 : s.w.K.length = 8
    · have ho : o_focus s (nI j) = (2, 0, s) := by
        unfold o_focus
        rw [if_neg (fun q => q hrng), if_pos h8]
      refine rv_iload_n hX dX1_focus_0 rfl ?_
      refine rv_if_lt hX 13 dX1_focus_1 (by decide) (fun q => absurd q (nI_pos (by omega))) (fun c_1 => ?_)
      refine rv_iload_n hX dX1_focus_4 rfl ?_
      refine nv_iconst hX (m := 4) (by decide) dX1_focus_5 ?_
      refine nv_icmp_ge hX 13 (by omega) (by omega) dX1_focus_6 (by decide) (fun q => absurd q (by omega)) (fun c_6 => ?_)
      refine nv_iconst hX (m := 1) (by decide) dX1_focus_9 ?_
      refine rv_goto hX 14 dX1_focus_10 (by decide) ?_
      refine rv_invS hX iX1_85 mdX1_checkArgument (x_checkArgument hG (b := true) (d := d - 1) (by omega) (by omega) (by omega) (hS.cpre0 [] 0 rfl rfl rfl)) (by omega) rfl rfl (Nat.le_of_ble_eq_true rfl) dX1_focus_14 (fun v h' hq => ?_) (fun E h' hq => by exact absurd hq.2.1 (by decide))
      obtain ⟨-, rfl, rfl⟩ := hq
      refine rv_aload_n hX dX1_focus_17 rfl ?_
      refine rv_getfR hX gX1_21_X1 (hS.mc (k := 0) rfl) rfl dX1_focus_18 ?_
      refine rv_getfR hX gX1_34_X2 (hS.f w1) rfl dX1_focus_21 ?_
      refine rv_invVR hX iX1_58 mdJ2_size (hS.f l1) ⟨TJ2, 3, rv_c17⟩ (j_size hG (d := d - 1) (a6.mono (fun _ _ => hS.f)).L) (by omega) rfl rfl (Nat.le_of_ble_eq_true rfl) dX1_focus_24 (fun v h' hq => ?_) (fun E h' hq => by first | exact hq.elim | cases hq.2 | cases hq.1)
      obtain ⟨rfl, hq⟩ := hq
      cases hq
      rw [b6.1]
      refine nv_bipush hX (m := 8) (by decide) dX1_focus_27 ?_
      refine nv_icmp_ge hX 36 (by omega) (by omega) dX1_focus_29 (by decide) (fun c_29 => ?_) (fun q => absurd q (by omega))
      refine nv_iconst hX (m := 0) (by decide) dX1_focus_36 ?_
      refine rv_invS hX iX1_114 mdX1_checkState (x_checkState hG (b := false) (d := d - 1) (by omega) (by omega) (by omega) (hS.cpre0 [] 0 rfl rfl rfl)) (by omega) rfl rfl (Nat.le_of_ble_eq_true rfl) dX1_focus_37 (fun v h' hq => ?_) (fun E h' hq => by exact rv_out hX hE (fun x hx => by cases hx) (xOq.thr (i := 1) (by rw [ho]; exact ⟨rfl, rfl⟩) (by rw [hq.1]; rfl) hSt (hS0.unf0 (hS.cpost0 [] 0 rfl rfl rfl hq.2.2)) (by omega) (by omega)))
      obtain ⟨hb, rfl, rfl⟩ := hq
      exact absurd hb (by decide)
    · have ho : o_focus s (nI j) = (0, nI (s.w.K.length + 1), s.setw (s.w.setK (s.w.K ++ [j]))) := by
        unfold o_focus
        rw [if_neg (fun q => q hrng), if_neg h8, nI_clamp (by omega)]
      refine rv_iload_n hX dX1_focus_0 rfl ?_
      refine rv_if_lt hX 13 dX1_focus_1 (by decide) (fun q => absurd q (nI_pos (by omega))) (fun c_1 => ?_)
      refine rv_iload_n hX dX1_focus_4 rfl ?_
      refine nv_iconst hX (m := 4) (by decide) dX1_focus_5 ?_
      refine nv_icmp_ge hX 13 (by omega) (by omega) dX1_focus_6 (by decide) (fun q => absurd q (by omega)) (fun c_6 => ?_)
      refine nv_iconst hX (m := 1) (by decide) dX1_focus_9 ?_
      refine rv_goto hX 14 dX1_focus_10 (by decide) ?_
      refine rv_invS hX iX1_85 mdX1_checkArgument (x_checkArgument hG (b := true) (d := d - 1) (by omega) (by omega) (by omega) (hS.cpre0 [] 0 rfl rfl rfl)) (by omega) rfl rfl (Nat.le_of_ble_eq_true rfl) dX1_focus_14 (fun v h' hq => ?_) (fun E h' hq => by exact absurd hq.2.1 (by decide))
      obtain ⟨-, rfl, rfl⟩ := hq
      refine rv_aload_n hX dX1_focus_17 rfl ?_
      refine rv_getfR hX gX1_21_X1 (hS.mc (k := 0) rfl) rfl dX1_focus_18 ?_
      refine rv_getfR hX gX1_34_X2 (hS.f w1) rfl dX1_focus_21 ?_
      refine rv_invVR hX iX1_58 mdJ2_size (hS.f l1) ⟨TJ2, 3, rv_c17⟩ (j_size hG (d := d - 1) (a6.mono (fun _ _ => hS.f)).L) (by omega) rfl rfl (Nat.le_of_ble_eq_true rfl) dX1_focus_24 (fun v h' hq => ?_) (fun E h' hq => by first | exact hq.elim | cases hq.2 | cases hq.1)
      obtain ⟨rfl, hq⟩ := hq
      cases hq
      rw [b6.1]
      refine nv_bipush hX (m := 8) (by decide) dX1_focus_27 ?_
      refine nv_icmp_ge hX 36 (by omega) (by omega) dX1_focus_29 (by decide) (fun q => absurd q (by omega)) (fun c_29 => ?_)
      refine nv_iconst hX (m := 1) (by decide) dX1_focus_32 ?_
      refine rv_goto hX 37 dX1_focus_33 (by decide) ?_
      refine rv_invS hX iX1_114 mdX1_checkState (x_checkState hG (b := true) (d := d - 1) (by omega) (by omega) (by omega) (hS.cpre0 [] 0 rfl rfl rfl)) (by omega) rfl rfl (Nat.le_of_ble_eq_true rfl) dX1_focus_37 (fun v h' hq => ?_) (fun E h' hq => by exact absurd hq.2.1 (by decide))
      obtain ⟨-, rfl, rfl⟩ := hq
      refine rv_aload_n hX dX1_focus_40 rfl ?_
      refine rv_getfR hX gX1_21_X1 (hS.mc (k := 0) rfl) rfl dX1_focus_41 ?_
      refine rv_invVR hX iX1_117 mdX2_copy (hS.f w1) ⟨TX2, 12, rv_c1⟩ (x_copy hG (d := d - 1) (by omega) w1 a1 a2 a3 a4 a5 a6 e1 e2 e3 e4 e5 e6 (by omega) (by omega) (hS.cpre0 [0] 0 rfl rfl rfl)) (by omega) rfl rfl (Nat.le_of_ble_eq_true rfl) dX1_focus_44 (fun v h' hq => ?_) (fun E h' hq => by first | exact hq.elim | cases hq.2 | cases hq.1)
      obtain ⟨nx, rel1, ta1, ru1, de1, fi1, sk1, N1, N2, N3, N4, N5, N6, hu, ⟨hN1, hN2, hN3, hN4, hN5, hN6⟩, hQ⟩ := hq
      have hS := hS.cpost0 [0] 0 rfl rfl rfl hQ
      cases hu
      have hS : xS X.1 F _ [xo] ([[(xo, cO 0 [.ref wd, dv, .ref bg, rv, rw1, lv, .int lf])], [(nx, cW rel1 ta1 st tg (nI s.w.g) ru1 de1 (nI s.w.nr) (nI s.w.nd) fi1 sk1 (nI s.w.now))], N1, N2, N3, N4, N6, N5].flatten) _ _ _ := hS.perm (by simp [xRe, xRa])
      have hl9 := hN6.rd hG hS.1 (xflat_mem (j := 6) rfl)
      obtain ⟨m9, e9, c9, f9, l9, -⟩ := id hl9
      refine rv_astore_n hX dX1_focus_47 (rv_st_2 rfl) ?_
      refine rv_aload_n hX dX1_focus_48 rfl ?_
      refine rv_getfR hX gX1_34_X2 (hS.mc (k := 1) rfl) rfl dX1_focus_49 ?_
      refine rv_iload_n hX dX1_focus_52 rfl ?_
      refine rv_invS hX iX1_37 mdJ17_valueOf (j_valueOf hG (n := j) (d := d - 1) (by omega)) (by omega) rfl rfl (Nat.le_of_ble_eq_true rfl) dX1_focus_53 (fun v h' hq => ?_) (fun E h' hq => by obtain ⟨-, _, e, -⟩ := hq; cases e)
      obtain ⟨rfl, a9, hu, hbx⟩ := hq
      cases hu
      refine rv_invVR hX iX1_42 mdJ2_add l9 ⟨TJ2, 3, rv_c17⟩ (j_addG hG (d := d - 1) (by omega) hN6 (by omega) (xlel_of e6.2 hS.1) ((xElm.bx hbx).el hS.1) ((xElm.bx hbx).ne (hS.pick (j := 6) rfl).1) (fun e he => (e6.2 e he).ne (hS.pick (j := 6) rfl).1) (by omega) (by omega) (hS.pick (j := 6) rfl).1) (by omega) rfl rfl (Nat.le_of_ble_eq_true rfl) dX1_focus_56 (fun v h' hq => ?_) (fun E h' hq => by first | exact hq.elim | cases hq.2 | cases hq.1)
      obtain ⟨N6', hu, hN6', hQ⟩ := hq
      cases hu
      have hS := (hS.pick (j := 6) rfl).2 _ _ _ _ hQ
      refine rv_pop hX dX1_focus_59 rfl ?_
      refine rv_aload_n hX dX1_focus_60 rfl ?_
      refine rv_aload_n hX dX1_focus_61 rfl ?_
      refine xv_putf hX hS (k := 0) rfl pX1_21_X1 (fun q => by cases q) rfl rfl rfl dX1_focus_62 (fun h_62 hS => ?_)
      have hS : xS X.1 F _ [xo] ([[(xo, cO 0 [.ref nx, dv, .ref bg, rv, rw1, lv, .int lf])], [(nx, cW rel1 ta1 st tg (nI s.w.g) ru1 de1 (nI s.w.nr) (nI s.w.nd) fi1 sk1 (nI s.w.now))], N1, N2, N3, N4, N6', N5].flatten) _ _ _ := hS
      have hl10 := hN6'.rd hG hS.1 (xflat_mem (j := 6) rfl)
      obtain ⟨m10, e10, c10, f10, l10, -⟩ := id hl10
      refine rv_aload_n hX dX1_focus_65 rfl ?_
      refine rv_getfR hX gX1_34_X2 (hS.mc (k := 1) rfl) rfl dX1_focus_66 ?_
      refine rv_invVR hX iX1_58 mdJ2_size l10 ⟨TJ2, 3, rv_c17⟩ (j_size hG (d := d - 1) hl10.L) (by omega) rfl rfl (Nat.le_of_ble_eq_true rfl) dX1_focus_69 (fun v h' hq => ?_) (fun E h' hq => by first | exact hq.elim | cases hq.2 | cases hq.1)
      obtain ⟨rfl, hq⟩ := hq
      cases hq
      rw [List.length_append, List.length_singleton, b6.1]
      refine rv_ireturn hX hE rfl ?_ dX1_focus_72
      obtain ⟨F1, k1, k2, k3⟩ := hnew _ (fun _ _ q => q) nx (s.w.setK (s.w.K ++ [j])) ([[(nx, cW rel1 ta1 st tg (nI s.w.g) ru1 de1 (nI s.w.nr) (nI s.w.nd) fi1 sk1 (nI s.w.now))], N1, N2, N3, N4, N6', N5].flatten) _ _ _ _ _ (hS0.unf0 hS) (List.Mem.head _) (fun F1 hmn hZ hb => xW.pub hG (w := s.w.setK (s.w.K ++ [j])) (fun q hq => hq) hZ hb ⟨hN1, hN2, hN3, hN4, hN5, hN6'⟩ ⟨b1.mono (fun _ _ q => q), b2.mono (fun _ _ q => q.mono hmn), b3.mono (fun _ _ q => q.mono hmn), b4.mono (fun _ _ q => q.mono hmn), b5.mono (fun _ _ q => q.mono hmn), (b6.mono (fun _ _ q => q)).snoc hbx⟩ (w4.mono2 hmn) ⟨hmn _ _ w5.1, w5.2⟩ w9) hDr
      refine ⟨F1, _, k1, ?_, k3.bud (by omega) (by omega), by rw [ho], ?_⟩
      · rw [ho]
        exact k2
      · rw [ho]
        rfl
  · have ho : o_focus s k = (1, 0, s) := by
      unfold o_focus
      rw [if_pos hrng]
    refine rv_iload_n hX dX1_focus_0 rfl ?_
    refine rv_if_lt hX 13 dX1_focus_1 (by decide) (fun c_1 => ?_) (fun c_1 => ?_)
    · skip
      refine nv_iconst hX (m := 0) (by decide) dX1_focus_13 ?_
      refine rv_invS hX iX1_85 mdX1_checkArgument (x_checkArgument hG (b := false) (d := d - 1) (by omega) (by omega) (by omega) (hS.cpre0 [] 0 rfl rfl rfl)) (by omega) rfl rfl (Nat.le_of_ble_eq_true rfl) dX1_focus_14 (fun v h' hq => ?_) (fun E h' hq => by exact rv_out hX hE (fun x hx => by cases hx) (xOq.thr (i := 0) (by rw [ho]; exact ⟨rfl, rfl⟩) (by rw [hq.1]; rfl) hSt (hS0.unf0 (hS.cpost0 [] 0 rfl rfl rfl hq.2.2)) (by omega) (by omega)))
      obtain ⟨hb, rfl, rfl⟩ := hq
      exact absurd hb (by decide)
    · skip
      refine rv_iload_n hX dX1_focus_4 rfl ?_
      refine nv_iconst hX (m := 4) (by decide) dX1_focus_5 ?_
      first | refine nv_icmp_ge hX 13 (by omega) (by omega) dX1_focus_6 (by decide) (fun c_6 => ?_) (fun c_6 => ?_) | refine rv_icmp_ge hX 13 dX1_focus_6 (by decide) (fun c_6 => ?_) (fun c_6 => ?_)
      · skip
        refine nv_iconst hX (m := 0) (by decide) dX1_focus_13 ?_
        refine rv_invS hX iX1_85 mdX1_checkArgument (x_checkArgument hG (b := false) (d := d - 1) (by omega) (by omega) (by omega) (hS.cpre0 [] 0 rfl rfl rfl)) (by omega) rfl rfl (Nat.le_of_ble_eq_true rfl) dX1_focus_14 (fun v h' hq => ?_) (fun E h' hq => by exact rv_out hX hE (fun x hx => by cases hx) (xOq.thr (i := 0) (by rw [ho]; exact ⟨rfl, rfl⟩) (by rw [hq.1]; rfl) hSt (hS0.unf0 (hS.cpost0 [] 0 rfl rfl rfl hq.2.2)) (by omega) (by omega)))
        obtain ⟨hb, rfl, rfl⟩ := hq
        exact absurd hb (by decide)
      · skip
        exact absurd ⟨Int32.not_lt.mp c_1, i32_lt4 c_6⟩ hrng --done
