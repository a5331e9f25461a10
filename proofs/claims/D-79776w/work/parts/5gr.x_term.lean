/-! THE SYSTEM: terms typed -/
set_option maxRecDepth 100000
theorem x_latest {G : rv_G} (hG : rv_GK G) {d cl hi bo i0 : Nat} (hd : 3 ≤ d) {a0 a2 a3 a5 a6 a7 a8 : Value} {es : List Nat} {fs : List Value} {h : rv_H} (h1 : rv_rd G h cl (cO 9 [a0, .ref hi, a2, a3, .ref bo, a5, a6, a7, a8])) (hL : xLs G (rv_rd G h) bo es) (hi0 : es.length = 0 ∧ i0 = hi ∨ es.length ≠ 0 ∧ es[es.length - 1]? = some i0 ∧ rv_rd G h i0 (cO 10 fs)) : rv_Call G d yX10_latest wX10_latest [.ref cl] h (xN (fun u h' => h' = h ∧ u = some (.ref i0))) := by
  refine rv_start hG (by decide +kernel) (L := [some (.ref cl)]) rfl (Nat.le_of_ble_eq_true rfl) (fun X hX1 hX hE => ?_)
  subst hX1
  obtain ⟨lm, led, lcap, lf, l1, l2⟩ := id hL
  have hlen := hL.len
  rcases hi0 with ⟨e0, rfl⟩ | ⟨e0, e1, e2⟩
  · skip
    refine rv_aload_n hX dX10_latest_0 rfl ?_
    refine rv_getfR hX gX10_20_X10 h1 rfl dX10_latest_1 ?_
    refine rv_invVR hX iX10_41 mdJ2_isEmpty l1 ⟨TJ2, 3, rv_c17⟩ (j_isEmpty hG (d := d - 1) hL.L) (by omega) rfl rfl (Nat.le_of_ble_eq_true rfl) dX10_latest_4 (fun v h' hq => ?_) (fun E h' hq => by first | exact hq.elim | cases hq.2 | cases hq.1)
    obtain ⟨rfl, hq⟩ := hq
    cases hq
    rw [decide_eq_true e0]
    refine rv_if_eq hX 17 dX10_latest_7 (by decide) (fun q => absurd q (by decide)) (fun c_7 => ?_)
    refine rv_aload_n hX dX10_latest_10 rfl ?_
    refine rv_getfR hX gX10_24_X10 h1 rfl dX10_latest_11 ?_
    refine rv_goto hX 36 dX10_latest_14 (by decide) ?_
    refine rv_areturn hX hE (Or.inl ⟨_, rfl⟩) (Or.inr ⟨_, rfl⟩) ?_ dX10_latest_36
    exact ⟨rfl, rfl⟩
  · skip
    refine rv_aload_n hX dX10_latest_0 rfl ?_
    refine rv_getfR hX gX10_20_X10 h1 rfl dX10_latest_1 ?_
    refine rv_invVR hX iX10_41 mdJ2_isEmpty l1 ⟨TJ2, 3, rv_c17⟩ (j_isEmpty hG (d := d - 1) hL.L) (by omega) rfl rfl (Nat.le_of_ble_eq_true rfl) dX10_latest_4 (fun v h' hq => ?_) (fun E h' hq => by first | exact hq.elim | cases hq.2 | cases hq.1)
    obtain ⟨rfl, hq⟩ := hq
    cases hq
    rw [decide_eq_false e0]
    refine rv_if_eq hX 17 dX10_latest_7 (by decide) (fun c_7 => ?_) (fun q => absurd rfl q)
    refine rv_aload_n hX dX10_latest_17 rfl ?_
    refine rv_getfR hX gX10_20_X10 h1 rfl dX10_latest_18 ?_
    refine rv_aload_n hX dX10_latest_21 rfl ?_
    refine rv_getfR hX gX10_20_X10 h1 rfl dX10_latest_22 ?_
    refine rv_invVR hX iX10_45 mdJ2_size l1 ⟨TJ2, 3, rv_c17⟩ (j_size hG (d := d - 1) hL.L) (by omega) rfl rfl (Nat.le_of_ble_eq_true rfl) dX10_latest_25 (fun v h' hq => ?_) (fun E h' hq => by first | exact hq.elim | cases hq.2 | cases hq.1)
    obtain ⟨rfl, hq⟩ := hq
    cases hq
    refine nv_iconst hX (m := 1) (by decide) dX10_latest_28 ?_
    first | refine nv_isub hX (by omega) dX10_latest_29 ?_ | refine rv_isub hX dX10_latest_29 ?_
    refine rv_invVR hX iX10_49 mdJ2_get l1 ⟨TJ2, 3, rv_c17⟩ (j_get hG (d := d - 1) (by omega) hL.L e1) (by omega) rfl rfl (Nat.le_of_ble_eq_true rfl) dX10_latest_30 (fun v h' hq => ?_) (fun E h' hq => by first | exact hq.elim | cases hq.2 | cases hq.1)
    obtain ⟨rfl, hq⟩ := hq
    cases hq
    refine rv_castOR hX e2 rv_c10 q949 dX10_latest_33 ?_
    refine rv_areturn hX hE (Or.inl ⟨_, rfl⟩) (Or.inr ⟨_, rfl⟩) ?_ dX10_latest_36
    exact ⟨rfl, rfl⟩
theorem x_addN {G : rv_G} (hG : rv_GK G) {d xo wd bg n m : Nat} {rv rw1 lv : Value} {lf t : Int32} (hd : 8 ≤ d) {F : xF} {h : rv_H} (hn : 1 ≤ n) (hm : 6 ≤ m) (hH : xH G F [(xo, cO 0 [.ref wd, .null, .ref bg, rv, rw1, lv, .int lf])] n m h) : rv_Call G d yX1_add wX1_add [.ref xo, .int t] h (xT (fun _ _ => False) (fun E h' => E = RJ18 ∧ xS G F h [xo] [(xo, cO 0 [.ref wd, .null, .ref bg, rv, rw1, lv, .int lf])] (n - 1) (m - 6) h')) := by
  refine rv_start hG (by decide +kernel) (L := [some (.ref xo), some (.int t), none]) rfl (Nat.le_of_ble_eq_true rfl) (fun X hX1 hX hE => ?_)
  subst hX1
  have hS := hH.start
  refine rv_aload_n hX dX1_add_0 rfl ?_
  refine rv_getfR hX gX1_162_X1 (hS.mc (k := 0) rfl) rfl dX1_add_1 ?_
  refine rv_ifnullN hX 24 dX1_add_4 (by decide) ?_
  refine nv_iconst hX (m := 0) (by decide) dX1_add_24 ?_
  refine rv_invS hX iX1_114 mdX1_checkState (x_checkState hG (b := false) (d := d - 1) (by omega) (by omega) (by omega) (hS.cpre0 [] 0 rfl rfl rfl)) (by omega) rfl rfl (Nat.le_of_ble_eq_true rfl) dX1_add_25 (fun v h' hq => ?_) (fun E h' hq => by exact rv_out hX hE (fun x hx => by cases hx) ⟨hq.1, hS.cpost0 [] 0 rfl rfl rfl hq.2.2⟩)
  obtain ⟨hb, rfl, rfl⟩ := hq
  exact absurd hb (by decide)
/-- a term for the latest item: i its object, tm its terms -/
theorem x_addI {G : rv_G} (hG : rv_GK G) {d xo wd bg cl hi bo i0 tm z f kd wh n m : Nat} {rv rw1 lv a0 a2 a3 a5 a6 a7 a8 : Value} {lf t : Int32} {tf : Nat → Int32} {es : List Nat} (hd : 8 ≤ d) {F : xF} {h : rv_H} {M : xM} (hj0 : M[0]? = some (xo, cO 0 [.ref wd, .ref cl, .ref bg, rv, rw1, lv, .int lf])) (hj1 : M[1]? = some (i0, cO 10 [.int (nI kd), .int (nI wh), .ref tm, .int (nI f)])) (hj2 : M[2]? = some (tm, cI z tf)) (c1 : rv_rd G h cl (cO 9 [a0, .ref hi, a2, a3, .ref bo, a5, a6, a7, a8])) (c2 : xLs G (rv_rd G h) bo es) (hlast : es.length = 0 ∧ i0 = hi ∨ es.length ≠ 0 ∧ es[es.length - 1]? = some i0) (hz : z ≤ 3) (hf : f ≤ z) (hn : 1 ≤ n) (hm : 6 ≤ m) (hH : xH G F M n m h) : rv_Call G d yX1_add wX1_add [.ref xo, .int t] h (xT (fun u h' => f < z ∧ u = none ∧ xS G F h (xad M) ((M.set 2 (tm, cI z (va_up tf f t))).set 1 (i0, cO 10 [.int (nI kd), .int (nI wh), .ref tm, .int (nI (f + 1))])) n m h') (fun E h' => E = RJ18 ∧ f = z ∧ xS G F h (xad M) M (n - 1) (m - 6) h')) := by
  refine rv_start hG (by decide +kernel) (L := [some (.ref xo), some (.int t), none]) rfl (Nat.le_of_ble_eq_true rfl) (fun X hX1 hX hE => ?_)
  subst hX1
  match M, hj0, hj1, hj2 with
  | q0 :: q1 :: q2 :: M9, hj0, hj1, hj2 =>
    cases hj0
    cases hj1
    cases hj2
    have hS := hH.start
    have hl0 := hlast.imp id (fun q => (⟨q.1, q.2, hS.mc (k := 1) rfl⟩ : es.length ≠ 0 ∧ es[es.length - 1]? = some i0 ∧ rv_rd X.1 h i0 (cO 10 [.int (nI kd), .int (nI wh), .ref tm, .int (nI f)])))
    by_cases hfz : f = z
    · skip
      refine rv_aload_n hX dX1_add_0 rfl ?_
      refine rv_getfR hX gX1_162_X1 (hS.mc (k := 0) rfl) rfl dX1_add_1 ?_
      refine rv_ifnull hX dX1_add_4 ?_
      refine rv_aload_n hX dX1_add_7 rfl ?_
      refine rv_getfR hX gX1_162_X1 (hS.mc (k := 0) rfl) rfl dX1_add_8 ?_
      refine rv_invVR hX iX1_185 mdX10_latest c1 ⟨TX10, 9, rv_c9⟩ (x_latest hG (d := d - 1) (by omega) c1 c2 hl0) (by omega) rfl rfl (Nat.le_of_ble_eq_true rfl) dX1_add_11 (fun v h' hq => ?_) (fun E h' hq => by first | exact hq.elim | cases hq.2 | cases hq.1)
      obtain ⟨rfl, hq⟩ := hq
      cases hq
      refine rv_invVR hX iX1_189 mdX11_isWhole (hS.mc (k := 1) rfl) ⟨TX11, 4, rv_c10⟩ (x_isWhole hG (d := d - 1) (hS.mc (k := 1) rfl) (hS.mc (k := 2) rfl) (by omega) (by omega)) (by omega) rfl rfl (Nat.le_of_ble_eq_true rfl) dX1_add_14 (fun v h' hq => ?_) (fun E h' hq => by first | exact hq.elim | cases hq.2 | cases hq.1)
      obtain ⟨rfl, hq⟩ := hq
      cases hq
      rw [decide_eq_true hfz]
      refine rv_if_ne hX 24 dX1_add_17 (by decide) (fun c_17 => ?_) (fun q => absurd q (by decide))
      refine nv_iconst hX (m := 0) (by decide) dX1_add_24 ?_
      refine rv_invS hX iX1_114 mdX1_checkState (x_checkState hG (b := false) (d := d - 1) (by omega) (by omega) (by omega) (hS.cpre0 [] 0 rfl rfl rfl)) (by omega) rfl rfl (Nat.le_of_ble_eq_true rfl) dX1_add_25 (fun v h' hq => ?_) (fun E h' hq => by exact rv_out hX hE (fun x hx => by cases hx) ⟨hq.1, hfz, hS.cpost0 [] 0 rfl rfl rfl hq.2.2⟩)
      obtain ⟨hb, rfl, rfl⟩ := hq
      exact absurd hb (by decide)
    · skip
      refine rv_aload_n hX dX1_add_0 rfl ?_
      refine rv_getfR hX gX1_162_X1 (hS.mc (k := 0) rfl) rfl dX1_add_1 ?_
      refine rv_ifnull hX dX1_add_4 ?_
      refine rv_aload_n hX dX1_add_7 rfl ?_
      refine rv_getfR hX gX1_162_X1 (hS.mc (k := 0) rfl) rfl dX1_add_8 ?_
      refine rv_invVR hX iX1_185 mdX10_latest c1 ⟨TX10, 9, rv_c9⟩ (x_latest hG (d := d - 1) (by omega) c1 c2 hl0) (by omega) rfl rfl (Nat.le_of_ble_eq_true rfl) dX1_add_11 (fun v h' hq => ?_) (fun E h' hq => by first | exact hq.elim | cases hq.2 | cases hq.1)
      obtain ⟨rfl, hq⟩ := hq
      cases hq
      refine rv_invVR hX iX1_189 mdX11_isWhole (hS.mc (k := 1) rfl) ⟨TX11, 4, rv_c10⟩ (x_isWhole hG (d := d - 1) (hS.mc (k := 1) rfl) (hS.mc (k := 2) rfl) (by omega) (by omega)) (by omega) rfl rfl (Nat.le_of_ble_eq_true rfl) dX1_add_14 (fun v h' hq => ?_) (fun E h' hq => by first | exact hq.elim | cases hq.2 | cases hq.1)
      obtain ⟨rfl, hq⟩ := hq
      cases hq
      rw [decide_eq_false hfz]
      refine rv_if_ne hX 24 dX1_add_17 (by decide) (fun q => absurd rfl q) (fun c_17 => ?_)
      refine nv_iconst hX (m := 1) (by decide) dX1_add_20 ?_
      refine rv_goto hX 25 dX1_add_21 (by decide) ?_
      refine rv_invS hX iX1_114 mdX1_checkState (x_checkState hG (b := true) (d := d - 1) (by omega) (by omega) (by omega) (hS.cpre0 [] 0 rfl rfl rfl)) (by omega) rfl rfl (Nat.le_of_ble_eq_true rfl) dX1_add_25 (fun v h' hq => ?_) (fun E h' hq => by exact absurd hq.2.1 (by decide))
      obtain ⟨-, rfl, rfl⟩ := hq
      refine rv_aload_n hX dX1_add_28 rfl ?_
      refine rv_getfR hX gX1_162_X1 (hS.mc (k := 0) rfl) rfl dX1_add_29 ?_
      refine rv_invVR hX iX1_185 mdX10_latest c1 ⟨TX10, 9, rv_c9⟩ (x_latest hG (d := d - 1) (by omega) c1 c2 hl0) (by omega) rfl rfl (Nat.le_of_ble_eq_true rfl) dX1_add_32 (fun v h' hq => ?_) (fun E h' hq => by first | exact hq.elim | cases hq.2 | cases hq.1)
      obtain ⟨rfl, hq⟩ := hq
      cases hq
      refine rv_astore_n hX dX1_add_35 (rv_st_2 rfl) ?_
      refine rv_aload_n hX dX1_add_36 rfl ?_
      refine rv_getfR hX gX1_193_X11 (hS.mc (k := 1) rfl) rfl dX1_add_37 ?_
      refine rv_aload_n hX dX1_add_40 rfl ?_
      refine rv_getfR hX gX1_196_X11 (hS.mc (k := 1) rfl) rfl dX1_add_41 ?_
      refine rv_iload_n hX dX1_add_44 rfl ?_
      refine xv_iast hX hS (k := 2) rfl (by omega) (by omega) dX1_add_45 (fun h_45 hS => ?_)
      refine rv_aload_n hX dX1_add_46 rfl ?_
      refine rv_dup hX dX1_add_47 rfl ?_
      refine rv_getfR hX gX1_196_X11 (hS.mc (k := 1) rfl) rfl dX1_add_48 ?_
      refine nv_iconst hX (m := 1) (by decide) dX1_add_51 ?_
      first | refine nv_iadd hX dX1_add_52 ?_ | refine rv_iadd hX dX1_add_52 ?_
      refine xv_putf hX hS (k := 1) rfl pX1_196_X11 (fun q => by cases q) rfl rfl rfl dX1_add_53 (fun h_53 hS => ?_)
      refine rv_return hX hE ?_ dX1_add_56
      exact ⟨by omega, rfl, hS⟩
