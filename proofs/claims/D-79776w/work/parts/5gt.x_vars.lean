/-! THE SYSTEM: variables and values typed -/
set_option maxRecDepth 100000
theorem i32_lt {k : Int32} {a : Nat} (ha : a + 1 < 2147483648) (h : ¬ nI (a + 1) ≤ k) : k ≤ nI a := by
  rw [Int32.le_iff_toInt_le] at h ⊢
  have h1 : (nI (a + 1)).toInt = ((a + 1 : Nat) : Int) := nI_toInt ha
  have h2 : (nI a).toInt = (a : Int) := nI_toInt (by omega)
  rw [h1] at h
  rw [h2]
  omega
theorem x_checkVariable {G : rv_G} (hG : rv_GK G) {d n m : Nat} {v : Int32} (hd : 8 ≤ d) {F : xF} {h : rv_H} (hn : 1 ≤ n) (hm : 6 ≤ m) (hH : xH G F [] n m h) : rv_Call G d yX1_checkVariable wX1_checkVariable [.int v] h (xT (fun u h' => w_rng 0 7 v ∧ u = none ∧ h' = h) (fun E h' => E = RJ6 ∧ ¬ w_rng 0 7 v ∧ xS G F h [] [] (n - 1) (m - 6) h')) := by
  refine rv_start hG (by decide +kernel) (L := [some (.int v)]) rfl (Nat.le_of_ble_eq_true rfl) (fun X hX1 hX hE => ?_)
  subst hX1
  have hS := hH.start
  by_cases hrng : w_rng 0 7 v
  · obtain ⟨j, -, hj7, rfl, hjc⟩ := w_rng_nat (by decide) (by decide) hrng
    refine rv_iload_n hX dX1_checkVariable_0 rfl ?_
    refine rv_if_lt hX 14 dX1_checkVariable_1 (by decide) (fun q => absurd q (nI_pos (by omega))) (fun c_1 => ?_)
    refine rv_iload_n hX dX1_checkVariable_4 rfl ?_
    refine nv_bipush hX (m := 8) (by decide) dX1_checkVariable_5 ?_
    refine nv_icmp_ge hX 14 (by omega) (by omega) dX1_checkVariable_7 (by decide) (fun q => absurd q (by omega)) (fun c_7 => ?_)
    refine nv_iconst hX (m := 1) (by decide) dX1_checkVariable_10 ?_
    refine rv_goto hX 15 dX1_checkVariable_11 (by decide) ?_
    refine rv_invS hX iX1_85 mdX1_checkArgument (x_checkArgument hG (b := true) (d := d - 1) (by omega) (by omega) (by omega) (hS.cpre0 [] 0 rfl rfl rfl)) (by omega) rfl rfl (Nat.le_of_ble_eq_true rfl) dX1_checkVariable_15 (fun v h' hq => ?_) (fun E h' hq => by exact absurd hq.2.1 (by decide))
    obtain ⟨-, rfl, rfl⟩ := hq
    refine rv_return hX hE ?_ dX1_checkVariable_18
    exact ⟨hrng, rfl, rfl⟩
  · skip
    refine rv_iload_n hX dX1_checkVariable_0 rfl ?_
    refine rv_if_lt hX 14 dX1_checkVariable_1 (by decide) (fun c_1 => ?_) (fun c_1 => ?_)
    · skip
      refine nv_iconst hX (m := 0) (by decide) dX1_checkVariable_14 ?_
      refine rv_invS hX iX1_85 mdX1_checkArgument (x_checkArgument hG (b := false) (d := d - 1) (by omega) (by omega) (by omega) (hS.cpre0 [] 0 rfl rfl rfl)) (by omega) rfl rfl (Nat.le_of_ble_eq_true rfl) dX1_checkVariable_15 (fun v h' hq => ?_) (fun E h' hq => by exact rv_out hX hE (fun x hx => by cases hx) ⟨hq.1, hrng, hS.cpost0 [] 0 rfl rfl rfl hq.2.2⟩)
      obtain ⟨hb, rfl, rfl⟩ := hq
      exact absurd hb (by decide)
    · skip
      refine rv_iload_n hX dX1_checkVariable_4 rfl ?_
      refine nv_bipush hX (m := 8) (by decide) dX1_checkVariable_5 ?_
      first | refine nv_icmp_ge hX 14 (by omega) (by omega) dX1_checkVariable_7 (by decide) (fun c_7 => ?_) (fun c_7 => ?_) | refine rv_icmp_ge hX 14 dX1_checkVariable_7 (by decide) (fun c_7 => ?_) (fun c_7 => ?_)
      · skip
        refine nv_iconst hX (m := 0) (by decide) dX1_checkVariable_14 ?_
        refine rv_invS hX iX1_85 mdX1_checkArgument (x_checkArgument hG (b := false) (d := d - 1) (by omega) (by omega) (by omega) (hS.cpre0 [] 0 rfl rfl rfl)) (by omega) rfl rfl (Nat.le_of_ble_eq_true rfl) dX1_checkVariable_15 (fun v h' hq => ?_) (fun E h' hq => by exact rv_out hX hE (fun x hx => by cases hx) ⟨hq.1, hrng, hS.cpost0 [] 0 rfl rfl rfl hq.2.2⟩)
        obtain ⟨hb, rfl, rfl⟩ := hq
        exact absurd hb (by decide)
      · skip
        exact absurd ⟨Int32.not_lt.mp c_1, i32_lt (by omega) c_7⟩ hrng --done
theorem x_variable {G : rv_G} (hG : rv_GK G) {d xo n m N : Nat} {s : wS} {M : xM} {v : Int32} {F : xF} {h : rv_H} (hd : 12 ≤ d) (hSt : xSt G F xo s M) (hw : wfS N s) (hn : 40000 ≤ n) (hm : 200000 ≤ m) (hH : xH G F M n m h) : rv_Call G d yX1_variable wX1_variable [.ref xo, .int v] h (xOq G F xo (xad M) n m h [RJ6, RJ18] true (o_variable s v)) := by
  refine rv_start hG (by decide +kernel) (L := [some (.ref xo), some (.int v)]) rfl (Nat.le_of_ble_eq_true rfl) (fun X hX1 hX hE => ?_)
  subst hX1
  have hSt0 := hSt
  obtain ⟨wd, bg, dv, rv, rw1, lv, lf, Nb, Nd, ws, Wg, rfl, ⟨h2, h3⟩, ⟨h4, h5, h6⟩, h7, h8⟩ := hSt
  have hS0 : xS X.1 F h (xo :: xad (Nb ++ Nd)) (((xo, cO 0 [.ref wd, dv, .ref bg, rv, rw1, lv, .int lf]) :: Nd) ++ Nb) n m h := hH.start.perm (List.Perm.cons _ List.perm_append_comm)
  have hS : xS X.1 F h (xo :: xad Nd) ((xo, cO 0 [.ref wd, dv, .ref bg, rv, rw1, lv, .int lf]) :: Nd) n m h := hS0.foc
  have hS8 := hw.1.S
  have hback : ∀ (n' m' : Nat) (h' : rv_H), xS X.1 F h (xo :: xad Nd) ((xo, cO 0 [.ref wd, dv, .ref bg, rv, rw1, lv, .int lf]) :: Nd) n' m' h' → xS X.1 F h (xo :: xad (Nb ++ Nd)) ((xo, cO 0 [.ref wd, dv, .ref bg, rv, rw1, lv, .int lf]) :: (Nb ++ Nd)) n' m' h' := fun n' m' h' q => (hS0.unf0 q).perm (List.Perm.cons _ List.perm_append_comm)
  by_cases hrng : w_rng 0 7 v
  · obtain ⟨j, -, hj7, rfl, hjc⟩ := w_rng_nat (by decide) (by decide) hrng
    rcases h7.null with ⟨hk0, rfl⟩ | ⟨hk0, cl, rfl⟩
    · have ho : o_variable s (nI j) = (2, 0, s) := by
        unfold o_variable
        rw [if_neg (fun q => q hrng), if_pos (Or.inl hk0)]
      have hNd : Nd = [] := h7.elim (fun q => q.2.2) (fun q => absurd hk0 q.1)
      subst hNd
      refine rv_iload_n hX dX1_variable_0 rfl ?_
      refine rv_invS hX iX1_199 mdX1_checkVariable (x_checkVariable hG (d := d - 1) (by omega) (by omega) (by omega) (hS.cpre0 [] 0 rfl rfl rfl)) (by omega) rfl rfl (Nat.le_of_ble_eq_true rfl) dX1_variable_1 (fun v h' hq => ?_) (fun E h' hq => by exact absurd hrng hq.2.1)
      obtain ⟨-, rfl, rfl⟩ := hq
      refine rv_aload_n hX dX1_variable_4 rfl ?_
      refine nv_bipush hX (m := 100) (by decide) dX1_variable_5 ?_
      refine rv_iload_n hX dX1_variable_7 rfl ?_
      first | refine nv_iadd hX dX1_variable_8 ?_ | refine rv_iadd hX dX1_variable_8 ?_
      refine rv_invVR hX iX1_202 mdX1_add (hS.mc (k := 0) rfl) ⟨TX1, 7, rv_c0⟩ (x_addN hG (d := d - 1) (by omega) (by omega) (by omega) (hS.cpre0 [1] 0 rfl rfl rfl)) (by omega) rfl rfl (Nat.le_of_ble_eq_true rfl) dX1_variable_9 (fun v h' hq => ?_) (fun E h' hq => by exact rv_out hX hE (fun x hx => by cases hx) (xOq.thr (i := 1) (by rw [ho]; exact ⟨rfl, rfl⟩) (by rw [hq.1]; rfl) hSt0 (hback _ _ _ (hS.cpost0 [1] 0 rfl rfl rfl hq.2)) (by omega) (by omega)))
      exact hq.elim
    · have hol : s.d.lacks s.w.S = false → o_variable s (nI j) = (2, 0, s) := fun q => by
        unfold o_variable
        rw [if_neg (fun q => q hrng), if_pos (Or.inr q)]
      have hok : s.d.lacks s.w.S = true → o_variable s (nI j) = (0, 0, s.setd (s.d.addT (100 + j))) := fun q => by
        unfold o_variable
        rw [if_neg (fun q => q hrng), if_neg (fun q2 => q2.elim hk0 (fun q3 => by rw [q] at q3; cases q3)), nI_clamp (by omega)]
      refine rv_iload_n hX dX1_variable_0 rfl ?_
      refine rv_invS hX iX1_199 mdX1_checkVariable (x_checkVariable hG (d := d - 1) (by omega) (by omega) (by omega) (hS.cpre0 [] 0 rfl rfl rfl)) (by omega) rfl rfl (Nat.le_of_ble_eq_true rfl) dX1_variable_1 (fun v h' hq => ?_) (fun E h' hq => by exact absurd hrng hq.2.1)
      obtain ⟨-, rfl, rfl⟩ := hq
      refine rv_aload_n hX dX1_variable_4 rfl ?_
      refine nv_bipush hX (m := 100) (by decide) dX1_variable_5 ?_
      refine rv_iload_n hX dX1_variable_7 rfl ?_
      first | refine nv_iadd hX dX1_variable_8 ?_ | refine rv_iadd hX dX1_variable_8 ?_
      refine rv_invVR hX iX1_202 mdX1_add (hS.mc (k := 0) rfl) ⟨TX1, 7, rv_c0⟩ (x_addD hG (tt := 100 + j) (dd := d - 1) (by omega) hS8.2 hw.2.1 hk0 h7 (by omega) (by omega) (by omega) hS.1) (by omega) rfl rfl (Nat.le_of_ble_eq_true rfl) dX1_variable_9 (fun v h' hq => ?_) (fun E h' hq => by exact rv_out hX hE (fun x hx => by cases hx) (xOq.thr (i := 1) (by rw [hol hq.2.1]; exact ⟨rfl, rfl⟩) (by rw [hq.1]; rfl) hSt0 (hback _ _ _ hq.2.2) (by omega) (by omega)))
      obtain ⟨hlk, hu, Nd', hD', hQ⟩ := hq
      cases hu
      refine rv_return hX hE ?_ dX1_variable_12
      rw [hok hlk]
      exact ⟨F, _, .rf, xSt.draft (Nd := Nd) (dv := .ref cl) (dv' := .ref cl) (d' := s.d.addT (100 + j)) ⟨h2, h3⟩ ⟨h4, h5, h6⟩ h8 hD', ((hS0.unf0 hQ).perm (List.Perm.cons _ List.perm_append_comm)).bud (by omega) (by omega), rfl, rfl⟩
  · have ho : o_variable s v = (1, 0, s) := by
      unfold o_variable
      rw [if_pos hrng]
    refine rv_iload_n hX dX1_variable_0 rfl ?_
    refine rv_invS hX iX1_199 mdX1_checkVariable (x_checkVariable hG (d := d - 1) (by omega) (by omega) (by omega) (hS.cpre0 [] 0 rfl rfl rfl)) (by omega) rfl rfl (Nat.le_of_ble_eq_true rfl) dX1_variable_1 (fun v h' hq => ?_) (fun E h' hq => by exact rv_out hX hE (fun x hx => by cases hx) (xOq.thr (i := 0) (by rw [ho]; exact ⟨rfl, rfl⟩) (by rw [hq.1]; rfl) hSt0 (hback _ _ _ (hS.cpost0 [] 0 rfl rfl rfl hq.2.2)) (by omega) (by omega)))
    obtain ⟨hb, rfl, rfl⟩ := hq
    exact absurd hb hrng
theorem x_value {G : rv_G} (hG : rv_GK G) {d xo n m N : Nat} {s : wS} {M : xM} {v : Int32} {F : xF} {h : rv_H} (hd : 12 ≤ d) (hSt : xSt G F xo s M) (hw : wfS N s) (hn : 40000 ≤ n) (hm : 200000 ≤ m) (hH : xH G F M n m h) : rv_Call G d yX1_value wX1_value [.ref xo, .int v] h (xOq G F xo (xad M) n m h [RJ6, RJ18] true (o_value s v)) := by
  refine rv_start hG (by decide +kernel) (L := [some (.ref xo), some (.int v)]) rfl (Nat.le_of_ble_eq_true rfl) (fun X hX1 hX hE => ?_)
  subst hX1
  have hSt0 := hSt
  obtain ⟨wd, bg, dv, rv, rw1, lv, lf, Nb, Nd, ws, Wg, rfl, ⟨h2, h3⟩, ⟨h4, h5, h6⟩, h7, h8⟩ := hSt
  have hS0 : xS X.1 F h (xo :: xad (Nb ++ Nd)) (((xo, cO 0 [.ref wd, dv, .ref bg, rv, rw1, lv, .int lf]) :: Nd) ++ Nb) n m h := hH.start.perm (List.Perm.cons _ List.perm_append_comm)
  have hS : xS X.1 F h (xo :: xad Nd) ((xo, cO 0 [.ref wd, dv, .ref bg, rv, rw1, lv, .int lf]) :: Nd) n m h := hS0.foc
  have hS8 := hw.1.S
  have hback : ∀ (n' m' : Nat) (h' : rv_H), xS X.1 F h (xo :: xad Nd) ((xo, cO 0 [.ref wd, dv, .ref bg, rv, rw1, lv, .int lf]) :: Nd) n' m' h' → xS X.1 F h (xo :: xad (Nb ++ Nd)) ((xo, cO 0 [.ref wd, dv, .ref bg, rv, rw1, lv, .int lf]) :: (Nb ++ Nd)) n' m' h' := fun n' m' h' q => (hS0.unf0 q).perm (List.Perm.cons _ List.perm_append_comm)
  by_cases hrng : w_rng 0 99 v
  · obtain ⟨j, -, hj7, rfl, hjc⟩ := w_rng_nat (by decide) (by decide) hrng
    rcases h7.null with ⟨hk0, rfl⟩ | ⟨hk0, cl, rfl⟩
    · have ho : o_value s (nI j) = (2, 0, s) := by
        unfold o_value
        rw [if_neg (fun q => q hrng), if_pos (Or.inl hk0)]
      have hNd : Nd = [] := h7.elim (fun q => q.2.2) (fun q => absurd hk0 q.1)
      subst hNd
      refine rv_iload_n hX dX1_value_0 rfl ?_
      refine rv_if_lt hX 14 dX1_value_1 (by decide) (fun q => absurd q (nI_pos (by omega))) (fun c_1 => ?_)
      refine rv_iload_n hX dX1_value_4 rfl ?_
      refine nv_bipush hX (m := 100) (by decide) dX1_value_5 ?_
      refine nv_icmp_ge hX 14 (by omega) (by omega) dX1_value_7 (by decide) (fun q => absurd q (by omega)) (fun c_7 => ?_)
      refine nv_iconst hX (m := 1) (by decide) dX1_value_10 ?_
      refine rv_goto hX 15 dX1_value_11 (by decide) ?_
      refine rv_invS hX iX1_85 mdX1_checkArgument (x_checkArgument hG (b := true) (d := d - 1) (by omega) (by omega) (by omega) (hS.cpre0 [] 0 rfl rfl rfl)) (by omega) rfl rfl (Nat.le_of_ble_eq_true rfl) dX1_value_15 (fun v h' hq => ?_) (fun E h' hq => by exact absurd hq.2.1 (by decide))
      obtain ⟨-, rfl, rfl⟩ := hq
      refine rv_aload_n hX dX1_value_18 rfl ?_
      refine rv_iload_n hX dX1_value_19 rfl ?_
      refine rv_invVR hX iX1_202 mdX1_add (hS.mc (k := 0) rfl) ⟨TX1, 7, rv_c0⟩ (x_addN hG (d := d - 1) (by omega) (by omega) (by omega) (hS.cpre0 [1] 0 rfl rfl rfl)) (by omega) rfl rfl (Nat.le_of_ble_eq_true rfl) dX1_value_20 (fun v h' hq => ?_) (fun E h' hq => by exact rv_out hX hE (fun x hx => by cases hx) (xOq.thr (i := 1) (by rw [ho]; exact ⟨rfl, rfl⟩) (by rw [hq.1]; rfl) hSt0 (hback _ _ _ (hS.cpost0 [1] 0 rfl rfl rfl hq.2)) (by omega) (by omega)))
      exact hq.elim
    · have hol : s.d.lacks s.w.S = false → o_value s (nI j) = (2, 0, s) := fun q => by
        unfold o_value
        rw [if_neg (fun q => q hrng), if_pos (Or.inr q)]
      have hok : s.d.lacks s.w.S = true → o_value s (nI j) = (0, 0, s.setd (s.d.addT (j))) := fun q => by
        unfold o_value
        rw [if_neg (fun q => q hrng), if_neg (fun q2 => q2.elim hk0 (fun q3 => by rw [q] at q3; cases q3)), nI_clamp (by omega)]
      refine rv_iload_n hX dX1_value_0 rfl ?_
      refine rv_if_lt hX 14 dX1_value_1 (by decide) (fun q => absurd q (nI_pos (by omega))) (fun c_1 => ?_)
      refine rv_iload_n hX dX1_value_4 rfl ?_
      refine nv_bipush hX (m := 100) (by decide) dX1_value_5 ?_
      refine nv_icmp_ge hX 14 (by omega) (by omega) dX1_value_7 (by decide) (fun q => absurd q (by omega)) (fun c_7 => ?_)
      refine nv_iconst hX (m := 1) (by decide) dX1_value_10 ?_
      refine rv_goto hX 15 dX1_value_11 (by decide) ?_
      refine rv_invS hX iX1_85 mdX1_checkArgument (x_checkArgument hG (b := true) (d := d - 1) (by omega) (by omega) (by omega) (hS.cpre0 [] 0 rfl rfl rfl)) (by omega) rfl rfl (Nat.le_of_ble_eq_true rfl) dX1_value_15 (fun v h' hq => ?_) (fun E h' hq => by exact absurd hq.2.1 (by decide))
      obtain ⟨-, rfl, rfl⟩ := hq
      refine rv_aload_n hX dX1_value_18 rfl ?_
      refine rv_iload_n hX dX1_value_19 rfl ?_
      refine rv_invVR hX iX1_202 mdX1_add (hS.mc (k := 0) rfl) ⟨TX1, 7, rv_c0⟩ (x_addD hG (tt := j) (dd := d - 1) (by omega) hS8.2 hw.2.1 hk0 h7 (by omega) (by omega) (by omega) hS.1) (by omega) rfl rfl (Nat.le_of_ble_eq_true rfl) dX1_value_20 (fun v h' hq => ?_) (fun E h' hq => by exact rv_out hX hE (fun x hx => by cases hx) (xOq.thr (i := 1) (by rw [hol hq.2.1]; exact ⟨rfl, rfl⟩) (by rw [hq.1]; rfl) hSt0 (hback _ _ _ hq.2.2) (by omega) (by omega)))
      obtain ⟨hlk, hu, Nd', hD', hQ⟩ := hq
      cases hu
      refine rv_return hX hE ?_ dX1_value_23
      rw [hok hlk]
      exact ⟨F, _, .rf, xSt.draft (Nd := Nd) (dv := .ref cl) (dv' := .ref cl) (d' := s.d.addT (j)) ⟨h2, h3⟩ ⟨h4, h5, h6⟩ h8 hD', ((hS0.unf0 hQ).perm (List.Perm.cons _ List.perm_append_comm)).bud (by omega) (by omega), rfl, rfl⟩
  · have ho : o_value s v = (1, 0, s) := by
      unfold o_value
      rw [if_pos hrng]
    refine rv_iload_n hX dX1_value_0 rfl ?_
    refine rv_if_lt hX 14 dX1_value_1 (by decide) (fun c_1 => ?_) (fun c_1 => ?_)
    · skip
      refine nv_iconst hX (m := 0) (by decide) dX1_value_14 ?_
      refine rv_invS hX iX1_85 mdX1_checkArgument (x_checkArgument hG (b := false) (d := d - 1) (by omega) (by omega) (by omega) (hS.cpre0 [] 0 rfl rfl rfl)) (by omega) rfl rfl (Nat.le_of_ble_eq_true rfl) dX1_value_15 (fun v h' hq => ?_) (fun E h' hq => by exact rv_out hX hE (fun x hx => by cases hx) (xOq.thr (i := 0) (by rw [ho]; exact ⟨rfl, rfl⟩) (by rw [hq.1]; rfl) hSt0 (hback _ _ _ (hS.cpost0 [] 0 rfl rfl rfl hq.2.2)) (by omega) (by omega)))
      obtain ⟨hb, rfl, rfl⟩ := hq
      exact absurd hb (by decide)
    · skip
      refine rv_iload_n hX dX1_value_4 rfl ?_
      refine nv_bipush hX (m := 100) (by decide) dX1_value_5 ?_
      first | refine nv_icmp_ge hX 14 (by omega) (by omega) dX1_value_7 (by decide) (fun c_7 => ?_) (fun c_7 => ?_) | refine rv_icmp_ge hX 14 dX1_value_7 (by decide) (fun c_7 => ?_) (fun c_7 => ?_)
      · skip
        refine nv_iconst hX (m := 0) (by decide) dX1_value_14 ?_
        refine rv_invS hX iX1_85 mdX1_checkArgument (x_checkArgument hG (b := false) (d := d - 1) (by omega) (by omega) (by omega) (hS.cpre0 [] 0 rfl rfl rfl)) (by omega) rfl rfl (Nat.le_of_ble_eq_true rfl) dX1_value_15 (fun v h' hq => ?_) (fun E h' hq => by exact rv_out hX hE (fun x hx => by cases hx) (xOq.thr (i := 0) (by rw [ho]; exact ⟨rfl, rfl⟩) (by rw [hq.1]; rfl) hSt0 (hback _ _ _ (hS.cpost0 [] 0 rfl rfl rfl hq.2.2)) (by omega) (by omega)))
        obtain ⟨hb, rfl, rfl⟩ := hq
        exact absurd hb (by decide)
      · skip
        exact absurd ⟨Int32.not_lt.mp c_1, i32_lt (by omega) c_7⟩ hrng --done
