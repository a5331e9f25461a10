/-! THE SYSTEM: transactions -/
set_option maxRecDepth 100000
theorem xElm.w {G : rv_G} {F : xF} {a : Nat} {w : wW} (h : xW G (xr G F) a w) : xElm G F a := by
  obtain ⟨rel, ta, st, tg, ru, de, fi, sk, tf, r, ps, w1, -⟩ := h
  exact Or.inl ⟨1, _, _, _, _, w1, rv_c1, q2796⟩
theorem xDr.null {S : List Nat} {d : wDr} {dv : Value} {Nd : xM} (h : xDr S d dv Nd) : (d.k = 0 ∧ dv = .null) ∨ (d.k ≠ 0 ∧ ∃ cl, dv = .ref cl) := by
  rcases h with ⟨h1, h2, -⟩ | ⟨h1, cl, hi, ht, bo, ba, nm, gk, md, sal, mc, tl, hf, bf, es, Ni, h2, -⟩
  · exact Or.inl ⟨h1, h2⟩
  · exact Or.inr ⟨h1, cl, h2⟩
theorem x_begin {G : rv_G} (hG : rv_GK G) {d xo n m N : Nat} {s : wS} {M : xM} {F : xF} {h : rv_H} (hd : 12 ≤ d) (hSt : xSt G F xo s M) (hw : wfS N s) (hn : 40000 ≤ n) (hm : 200000 ≤ m) (hH : xH G F M n m h) : rv_Call G d yX1_begin_2 wX1_begin_2 [.ref xo] h (xOq G F xo (xad M) n m h [RJ18] false (o_begin s)) := by
  refine rv_start hG (by decide +kernel) (L := [some (.ref xo)]) rfl (Nat.le_of_ble_eq_true rfl) (fun X hX1 hX hE => ?_)
  subst hX1
  have hSt0 := hSt
  obtain ⟨wd, bg, dv, rv, rw1, lv, lf, Nb, Nd, ws, Wg, rfl, ⟨h2, h3⟩, ⟨h4, h5, h6⟩, h7, h8⟩ := hSt
  have hS0 : xS X.1 F h (xo :: xad (Nb ++ Nd)) ([[(xo, cO 0 [.ref wd, dv, .ref bg, rv, rw1, lv, .int lf])], Nb, Nd].flatten) n m h := hH.start.perm (by simp)
  have hS1 : xS X.1 F h (xo :: xad (Nb ++ Nd)) ([(xo, cO 0 [.ref wd, dv, .ref bg, rv, rw1, lv, .int lf])] ++ (Nb ++ Nd)) n m h := hH.start
  have hS : xS X.1 F h [xo] [(xo, cO 0 [.ref wd, dv, .ref bg, rv, rw1, lv, .int lf])] n m h := hS1.foc
  have hl := h4.rd hG hS0.1 (xflat_mem (j := 1) rfl)
  obtain ⟨m9, e9, c9, f9, l9, -⟩ := id hl
  have hb3 := hw.2.2.1
  have hwse : ∀ e, e ∈ ws → xElm X.1 F e := fun e he => by
    obtain ⟨i, hi⟩ := List.getElem?_of_mem he
    have hil := (List.getElem?_eq_some_iff.mp hi).1
    have hib : i < s.b.length := by omega
    exact .w (h2 e _ (h6 i e s.b[i] hi (List.getElem?_eq_getElem hib)))
  have thr : o_begin s = (1, 0, s) → ∀ (E : String) (h' : rv_H), E = RJ18 ∧ false = false ∧ xS X.1 F h [] [] (n - 1) (m - 6) h' → xOq X.1 F xo (xo :: xad (Nb ++ Nd)) n m h [RJ18] false (o_begin s) (.inr E) h' := fun ho E h' hq => xOq.thr (i := 0) (by rw [ho]; exact ⟨rfl, rfl⟩) (by rw [hq.1]; rfl) hSt0 (hS1.unf0 (hS.cpost0 [] 0 rfl rfl rfl hq.2.2)) (by omega) (by omega)
  rcases h7.null with ⟨hk0, rfl⟩ | ⟨hk0, cl, rfl⟩
  · by_cases h33 : s.b.length = 3
    · have ho : o_begin s = (1, 0, s) := by unfold o_begin; rw [if_pos (Or.inr h33)]
      refine rv_aload_n hX dX1_begin_2_0 rfl ?_
      refine rv_getfR hX gX1_162_X1 (hS.mc (k := 0) rfl) rfl dX1_begin_2_1 ?_
      refine rv_ifnonnullN hX dX1_begin_2_4 ?_
      refine rv_aload_n hX dX1_begin_2_7 rfl ?_
      refine rv_getfR hX gX1_30_X1 (hS.mc (k := 0) rfl) rfl dX1_begin_2_8 ?_
      refine rv_invVR hX iX1_58 mdJ2_size l9 ⟨TJ2, 3, rv_c17⟩ (j_size hG (d := d - 1) hl.L) (by omega) rfl rfl (Nat.le_of_ble_eq_true rfl) dX1_begin_2_11 (fun v h' hq => ?_) (fun E h' hq => by first | exact hq.elim | cases hq.2 | cases hq.1)
      obtain ⟨rfl, hq⟩ := hq
      cases hq
      refine nv_iconst hX (m := 3) (by decide) dX1_begin_2_14 ?_
      refine nv_icmp_ge hX 22 (by omega) (by omega) dX1_begin_2_15 (by decide) (fun c_15 => ?_) (fun q => absurd q (by omega))
      refine nv_iconst hX (m := 0) (by decide) dX1_begin_2_22 ?_
      refine rv_invS hX iX1_114 mdX1_checkState (x_checkState hG (b := false) (d := d - 1) (by omega) (by omega) (by omega) (hS.cpre0 [] 0 rfl rfl rfl)) (by omega) rfl rfl (Nat.le_of_ble_eq_true rfl) dX1_begin_2_23 (fun v h' hq => ?_) (fun E h' hq => by exact rv_out hX hE (fun x hx => by cases hx) (thr ho E h' hq))
      obtain ⟨hb, rfl, rfl⟩ := hq
      exact absurd hb (by decide)
    · have ho : o_begin s = (0, nI (s.b.length + 1), s.setb (s.b ++ [s.w])) := by unfold o_begin; rw [if_neg (by omega)]
      refine rv_aload_n hX dX1_begin_2_0 rfl ?_
      refine rv_getfR hX gX1_162_X1 (hS.mc (k := 0) rfl) rfl dX1_begin_2_1 ?_
      refine rv_ifnonnullN hX dX1_begin_2_4 ?_
      refine rv_aload_n hX dX1_begin_2_7 rfl ?_
      refine rv_getfR hX gX1_30_X1 (hS.mc (k := 0) rfl) rfl dX1_begin_2_8 ?_
      refine rv_invVR hX iX1_58 mdJ2_size l9 ⟨TJ2, 3, rv_c17⟩ (j_size hG (d := d - 1) hl.L) (by omega) rfl rfl (Nat.le_of_ble_eq_true rfl) dX1_begin_2_11 (fun v h' hq => ?_) (fun E h' hq => by first | exact hq.elim | cases hq.2 | cases hq.1)
      obtain ⟨rfl, hq⟩ := hq
      cases hq
      refine nv_iconst hX (m := 3) (by decide) dX1_begin_2_14 ?_
      refine nv_icmp_ge hX 22 (by omega) (by omega) dX1_begin_2_15 (by decide) (fun q => absurd q (by omega)) (fun c_15 => ?_)
      refine nv_iconst hX (m := 1) (by decide) dX1_begin_2_18 ?_
      refine rv_goto hX 23 dX1_begin_2_19 (by decide) ?_
      refine rv_invS hX iX1_114 mdX1_checkState (x_checkState hG (b := true) (d := d - 1) (by omega) (by omega) (by omega) (hS.cpre0 [] 0 rfl rfl rfl)) (by omega) rfl rfl (Nat.le_of_ble_eq_true rfl) dX1_begin_2_23 (fun v h' hq => ?_) (fun E h' hq => by exact absurd hq.2.1 (by decide))
      obtain ⟨-, rfl, rfl⟩ := hq
      refine rv_aload_n hX dX1_begin_2_26 rfl ?_
      refine rv_getfR hX gX1_30_X1 (hS.mc (k := 0) rfl) rfl dX1_begin_2_27 ?_
      refine rv_aload_n hX dX1_begin_2_30 rfl ?_
      refine rv_getfR hX gX1_21_X1 (hS.mc (k := 0) rfl) rfl dX1_begin_2_31 ?_
      refine rv_invVR hX iX1_42 mdJ2_add l9 ⟨TJ2, 3, rv_c17⟩ (j_addG hG (d := d - 1) (by omega) h4 (by omega) (xlel_of hwse hS0.1) ((xElm.w (h2 wd _ h3)).el hS0.1) ((xElm.w (h2 wd _ h3)).ne (hS0.pick (j := 1) rfl).1) (fun e he => (hwse e he).ne (hS0.pick (j := 1) rfl).1) (by omega) (by omega) (hS0.pick (j := 1) rfl).1) (by omega) rfl rfl (Nat.le_of_ble_eq_true rfl) dX1_begin_2_34 (fun v h' hq => ?_) (fun E h' hq => by first | exact hq.elim | cases hq.2 | cases hq.1)
      obtain ⟨Nb', hu, hNb', hQ⟩ := hq
      cases hu
      have hS := (hS0.pick (j := 1) rfl).2 _ _ _ _ hQ
      have hl8 := hNb'.rd hG hS.1 (xflat_mem (Ls := [[(xo, cO 0 [.ref wd, .null, .ref bg, rv, rw1, lv, .int lf])], Nb', Nd]) (j := 1) rfl)
      obtain ⟨m8, e8, c8, f8, l8, -⟩ := id hl8
      refine rv_pop hX dX1_begin_2_37 rfl ?_
      refine rv_aload_n hX dX1_begin_2_38 rfl ?_
      refine rv_getfR hX gX1_30_X1 (hS.mc (k := 0) rfl) rfl dX1_begin_2_39 ?_
      refine rv_invVR hX iX1_58 mdJ2_size l8 ⟨TJ2, 3, rv_c17⟩ (j_size hG (d := d - 1) hl8.L) (by omega) rfl rfl (Nat.le_of_ble_eq_true rfl) dX1_begin_2_42 (fun v h' hq => ?_) (fun E h' hq => by first | exact hq.elim | cases hq.2 | cases hq.1)
      obtain ⟨rfl, hq⟩ := hq
      cases hq
      rw [List.length_append, List.length_singleton, h5]
      refine rv_ireturn hX hE rfl ?_ dX1_begin_2_45
      refine ⟨F, (xo, cO 0 [.ref wd, .null, .ref bg, rv, rw1, lv, .int lf]) :: (Nb' ++ Nd), .rf, ?_, (hS.perm (by simp)).bud (by omega) (by omega), by rw [ho], by rw [ho]; rfl⟩
      rw [ho]
      refine ⟨wd, bg, _, rv, rw1, lv, lf, Nb', Nd, ws ++ [wd], Wg, rfl, ⟨h2, h3⟩, ⟨hNb', by (show (ws ++ [wd]).length = (s.b ++ [s.w]).length); rw [List.length_append, List.length_append, h5]; rfl, fun i a w q1 q2 => ?_⟩, h7, h8⟩
      have q2' : (s.b ++ [s.w])[i]? = some w := q2
      by_cases hi : i < s.b.length
      · rw [List.getElem?_append_left (by omega)] at q1
        rw [List.getElem?_append_left hi] at q2'
        exact h6 i a w q1 q2'
      · have hl2 := (List.getElem?_eq_some_iff.mp q2').1
        rw [List.length_append, List.length_singleton] at hl2
        have e : i = s.b.length := by omega
        subst e
        rw [List.getElem?_append_right (Nat.le_refl _), Nat.sub_self] at q2'
        rw [List.getElem?_append_right (by omega), h5, Nat.sub_self] at q1
        cases q1
        cases q2'
        exact h3
  · have ho : o_begin s = (1, 0, s) := by unfold o_begin; rw [if_pos (Or.inl (by omega))]
    refine rv_aload_n hX dX1_begin_2_0 rfl ?_
    refine rv_getfR hX gX1_162_X1 (hS.mc (k := 0) rfl) rfl dX1_begin_2_1 ?_
    refine rv_ifnonnull hX 22 dX1_begin_2_4 (by decide) ?_
    refine nv_iconst hX (m := 0) (by decide) dX1_begin_2_22 ?_
    refine rv_invS hX iX1_114 mdX1_checkState (x_checkState hG (b := false) (d := d - 1) (by omega) (by omega) (by omega) (hS.cpre0 [] 0 rfl rfl rfl)) (by omega) rfl rfl (Nat.le_of_ble_eq_true rfl) dX1_begin_2_23 (fun v h' hq => ?_) (fun E h' hq => by exact rv_out hX hE (fun x hx => by cases hx) (thr ho E h' hq))
    obtain ⟨hb, rfl, rfl⟩ := hq
    exact absurd hb (by decide)
theorem x_commit {G : rv_G} (hG : rv_GK G) {d xo n m N : Nat} {s : wS} {M : xM} {F : xF} {h : rv_H} (hd : 12 ≤ d) (hSt : xSt G F xo s M) (hw : wfS N s) (hn : 40000 ≤ n) (hm : 200000 ≤ m) (hH : xH G F M n m h) : rv_Call G d yX1_commit wX1_commit [.ref xo] h (xOq G F xo (xad M) n m h [RJ18] false (o_commit s)) := by
  refine rv_start hG (by decide +kernel) (L := [some (.ref xo)]) rfl (Nat.le_of_ble_eq_true rfl) (fun X hX1 hX hE => ?_)
  subst hX1
  have hSt0 := hSt
  obtain ⟨wd, bg, dv, rv, rw1, lv, lf, Nb, Nd, ws, Wg, rfl, ⟨h2, h3⟩, ⟨h4, h5, h6⟩, h7, h8⟩ := hSt
  have hS0 : xS X.1 F h (xo :: xad (Nb ++ Nd)) ([[(xo, cO 0 [.ref wd, dv, .ref bg, rv, rw1, lv, .int lf])], Nb, Nd].flatten) n m h := hH.start.perm (by simp)
  have hS1 : xS X.1 F h (xo :: xad (Nb ++ Nd)) ([(xo, cO 0 [.ref wd, dv, .ref bg, rv, rw1, lv, .int lf])] ++ (Nb ++ Nd)) n m h := hH.start
  have hS : xS X.1 F h [xo] [(xo, cO 0 [.ref wd, dv, .ref bg, rv, rw1, lv, .int lf])] n m h := hS1.foc
  have hl := h4.rd hG hS0.1 (xflat_mem (j := 1) rfl)
  obtain ⟨m9, e9, c9, f9, l9, -⟩ := id hl
  have hb3 := hw.2.2.1
  have hwse : ∀ e, e ∈ ws → xElm X.1 F e := fun e he => by
    obtain ⟨i, hi⟩ := List.getElem?_of_mem he
    have hil := (List.getElem?_eq_some_iff.mp hi).1
    have hib : i < s.b.length := by omega
    exact .w (h2 e _ (h6 i e s.b[i] hi (List.getElem?_eq_getElem hib)))
  have thr : o_commit s = (1, 0, s) → ∀ (E : String) (h' : rv_H), E = RJ18 ∧ false = false ∧ xS X.1 F h [] [] (n - 1) (m - 6) h' → xOq X.1 F xo (xo :: xad (Nb ++ Nd)) n m h [RJ18] false (o_commit s) (.inr E) h' := fun ho E h' hq => xOq.thr (i := 0) (by rw [ho]; exact ⟨rfl, rfl⟩) (by rw [hq.1]; rfl) hSt0 (hS1.unf0 (hS.cpost0 [] 0 rfl rfl rfl hq.2.2)) (by omega) (by omega)
  rcases h7.null with ⟨hk0, rfl⟩ | ⟨hk0, cl, rfl⟩
  · by_cases h00 : s.b.length = 0
    · have ho : o_commit s = (1, 0, s) := by
        unfold o_commit
        rw [if_pos (Or.inr h00)]
      refine rv_aload_n hX dX1_commit_0 rfl ?_
      refine rv_getfR hX gX1_162_X1 (hS.mc (k := 0) rfl) rfl dX1_commit_1 ?_
      refine rv_ifnonnullN hX dX1_commit_4 ?_
      refine rv_aload_n hX dX1_commit_7 rfl ?_
      refine rv_getfR hX gX1_30_X1 (hS.mc (k := 0) rfl) rfl dX1_commit_8 ?_
      refine rv_invVR hX iX1_230 mdJ2_isEmpty l9 ⟨TJ2, 3, rv_c17⟩ (j_isEmpty hG (d := d - 1) hl.L) (by omega) rfl rfl (Nat.le_of_ble_eq_true rfl) dX1_commit_11 (fun v h' hq => ?_) (fun E h' hq => by first | exact hq.elim | cases hq.2 | cases hq.1)
      obtain ⟨rfl, hq⟩ := hq
      cases hq
      rw [show decide (ws.length = 0) = true from decide_eq_true (by omega)]
      refine rv_if_ne hX 21 dX1_commit_14 (by decide) (fun c_14 => ?_) (fun q => absurd q (by decide))
      refine nv_iconst hX (m := 0) (by decide) dX1_commit_21 ?_
      refine rv_invS hX iX1_114 mdX1_checkState (x_checkState hG (b := false) (d := d - 1) (by omega) (by omega) (by omega) (hS.cpre0 [] 0 rfl rfl rfl)) (by omega) rfl rfl (Nat.le_of_ble_eq_true rfl) dX1_commit_22 (fun v h' hq => ?_) (fun E h' hq => by exact rv_out hX hE (fun x hx => by cases hx) (thr ho E h' hq))
      obtain ⟨hb, rfl, rfl⟩ := hq
      exact absurd hb (by decide)
    · obtain ⟨wl, hwl⟩ : ∃ wl, s.b[s.b.length - 1]? = some wl := ⟨_, List.getElem?_eq_getElem (by omega)⟩
      obtain ⟨el, hel⟩ : ∃ el, ws[s.b.length - 1]? = some el := ⟨_, List.getElem?_eq_getElem (by omega)⟩
      have hWl := h6 _ _ _ hel hwl
      have hlen1 : (ws.eraseIdx (s.b.length - 1)).length = s.b.length - 1 := by rw [List.length_eraseIdx_of_lt (by omega)]; omega
      have hkp : ∀ (i a : Nat) (w : wW), (ws.eraseIdx (s.b.length - 1))[i]? = some a → s.b.dropLast[i]? = some w → Wg a = some w := fun i a w q1 q2 => by
        have hi := (List.getElem?_eq_some_iff.mp q1).1
        rw [List.getElem?_eraseIdx, if_pos (by omega)] at q1
        rw [List.getElem?_dropLast, if_pos (by omega)] at q2
        exact h6 i a w q1 q2
      have hlen2 : (ws.eraseIdx (s.b.length - 1)).length = s.b.dropLast.length := by rw [hlen1, List.length_dropLast]
      have ho : o_commit s = (0, nI (s.b.length - 1), s.setb s.b.dropLast) := by unfold o_commit; rw [if_neg (by omega)]
      refine rv_aload_n hX dX1_commit_0 rfl ?_
      refine rv_getfR hX gX1_162_X1 (hS.mc (k := 0) rfl) rfl dX1_commit_1 ?_
      refine rv_ifnonnullN hX dX1_commit_4 ?_
      refine rv_aload_n hX dX1_commit_7 rfl ?_
      refine rv_getfR hX gX1_30_X1 (hS.mc (k := 0) rfl) rfl dX1_commit_8 ?_
      refine rv_invVR hX iX1_230 mdJ2_isEmpty l9 ⟨TJ2, 3, rv_c17⟩ (j_isEmpty hG (d := d - 1) hl.L) (by omega) rfl rfl (Nat.le_of_ble_eq_true rfl) dX1_commit_11 (fun v h' hq => ?_) (fun E h' hq => by first | exact hq.elim | cases hq.2 | cases hq.1)
      obtain ⟨rfl, hq⟩ := hq
      cases hq
      rw [show decide (ws.length = 0) = false from decide_eq_false (by omega)]
      refine rv_if_ne hX 21 dX1_commit_14 (by decide) (fun q => absurd rfl q) (fun c_14 => ?_)
      refine nv_iconst hX (m := 1) (by decide) dX1_commit_17 ?_
      refine rv_goto hX 22 dX1_commit_18 (by decide) ?_
      refine rv_invS hX iX1_114 mdX1_checkState (x_checkState hG (b := true) (d := d - 1) (by omega) (by omega) (by omega) (hS.cpre0 [] 0 rfl rfl rfl)) (by omega) rfl rfl (Nat.le_of_ble_eq_true rfl) dX1_commit_22 (fun v h' hq => ?_) (fun E h' hq => by exact absurd hq.2.1 (by decide))
      obtain ⟨-, rfl, rfl⟩ := hq
      refine rv_aload_n hX dX1_commit_25 rfl ?_
      refine rv_getfR hX gX1_30_X1 (hS.mc (k := 0) rfl) rfl dX1_commit_26 ?_
      refine rv_aload_n hX dX1_commit_29 rfl ?_
      refine rv_getfR hX gX1_30_X1 (hS.mc (k := 0) rfl) rfl dX1_commit_30 ?_
      refine rv_invVR hX iX1_58 mdJ2_size l9 ⟨TJ2, 3, rv_c17⟩ (j_size hG (d := d - 1) hl.L) (by omega) rfl rfl (Nat.le_of_ble_eq_true rfl) dX1_commit_33 (fun v h' hq => ?_) (fun E h' hq => by first | exact hq.elim | cases hq.2 | cases hq.1)
      obtain ⟨rfl, hq⟩ := hq
      cases hq
      rw [h5]
      refine nv_iconst hX (m := 1) (by decide) dX1_commit_36 ?_
      first | refine nv_isub hX (by omega) dX1_commit_37 ?_ | refine rv_isub hX dX1_commit_37 ?_
      refine rv_invVR hX iX1_140 mdJ2_remove l9 ⟨TJ2, 3, rv_c17⟩ (j_removeA hG (d := d - 1) (by omega) h4 hel hwse (hS0.pick (j := 1) rfl).1) (by omega) rfl rfl (Nat.le_of_ble_eq_true rfl) dX1_commit_38 (fun v h' hq => ?_) (fun E h' hq => by first | exact hq.elim | cases hq.2 | cases hq.1)
      obtain ⟨Nb', hu, hNb', hQ⟩ := hq
      cases hu
      have hS := (hS0.pick (j := 1) rfl).2 _ _ _ _ hQ
      have hl8 := hNb'.rd hG hS.1 (xflat_mem (Ls := [[(xo, cO 0 [.ref wd, .null, .ref bg, rv, rw1, lv, .int lf])], Nb', Nd]) (j := 1) rfl)
      obtain ⟨m8, e8, c8, f8, l8, -⟩ := id hl8
      refine rv_pop hX dX1_commit_41 rfl ?_
      refine rv_aload_n hX dX1_commit_42 rfl ?_
      refine rv_getfR hX gX1_30_X1 (hS.mc (k := 0) rfl) rfl dX1_commit_43 ?_
      refine rv_invVR hX iX1_58 mdJ2_size l8 ⟨TJ2, 3, rv_c17⟩ (j_size hG (d := d - 1) hl8.L) (by omega) rfl rfl (Nat.le_of_ble_eq_true rfl) dX1_commit_46 (fun v h' hq => ?_) (fun E h' hq => by first | exact hq.elim | cases hq.2 | cases hq.1)
      obtain ⟨rfl, hq⟩ := hq
      cases hq
      rw [hlen1]
      refine rv_ireturn hX hE rfl ?_ dX1_commit_49
      refine ⟨F, (xo, cO 0 [.ref wd, .null, .ref bg, rv, rw1, lv, .int lf]) :: (Nb' ++ Nd), .rf, ?_, (hS.perm (by simp)).bud (by omega) (by omega), by rw [ho], by rw [ho]; rfl⟩
      rw [ho]
      exact ⟨wd, bg, _, rv, rw1, lv, lf, Nb', Nd, _, Wg, rfl, ⟨h2, h3⟩, ⟨hNb', hlen2, hkp⟩, h7, h8⟩
  · have ho : o_commit s = (1, 0, s) := by
      unfold o_commit
      rw [if_pos (Or.inl (by omega))]
    refine rv_aload_n hX dX1_commit_0 rfl ?_
    refine rv_getfR hX gX1_162_X1 (hS.mc (k := 0) rfl) rfl dX1_commit_1 ?_
    refine rv_ifnonnull hX 21 dX1_commit_4 (by decide) ?_
    refine nv_iconst hX (m := 0) (by decide) dX1_commit_21 ?_
    refine rv_invS hX iX1_114 mdX1_checkState (x_checkState hG (b := false) (d := d - 1) (by omega) (by omega) (by omega) (hS.cpre0 [] 0 rfl rfl rfl)) (by omega) rfl rfl (Nat.le_of_ble_eq_true rfl) dX1_commit_22 (fun v h' hq => ?_) (fun E h' hq => by exact rv_out hX hE (fun x hx => by cases hx) (thr ho E h' hq))
    obtain ⟨hb, rfl, rfl⟩ := hq
    exact absurd hb (by decide)
theorem x_rollBack {G : rv_G} (hG : rv_GK G) {d xo n m N : Nat} {s : wS} {M : xM} {F : xF} {h : rv_H} (hd : 12 ≤ d) (hSt : xSt G F xo s M) (hw : wfS N s) (hn : 40000 ≤ n) (hm : 200000 ≤ m) (hH : xH G F M n m h) : rv_Call G d yX1_rollBack wX1_rollBack [.ref xo] h (xOq G F xo (xad M) n m h [RJ18] false (o_rollBack s)) := by
  refine rv_start hG (by decide +kernel) (L := [some (.ref xo)]) rfl (Nat.le_of_ble_eq_true rfl) (fun X hX1 hX hE => ?_)
  subst hX1
  have hSt0 := hSt
  obtain ⟨wd, bg, dv, rv, rw1, lv, lf, Nb, Nd, ws, Wg, rfl, ⟨h2, h3⟩, ⟨h4, h5, h6⟩, h7, h8⟩ := hSt
  have hS0 : xS X.1 F h (xo :: xad (Nb ++ Nd)) ([[(xo, cO 0 [.ref wd, dv, .ref bg, rv, rw1, lv, .int lf])], Nb, Nd].flatten) n m h := hH.start.perm (by simp)
  have hS1 : xS X.1 F h (xo :: xad (Nb ++ Nd)) ([(xo, cO 0 [.ref wd, dv, .ref bg, rv, rw1, lv, .int lf])] ++ (Nb ++ Nd)) n m h := hH.start
  have hS : xS X.1 F h [xo] [(xo, cO 0 [.ref wd, dv, .ref bg, rv, rw1, lv, .int lf])] n m h := hS1.foc
  have hl := h4.rd hG hS0.1 (xflat_mem (j := 1) rfl)
  obtain ⟨m9, e9, c9, f9, l9, -⟩ := id hl
  have hb3 := hw.2.2.1
  have hwse : ∀ e, e ∈ ws → xElm X.1 F e := fun e he => by
    obtain ⟨i, hi⟩ := List.getElem?_of_mem he
    have hil := (List.getElem?_eq_some_iff.mp hi).1
    have hib : i < s.b.length := by omega
    exact .w (h2 e _ (h6 i e s.b[i] hi (List.getElem?_eq_getElem hib)))
  have thr : o_rollBack s = (1, 0, s) → ∀ (E : String) (h' : rv_H), E = RJ18 ∧ false = false ∧ xS X.1 F h [] [] (n - 1) (m - 6) h' → xOq X.1 F xo (xo :: xad (Nb ++ Nd)) n m h [RJ18] false (o_rollBack s) (.inr E) h' := fun ho E h' hq => xOq.thr (i := 0) (by rw [ho]; exact ⟨rfl, rfl⟩) (by rw [hq.1]; rfl) hSt0 (hS1.unf0 (hS.cpost0 [] 0 rfl rfl rfl hq.2.2)) (by omega) (by omega)
  rcases h7.null with ⟨hk0, rfl⟩ | ⟨hk0, cl, rfl⟩
  · by_cases h00 : s.b.length = 0
    · have ho : o_rollBack s = (1, 0, s) := by
        unfold o_rollBack
        rw [if_neg (by omega), List.length_eq_zero_iff.mp h00]; rfl
      refine rv_aload_n hX dX1_rollBack_0 rfl ?_
      refine rv_getfR hX gX1_162_X1 (hS.mc (k := 0) rfl) rfl dX1_rollBack_1 ?_
      refine rv_ifnonnullN hX dX1_rollBack_4 ?_
      refine rv_aload_n hX dX1_rollBack_7 rfl ?_
      refine rv_getfR hX gX1_30_X1 (hS.mc (k := 0) rfl) rfl dX1_rollBack_8 ?_
      refine rv_invVR hX iX1_230 mdJ2_isEmpty l9 ⟨TJ2, 3, rv_c17⟩ (j_isEmpty hG (d := d - 1) hl.L) (by omega) rfl rfl (Nat.le_of_ble_eq_true rfl) dX1_rollBack_11 (fun v h' hq => ?_) (fun E h' hq => by first | exact hq.elim | cases hq.2 | cases hq.1)
      obtain ⟨rfl, hq⟩ := hq
      cases hq
      rw [show decide (ws.length = 0) = true from decide_eq_true (by omega)]
      refine rv_if_ne hX 21 dX1_rollBack_14 (by decide) (fun c_14 => ?_) (fun q => absurd q (by decide))
      refine nv_iconst hX (m := 0) (by decide) dX1_rollBack_21 ?_
      refine rv_invS hX iX1_114 mdX1_checkState (x_checkState hG (b := false) (d := d - 1) (by omega) (by omega) (by omega) (hS.cpre0 [] 0 rfl rfl rfl)) (by omega) rfl rfl (Nat.le_of_ble_eq_true rfl) dX1_rollBack_22 (fun v h' hq => ?_) (fun E h' hq => by exact rv_out hX hE (fun x hx => by cases hx) (thr ho E h' hq))
      obtain ⟨hb, rfl, rfl⟩ := hq
      exact absurd hb (by decide)
    · obtain ⟨wl, hwl⟩ : ∃ wl, s.b[s.b.length - 1]? = some wl := ⟨_, List.getElem?_eq_getElem (by omega)⟩
      obtain ⟨el, hel⟩ : ∃ el, ws[s.b.length - 1]? = some el := ⟨_, List.getElem?_eq_getElem (by omega)⟩
      have hWl := h6 _ _ _ hel hwl
      have hlen1 : (ws.eraseIdx (s.b.length - 1)).length = s.b.length - 1 := by rw [List.length_eraseIdx_of_lt (by omega)]; omega
      have hkp : ∀ (i a : Nat) (w : wW), (ws.eraseIdx (s.b.length - 1))[i]? = some a → s.b.dropLast[i]? = some w → Wg a = some w := fun i a w q1 q2 => by
        have hi := (List.getElem?_eq_some_iff.mp q1).1
        rw [List.getElem?_eraseIdx, if_pos (by omega)] at q1
        rw [List.getElem?_dropLast, if_pos (by omega)] at q2
        exact h6 i a w q1 q2
      have hlen2 : (ws.eraseIdx (s.b.length - 1)).length = s.b.dropLast.length := by rw [hlen1, List.length_dropLast]
      have ho : o_rollBack s = (0, nI wl.F.length, (s.setw wl).setb s.b.dropLast) := by
        unfold o_rollBack
        rw [if_neg (by omega), List.getLast?_eq_getElem?, hwl]
      obtain ⟨rel, ta, st, tg, ru, de, fi, sk, tf, r, ps, w1, -, -, ⟨fan, far, fnf, frf, l3, -⟩, -⟩ := id (h2 el wl hWl)
      refine rv_aload_n hX dX1_rollBack_0 rfl ?_
      refine rv_getfR hX gX1_162_X1 (hS.mc (k := 0) rfl) rfl dX1_rollBack_1 ?_
      refine rv_ifnonnullN hX dX1_rollBack_4 ?_
      refine rv_aload_n hX dX1_rollBack_7 rfl ?_
      refine rv_getfR hX gX1_30_X1 (hS.mc (k := 0) rfl) rfl dX1_rollBack_8 ?_
      refine rv_invVR hX iX1_230 mdJ2_isEmpty l9 ⟨TJ2, 3, rv_c17⟩ (j_isEmpty hG (d := d - 1) hl.L) (by omega) rfl rfl (Nat.le_of_ble_eq_true rfl) dX1_rollBack_11 (fun v h' hq => ?_) (fun E h' hq => by first | exact hq.elim | cases hq.2 | cases hq.1)
      obtain ⟨rfl, hq⟩ := hq
      cases hq
      rw [show decide (ws.length = 0) = false from decide_eq_false (by omega)]
      refine rv_if_ne hX 21 dX1_rollBack_14 (by decide) (fun q => absurd rfl q) (fun c_14 => ?_)
      refine nv_iconst hX (m := 1) (by decide) dX1_rollBack_17 ?_
      refine rv_goto hX 22 dX1_rollBack_18 (by decide) ?_
      refine rv_invS hX iX1_114 mdX1_checkState (x_checkState hG (b := true) (d := d - 1) (by omega) (by omega) (by omega) (hS.cpre0 [] 0 rfl rfl rfl)) (by omega) rfl rfl (Nat.le_of_ble_eq_true rfl) dX1_rollBack_22 (fun v h' hq => ?_) (fun E h' hq => by exact absurd hq.2.1 (by decide))
      obtain ⟨-, rfl, rfl⟩ := hq
      refine rv_aload_n hX dX1_rollBack_25 rfl ?_
      refine rv_aload_n hX dX1_rollBack_26 rfl ?_
      refine rv_getfR hX gX1_30_X1 (hS.mc (k := 0) rfl) rfl dX1_rollBack_27 ?_
      refine rv_aload_n hX dX1_rollBack_30 rfl ?_
      refine rv_getfR hX gX1_30_X1 (hS.mc (k := 0) rfl) rfl dX1_rollBack_31 ?_
      refine rv_invVR hX iX1_58 mdJ2_size l9 ⟨TJ2, 3, rv_c17⟩ (j_size hG (d := d - 1) hl.L) (by omega) rfl rfl (Nat.le_of_ble_eq_true rfl) dX1_rollBack_34 (fun v h' hq => ?_) (fun E h' hq => by first | exact hq.elim | cases hq.2 | cases hq.1)
      obtain ⟨rfl, hq⟩ := hq
      cases hq
      rw [h5]
      refine nv_iconst hX (m := 1) (by decide) dX1_rollBack_37 ?_
      first | refine nv_isub hX (by omega) dX1_rollBack_38 ?_ | refine rv_isub hX dX1_rollBack_38 ?_
      refine rv_invVR hX iX1_140 mdJ2_remove l9 ⟨TJ2, 3, rv_c17⟩ (j_removeA hG (d := d - 1) (by omega) h4 hel hwse (hS0.pick (j := 1) rfl).1) (by omega) rfl rfl (Nat.le_of_ble_eq_true rfl) dX1_rollBack_39 (fun v h' hq => ?_) (fun E h' hq => by first | exact hq.elim | cases hq.2 | cases hq.1)
      obtain ⟨Nb', hu, hNb', hQ⟩ := hq
      cases hu
      have hS := (hS0.pick (j := 1) rfl).2 _ _ _ _ hQ
      refine rv_castOR hX (hS.f w1) rv_c1 q173 dX1_rollBack_42 ?_
      refine xv_putf hX hS (k := 0) rfl pX1_21_X1 (fun q => by cases q) rfl rfl rfl dX1_rollBack_45 (fun h_45 hS => ?_)
      refine rv_aload_n hX dX1_rollBack_48 rfl ?_
      refine rv_getfR hX gX1_21_X1 (hS.mc (k := 0) rfl) rfl dX1_rollBack_49 ?_
      refine rv_getfR hX gX1_105_X2 (hS.f w1) rfl dX1_rollBack_52 ?_
      refine rv_getfR hX gX1_109_X3 (hS.f l3) rfl dX1_rollBack_55 ?_
      refine rv_ireturn hX hE rfl ?_ dX1_rollBack_58
      have hS : xS X.1 F _ _ ([[(xo, cO 0 [.ref el, .null, .ref bg, rv, rw1, lv, .int lf])], Nb', Nd].flatten) _ _ _ := hS
      refine ⟨F, (xo, cO 0 [.ref el, .null, .ref bg, rv, rw1, lv, .int lf]) :: (Nb' ++ Nd), .rf, ?_, (hS.perm (by simp)).bud (by omega) (by omega), by rw [ho], by rw [ho]; rfl⟩
      rw [ho]
      exact ⟨el, bg, _, rv, rw1, lv, lf, Nb', Nd, _, Wg, rfl, ⟨h2, hWl⟩, ⟨hNb', hlen2, hkp⟩, h7.elim (fun q => Or.inl q) (fun q => absurd hk0 q.1), h8⟩
  · have ho : o_rollBack s = (1, 0, s) := by
      unfold o_rollBack
      rw [if_pos (by omega)]
    refine rv_aload_n hX dX1_rollBack_0 rfl ?_
    refine rv_getfR hX gX1_162_X1 (hS.mc (k := 0) rfl) rfl dX1_rollBack_1 ?_
    refine rv_ifnonnull hX 21 dX1_rollBack_4 (by decide) ?_
    refine nv_iconst hX (m := 0) (by decide) dX1_rollBack_21 ?_
    refine rv_invS hX iX1_114 mdX1_checkState (x_checkState hG (b := false) (d := d - 1) (by omega) (by omega) (by omega) (hS.cpre0 [] 0 rfl rfl rfl)) (by omega) rfl rfl (Nat.le_of_ble_eq_true rfl) dX1_rollBack_22 (fun v h' hq => ?_) (fun E h' hq => by exact rv_out hX hE (fun x hx => by cases hx) (thr ho E h' hq))
    obtain ⟨hb, rfl, rfl⟩ := hq
    exact absurd hb (by decide)
