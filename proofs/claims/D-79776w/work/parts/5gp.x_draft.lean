/-! THE SYSTEM: rules and deeds begun -/
set_option maxRecDepth 100000
theorem x_cancel {G : rv_G} (hG : rv_GK G) {d xo n m N : Nat} {s : wS} {M : xM} {F : xF} {h : rv_H} (hSt : xSt G F xo s M) (hw : wfS N s) (hn : 40000 ≤ n) (hm : 200000 ≤ m) (hH : xH G F M n m h) : rv_Call G d yX1_cancel wX1_cancel [.ref xo] h (xOq G F xo (xad M) n m h [] false (o_cancel s)) := by
  refine rv_start hG (by decide +kernel) (L := [some (.ref xo), none]) rfl (Nat.le_of_ble_eq_true rfl) (fun X hX1 hX hE => ?_)
  subst hX1
  obtain ⟨wd, bg, dv, rv, rw1, lv, lf, Nb, Nd, ws, Wg, rfl, ⟨h2, h3⟩, ⟨h4, h5, h6⟩, h7, h8⟩ := hSt
  have hS0 : xS X.1 F h (xo :: xad (Nb ++ Nd)) ([(xo, cO 0 [.ref wd, dv, .ref bg, rv, rw1, lv, .int lf])] ++ (Nb ++ Nd)) n m h := hH.start
  have hS : xS X.1 F h [xo] [(xo, cO 0 [.ref wd, dv, .ref bg, rv, rw1, lv, .int lf])] n m h := hS0.foc
  have fin : ∀ (b : Bool) (h1 : rv_H), b = decide (0 < s.d.k) → xS X.1 F h [xo] [(xo, cO 0 [.ref wd, .null, .ref bg, rv, rw1, lv, .int lf])] n m h1 → xOq X.1 F xo (xo :: xad (Nb ++ Nd)) n m h [] false (o_cancel s) (.inl (some (.int (rv_z b)))) h1 := fun b h1 hb hS => by
    refine ⟨F, (xo, cO 0 [.ref wd, .null, .ref bg, rv, rw1, lv, .int lf]) :: (Nb ++ []), .rf, ⟨wd, bg, .null, rv, rw1, lv, lf, Nb, [], ws, Wg, rfl, ⟨h2, h3⟩, ⟨h4, h5, h6⟩, Or.inl ⟨rfl, rfl, rfl⟩, h8⟩, ((hS0.unf0 hS).drop ?_).bud (by omega) (by omega), rfl, by rw [hb]; rfl⟩
    exact List.Sublist.cons₂ _ (show (Nb ++ [] : xM).Sublist (Nb ++ Nd) from List.Sublist.append (List.Sublist.refl _) (List.nil_sublist _))
  rcases h7.null with ⟨hk0, rfl⟩ | ⟨hk0, cl, rfl⟩
  · skip
    refine rv_aload_n hX dX1_cancel_0 rfl ?_
    refine rv_getfR hX gX1_162_X1 (hS.mc (k := 0) rfl) rfl dX1_cancel_1 ?_
    refine rv_ifnullN hX 11 dX1_cancel_4 (by decide) ?_
    refine nv_iconst hX (m := 0) (by decide) dX1_cancel_11 ?_
    refine rv_istore_n hX dX1_cancel_12 (rv_st_1 rfl) ?_
    refine rv_aload_n hX dX1_cancel_13 rfl ?_
    refine rv_null hX dX1_cancel_14 ?_
    refine xv_putf hX hS (k := 0) rfl pX1_162_X1 (fun q => by cases q) rfl rfl rfl dX1_cancel_15 (fun h_15 hS => ?_)
    refine rv_iload_n hX dX1_cancel_18 rfl ?_
    refine rv_ireturn hX hE rfl ?_ dX1_cancel_19
    exact fin false _ (decide_eq_false (by omega)).symm hS
  · skip
    refine rv_aload_n hX dX1_cancel_0 rfl ?_
    refine rv_getfR hX gX1_162_X1 (hS.mc (k := 0) rfl) rfl dX1_cancel_1 ?_
    refine rv_ifnull hX dX1_cancel_4 ?_
    refine nv_iconst hX (m := 1) (by decide) dX1_cancel_7 ?_
    refine rv_goto hX 12 dX1_cancel_8 (by decide) ?_
    refine rv_istore_n hX dX1_cancel_12 (rv_st_1 rfl) ?_
    refine rv_aload_n hX dX1_cancel_13 rfl ?_
    refine rv_null hX dX1_cancel_14 ?_
    refine xv_putf hX hS (k := 0) rfl pX1_162_X1 (fun q => by cases q) rfl rfl rfl dX1_cancel_15 (fun h_15 hS => ?_)
    refine rv_iload_n hX dX1_cancel_18 rfl ?_
    refine rv_ireturn hX hE rfl ?_ dX1_cancel_19
    exact fin true _ (decide_eq_true (by omega)).symm hS
theorem x_head {G : rv_G} (hG : rv_GK G) {d xo wd n m : Nat} {f : Int32} (hd : 9 ≤ d) {a1 a2 a3 a4 a5 a6 : Value} {w : wW} {F : xF} {h : rv_H} (hX0 : xr G F xo (cO 0 [.ref wd, a1, a2, a3, a4, a5, a6])) (hW : xW G (xr G F) wd w) (hS8 : w.S.length ≤ 8 ∧ ∀ n, n ∈ w.S → 1 ≤ n ∧ n ≤ 3) (hn : 2 ≤ n) (hm : 10 ≤ m) (hH : xH G F [] n m h) : rv_Call G d yX1_head wX1_head [.ref xo, .int f] h (xT (fun u h' => ∃ i tm k, w_idx f w.S.length = some k ∧ u = some (.ref i) ∧ xS G F h [] [(i, cO 10 [.int (nI 0), .int (nI k), .ref tm, .int (nI 0)]), (tm, cI (w.S.getD k 0) (fun _ => 0))] (n - 2) (m - 10) h') (fun E h' => E = RJ19 ∧ w_idx f w.S.length = none ∧ xS G F h [] [] (n - 1) (m - 6) h')) := by
  refine rv_start hG (by decide +kernel) (L := [some (.ref xo), some (.int f)]) rfl (Nat.le_of_ble_eq_true rfl) (fun X hX1 hX hE => ?_)
  subst hX1
  have hS := hH.start
  obtain ⟨rel, ta, st, tg, ru, de, fi, sk, tf, r, ps, w1, ⟨es, hL, hes⟩, -⟩ := id hW
  obtain ⟨lm, led, lcap, lf, l1, l2⟩ := id hL
  refine rv_aload_n hX dX1_head_0 rfl ?_
  refine rv_iload_n hX dX1_head_1 rfl ?_
  refine rv_invVR hX iX1_166 mdX1_checkRelation (hS.f hX0) ⟨TX1, 7, rv_c0⟩ (x_checkRelation hG (d := d - 1) (by omega) hX0 hW hS8 (by omega) (by omega) hS.1) (by omega) rfl rfl (Nat.le_of_ble_eq_true rfl) dX1_head_2 (fun v h' hq => ?_) (fun E h' hq => by exact rv_out hX hE (fun x hx => by cases hx) ⟨hq.1, hq.2.1, hq.2.2⟩)
  obtain ⟨⟨k, hk⟩, rfl, rfl⟩ := hq
  obtain ⟨hk1, rfl⟩ := w_idx_some (by omega) hk
  obtain ⟨x, hx⟩ : ∃ x, w.S[k]? = some x := ⟨_, List.getElem?_eq_getElem hk1⟩
  have hx3 := hS8.2 x (List.mem_of_getElem? hx)
  obtain ⟨ie, hie, hib⟩ : ∃ e, es[k]? = some e ∧ rv_bx X.1 e x := by
    have hl2 : k < es.length := by rw [hes.1]; exact hk1
    exact ⟨es[k], List.getElem?_eq_getElem hl2, hes.2 k _ x (List.getElem?_eq_getElem hl2) hx⟩
  refine xv_new hX hS nX1_169 (by omega) (show 4 ≤ _ by omega) dX1_head_5 (fun a_5 h_5 hS => ?_)
  have hS := hS.bud (Nat.le_refl _) (show _ - 4 ≤ _ from Nat.le_refl _)
  refine rv_dup hX dX1_head_8 rfl ?_
  refine nv_iconst hX (m := 0) (by decide) dX1_head_9 ?_
  refine rv_iload_n hX dX1_head_10 rfl ?_
  refine rv_aload_n hX dX1_head_11 rfl ?_
  refine rv_getfR hX gX1_21_X1 (hS.f hX0) rfl dX1_head_12 ?_
  refine rv_getfR hX gX1_55_X2 (hS.f w1) rfl dX1_head_15 ?_
  refine rv_iload_n hX dX1_head_18 rfl ?_
  refine rv_invVR hX iX1_70 mdJ2_get (hS.f l1) ⟨TJ2, 3, rv_c17⟩ (j_get hG (d := d - 1) (by omega) (hL.mono (fun _ _ => hS.f)).L hie) (by omega) rfl rfl (Nat.le_of_ble_eq_true rfl) dX1_head_19 (fun v h' hq => ?_) (fun E h' hq => by first | exact hq.elim | cases hq.2 | cases hq.1)
  obtain ⟨rfl, hq⟩ := hq
  cases hq
  refine rv_castOR hX (show rv_rd X.1 _ ie (cO 20 [.int (nI x)]) from Or.inr hib) rv_c20 q839 dX1_head_22 ?_
  refine rv_invVR hX iX1_74 mdJ17_intValue (show rv_rd X.1 _ ie (cO 20 [.int (nI x)]) from Or.inr hib) ⟨TJ17, 1, rv_c20⟩ (j_intValue hG (d := d - 1) (Or.inr hib)) (by omega) rfl rfl (Nat.le_of_ble_eq_true rfl) dX1_head_25 (fun v h' hq => ?_) (fun E h' hq => by cases hq.2)
  obtain ⟨rfl, hq⟩ := hq
  cases hq
  refine rv_invI hX iX1_171 mdX11_init rfl (x_item hG (kind := 0) (what := k) (z := x) (d := d - 1) (by omega) (by omega) (by omega) (by omega) (hS.cpre0 [1] 0 rfl rfl rfl)) (by omega) rfl rfl (Nat.le_of_ble_eq_true rfl) dX1_head_28 (fun v h' hq => ?_) (fun E h' hq => by first | exact hq.elim | cases hq.2 | cases hq.1)
  obtain ⟨tm, hu, hQ⟩ := hq
  have hS := hS.cpost0 [1] 0 rfl rfl rfl hQ
  cases hu
  refine rv_areturn hX hE (Or.inl ⟨_, rfl⟩) (Or.inr ⟨_, rfl⟩) ?_ dX1_head_31
  refine ⟨_, tm, k, hk, rfl, ?_⟩
  rw [sp_getD hx]
  exact hS.bud (by omega) (by omega)
theorem x_clauseInit {G : rv_G} (hG : rv_GK G) {d a hd0 n m : Nat} {b tl : Bool} {md sal : Int32} (hd : 4 ≤ d) {F : xF} {h : rv_H} (hn : 2 ≤ n) (hm : 20 ≤ m) (hH : xH G F [(a, cO 9 [.int 0, .null, .int 0, .int 0, .null, .int 0, .int 0, .int 0, .int 0])] n m h) : rv_Call G d yX10_init wX10_init [.ref a, .ref hd0, .int (rv_z b), .int md, .int sal, .int (rv_z tl)] h (xN (fun u h' => ∃ bo ba, u = none ∧ xS G F h [a] [(a, cO 9 [.int 0, .ref hd0, .int (-1), .int 0, .ref bo, .int (rv_z b), .int md, .int sal, .int (rv_z tl)]), (bo, lO (nI 0) ba 0), (ba, cR 6 (fun _ => none))] (n - 2) (m - 20) h')) := by
  refine rv_start hG (by decide +kernel) (L := [some (.ref a), some (.ref hd0), some (.int (rv_z b)), some (.int md), some (.int sal), some (.int (rv_z tl))]) rfl (Nat.le_of_ble_eq_true rfl) (fun X hX1 hX hE => ?_)
  subst hX1
  have hS := hH.start
  refine rv_aload_n hX dX10_init_0 rfl ?_
  refine rv_objInit hX q1504 q171 q172 (by omega) (Nat.le_of_ble_eq_true rfl) dX10_init_1 ?_
  refine rv_aload_n hX dX10_init_4 rfl ?_
  refine rv_iconst hX (v := -1) dX10_init_5 (by decide) ?_
  refine xv_putf hX hS (k := 0) rfl pX10_9_X10 (fun q => by cases q) rfl rfl rfl dX10_init_6 (fun h_6 hS => ?_)
  refine rv_aload_n hX dX10_init_9 rfl ?_
  refine xv_new hX hS nX10_15 (by omega) (show 3 ≤ _ by omega) dX10_init_10 (fun a_10 h_10 hS => ?_)
  have hS := hS.bud (Nat.le_refl _) (show _ - 3 ≤ _ from Nat.le_refl _)
  refine rv_dup hX dX10_init_13 rfl ?_
  refine nv_bipush hX (m := 6) (by decide) dX10_init_14 ?_
  refine rv_invI hX iX10_17 mdJ2_init rfl (j_new hG (d := d - 1) (by omega) (by decide) (by omega) (by omega) (hS.cpre0 [0,1] 0 rfl rfl rfl)) (by omega) rfl rfl (Nat.le_of_ble_eq_true rfl) dX10_init_16 (fun v h' hq => ?_) (fun E h' hq => by first | exact hq.elim | cases hq.2 | cases hq.1)
  obtain ⟨ba, hu, hQ⟩ := hq
  have hS := hS.cpost0 [0,1] 0 rfl rfl rfl hQ
  cases hu
  refine xv_putf hX hS (k := 0) rfl pX10_20_X10 (fun _ => rfl) rfl rfl rfl dX10_init_19 (fun h_19 hS => ?_)
  refine rv_aload_n hX dX10_init_22 rfl ?_
  refine rv_aload_n hX dX10_init_23 rfl ?_
  refine xv_putf hX hS (k := 0) rfl pX10_24_X10 (fun _ => rfl) rfl rfl rfl dX10_init_24 (fun h_24 hS => ?_)
  refine rv_aload_n hX dX10_init_27 rfl ?_
  refine rv_iload_n hX dX10_init_28 rfl ?_
  refine xv_putf hX hS (k := 0) rfl pX10_28_X10 (fun _ => rfl) rfl (by first | rfl | exact rv_zn _) (by first | rfl | exact rv_zfit _) dX10_init_29 (fun h_29 hS => ?_)
  refine rv_aload_n hX dX10_init_32 rfl ?_
  refine rv_iload_n hX dX10_init_33 rfl ?_
  refine xv_putf hX hS (k := 0) rfl pX10_32_X10 (fun _ => rfl) rfl rfl rfl dX10_init_34 (fun h_34 hS => ?_)
  refine rv_aload_n hX dX10_init_37 rfl ?_
  refine rv_iload hX dX10_init_38 rfl ?_
  refine xv_putf hX hS (k := 0) rfl pX10_35_X10 (fun _ => rfl) rfl rfl rfl dX10_init_40 (fun h_40 hS => ?_)
  refine rv_aload_n hX dX10_init_43 rfl ?_
  refine rv_iload hX dX10_init_44 rfl ?_
  refine xv_putf hX hS (k := 0) rfl pX10_38_X10 (fun _ => rfl) rfl (by first | rfl | exact rv_zn _) (by first | rfl | exact rv_zfit _) dX10_init_46 (fun h_46 hS => ?_)
  refine rv_return hX hE ?_ dX10_init_49
  exact ⟨_, ba, rfl, hS.bud (by omega) (by omega)⟩
theorem x_beginC {G : rv_G} (hG : rv_GK G) {d xo wd bg cl n m : Nat} {dv rv rw1 lv : Value} {lf : Int32} (hd : 8 ≤ d) {F : xF} {h : rv_H} (hdv : dv = .null ∨ ∃ c, dv = .ref c) (hn : 1 ≤ n) (hm : 6 ≤ m) (hH : xH G F [(xo, cO 0 [.ref wd, dv, .ref bg, rv, rw1, lv, .int lf])] n m h) : rv_Call G d yX1_begin wX1_begin [.ref xo, .ref cl] h (xT (fun u h' => dv = .null ∧ u = none ∧ xS G F h [xo] [(xo, cO 0 [.ref wd, .ref cl, .ref bg, rv, rw1, lv, .int lf])] n m h') (fun E h' => E = RJ18 ∧ dv ≠ .null ∧ xS G F h [xo] [(xo, cO 0 [.ref wd, dv, .ref bg, rv, rw1, lv, .int lf])] (n - 1) (m - 6) h')) := by
  refine rv_start hG (by decide +kernel) (L := [some (.ref xo), some (.ref cl)]) rfl (Nat.le_of_ble_eq_true rfl) (fun X hX1 hX hE => ?_)
  subst hX1
  have hS := hH.start
  rcases hdv with rfl | ⟨c, rfl⟩
  · skip
    refine rv_aload_n hX dX1_begin_0 rfl ?_
    refine rv_getfR hX gX1_162_X1 (hS.mc (k := 0) rfl) rfl dX1_begin_1 ?_
    refine rv_ifnonnullN hX dX1_begin_4 ?_
    refine nv_iconst hX (m := 1) (by decide) dX1_begin_7 ?_
    refine rv_goto hX 12 dX1_begin_8 (by decide) ?_
    refine rv_invS hX iX1_114 mdX1_checkState (x_checkState hG (b := true) (d := d - 1) (by omega) (by omega) (by omega) (hS.cpre0 [] 0 rfl rfl rfl)) (by omega) rfl rfl (Nat.le_of_ble_eq_true rfl) dX1_begin_12 (fun v h' hq => ?_) (fun E h' hq => by exact absurd hq.2.1 (by decide))
    obtain ⟨-, rfl, rfl⟩ := hq
    refine rv_aload_n hX dX1_begin_15 rfl ?_
    refine rv_aload_n hX dX1_begin_16 rfl ?_
    refine xv_putf hX hS (k := 0) rfl pX1_162_X1 (fun q => by cases q) rfl rfl rfl dX1_begin_17 (fun h_17 hS => ?_)
    refine rv_return hX hE ?_ dX1_begin_20
    exact ⟨rfl, rfl, hS⟩
  · skip
    refine rv_aload_n hX dX1_begin_0 rfl ?_
    refine rv_getfR hX gX1_162_X1 (hS.mc (k := 0) rfl) rfl dX1_begin_1 ?_
    refine rv_ifnonnull hX 11 dX1_begin_4 (by decide) ?_
    refine nv_iconst hX (m := 0) (by decide) dX1_begin_11 ?_
    refine rv_invS hX iX1_114 mdX1_checkState (x_checkState hG (b := false) (d := d - 1) (by omega) (by omega) (by omega) (hS.cpre0 [] 0 rfl rfl rfl)) (by omega) rfl rfl (Nat.le_of_ble_eq_true rfl) dX1_begin_12 (fun v h' hq => ?_) (fun E h' hq => by exact rv_out hX hE (fun x hx => by cases hx) ⟨hq.1, (fun e => by cases e), hS.cpost0 [] 0 rfl rfl rfl hq.2.2⟩)
    obtain ⟨hb, rfl, rfl⟩ := hq
    exact absurd hb (by decide)
theorem xS.newd {G : rv_G} {F : xF} {h0 h : rv_H} {A : List Nat} {q : Nat × rv_C} {L Nb Nd : xM} {n m : Nat} (hS : xS G F h0 A ((q :: L) ++ (Nb ++ Nd)) n m h) : xS G F h0 A (q :: (Nb ++ L)) n m h := by
  have h1 : ((q :: L) ++ (Nb ++ Nd)).Perm (q :: ((Nb ++ L) ++ Nd)) := by
    refine List.Perm.cons _ ?_
    rw [List.append_assoc]
    exact List.perm_append_comm_assoc _ _ _
  exact (hS.perm h1).drop (List.Sublist.cons₂ _ (List.sublist_append_left _ _))
theorem xSt.draft {G : rv_G} {F : xF} {xo wd bg : Nat} {s : wS} {d' : wDr} {dv dv' rv rw lv : Value} {lf : Int32} {Nb Nd Nd' : xM} {ws : List Nat} {Wg : Nat → Option wW} (h2 : (∀ a w, Wg a = some w → xW G (xr G F) a w) ∧ Wg wd = some s.w) (h4 : xAL G bg ws Nb ∧ ws.length = s.b.length ∧ ∀ (i a : Nat) (w : wW), ws[i]? = some a → s.b[i]? = some w → Wg a = some w) (h8 : rw = .null ∨ ∃ w0 w, rw = .ref w0 ∧ Wg w0 = some w ∧ xRz G (xr G F) w rv lv lf) (hD : xDr s.w.S d' dv' Nd') : xSt G F xo (s.setd d') ((xo, cO 0 [.ref wd, dv', .ref bg, rv, rw, lv, .int lf]) :: (Nb ++ Nd')) := ⟨wd, bg, dv', rv, rw, lv, lf, Nb, Nd', ws, Wg, rfl, h2, h4, hD, h8⟩
theorem xDr_new {S : List Nat} {k md rel cl hi ht bo ba : Nat} {sal : Int32} {tl : Bool} {m0 : Int32} {sal0 : Int32} {tl0 : Bool} (hk : k = 1 ∨ k = 2) (h2 : k = 2 → m0 = nI md ∧ sal0 = sal ∧ tl0 = tl) : xDr S (d_mk k md sal tl rel [] []) (.ref cl) [(cl, cO 9 [.int 0, .ref hi, .int (-1), .int 0, .ref bo, .int (rv_z (decide (k = 2))), .int m0, .int sal0, .int (rv_z tl0)]), (hi, cO 10 [.int (nI 0), .int (nI rel), .ref ht, .int (nI 0)]), (ht, cI (S.getD rel 0) (fun _ => 0)), (bo, lO (nI 0) ba 0), (ba, cR 6 (fun _ => none))] := by
  refine Or.inr ⟨(by show k ≠ 0; omega), cl, hi, ht, bo, ba, 0, 0, m0, sal0, nI 0, tl0, fun _ => 0, fun _ => none, [], [], rfl, rfl, fun j t q => (by simp [d_mk, wDr.hts] at q), fun s q => (by cases q), h2, ⟨fun i e q => (by simp at q), fun i v _ q => (by cases q)⟩, ⟨rfl, rfl⟩, fun j i it N q => (by simp at q)⟩
theorem x_rule {G : rv_G} (hG : rv_GK G) {d xo n m N : Nat} {s : wS} {M : xM} {r : Int32} {F : xF} {h : rv_H} (hd : 12 ≤ d) (hSt : xSt G F xo s M) (hw : wfS N s) (hn : 40000 ≤ n) (hm : 200000 ≤ m) (hH : xH G F M n m h) : rv_Call G d yX1_rule wX1_rule [.ref xo, .int r] h (xOq G F xo (xad M) n m h [RJ19, RJ18] true (o_rule s r)) := by
  refine rv_start hG (by decide +kernel) (L := [some (.ref xo), some (.int r)]) rfl (Nat.le_of_ble_eq_true rfl) (fun X hX1 hX hE => ?_)
  subst hX1
  have hSt0 := hSt
  obtain ⟨wd, bg, dv, rv, rw1, lv, lf, Nb, Nd, ws, Wg, rfl, ⟨h2, h3⟩, ⟨h4, h5, h6⟩, h7, h8⟩ := hSt
  have hW := h2 wd _ h3
  have hS0 : xS X.1 F h (xo :: xad (Nb ++ Nd)) ([(xo, cO 0 [.ref wd, dv, .ref bg, rv, rw1, lv, .int lf])] ++ (Nb ++ Nd)) n m h := hH.start
  have hS : xS X.1 F h [xo] [(xo, cO 0 [.ref wd, dv, .ref bg, rv, rw1, lv, .int lf])] n m h := hS0.foc
  have hS8 := hw.1.S
  have hdv : dv = .null ∨ ∃ c, dv = .ref c := h7.null.elim (fun q => Or.inl q.2) (fun q => Or.inr q.2)
  have hor : ∀ k, w_idx r s.w.S.length = some k → dv ≠ .null → o_rule s r = (2, 0, s) := fun k hk hne => by
    unfold o_rule
    rw [hk]
    exact if_pos (Nat.pos_of_ne_zero (fun e => h7.null.elim (fun q => hne q.2) (fun q => q.1 e)))
  refine rv_aload_n hX dX1_rule_0 rfl ?_
  refine xv_new hX hS nX1_89 (by omega) (show 9 ≤ _ by omega) dX1_rule_1 (fun a_1 h_1 hS => ?_)
  have hS := hS.bud (Nat.le_refl _) (show _ - 9 ≤ _ from Nat.le_refl _)
  refine rv_dup hX dX1_rule_4 rfl ?_
  refine rv_aload_n hX dX1_rule_5 rfl ?_
  refine rv_iload_n hX dX1_rule_6 rfl ?_
  have hp : ([(xo, cO 0 [.ref wd, dv, .ref bg, rv, rw1, lv, .int lf]), (a_1, cO 9 [.int 0, .null, .int 0, .int 0, .null, .int 0, .int 0, .int 0, .int 0])] : xM).Perm ([(xo, cO 0 [.ref wd, dv, .ref bg, rv, rw1, lv, .int lf])] ++ [(a_1, cO 9 [.int 0, .null, .int 0, .int 0, .null, .int 0, .int 0, .int 0, .int 0])]) := List.Perm.refl _
  have hZ := fun a c (q : xr X.1 F a c) => (hS.frz hp).2.xr q
  have hX0 := hS.frzr hp (a := xo) (List.mem_singleton.mpr rfl)
  refine rv_invVR hX iX1_174 mdX1_head (hS.mc (k := 0) rfl) ⟨TX1, 7, rv_c0⟩ (x_head hG (d := d - 1) (by omega) hX0 (hW.mono hZ) hS8 (by omega) (by omega) (hS.cpre [2,0,0] 0 rfl rfl rfl)) (by omega) rfl rfl (Nat.le_of_ble_eq_true rfl) dX1_rule_7 (fun v h' hq => ?_) (fun E h' hq => by exact rv_out hX hE (fun x hx => by cases hx) (xOq.thr (i := 0) (by unfold o_rule; rw [hq.2.1]; exact ⟨rfl, rfl⟩) (by rw [hq.1]; rfl) hSt0 (hS0.unf0 ((hS.cpost [2, 0, 0] 0 rfl rfl rfl hq.2.2).drop (List.sublist_append_left [(xo, cO 0 [.ref wd, dv, .ref bg, rv, rw1, lv, .int lf])] _))) (by omega) (by omega)))
  obtain ⟨hi, ht, k, hk, hu, hQ⟩ := hq
  have hS := hS.cpost [2,0,0] 0 rfl rfl rfl hQ
  cases hu
  refine nv_iconst hX (m := 0) (by decide) dX1_rule_10 ?_
  refine nv_iconst hX (m := 0) (by decide) dX1_rule_11 ?_
  refine nv_iconst hX (m := 0) (by decide) dX1_rule_12 ?_
  refine nv_iconst hX (m := 1) (by decide) dX1_rule_13 ?_
  refine rv_invI hX iX1_178 mdX10_init rfl (x_clauseInit hG (b := false) (tl := true) (d := d - 1) (by omega) (by omega) (by omega) (hS.cpre0 [0,1,0,0] 0 rfl rfl rfl)) (by omega) rfl rfl (Nat.le_of_ble_eq_true rfl) dX1_rule_14 (fun v h' hq => ?_) (fun E h' hq => by first | exact hq.elim | cases hq.2 | cases hq.1)
  obtain ⟨bo, ba, hu, hQ⟩ := hq
  have hS := hS.cpost0 [0,1,0,0] 0 rfl rfl rfl hQ
  cases hu
  refine rv_invVR hX iX1_181 mdX1_begin (hS.mc (k := 0) rfl) ⟨TX1, 7, rv_c0⟩ (x_beginC hG (d := d - 1) (by omega) hdv (by omega) (by omega) (hS.cpre0 [1] 0 rfl rfl rfl)) (by omega) rfl rfl (Nat.le_of_ble_eq_true rfl) dX1_rule_17 (fun v h' hq => ?_) (fun E h' hq => by exact rv_out hX hE (fun x hx => by cases hx) (xOq.thr (i := 1) (by rw [hor k hk hq.2.1]; exact ⟨rfl, rfl⟩) (by rw [hq.1]; rfl) hSt0 (hS0.unf0 ((hS.cpost0 [1] 0 rfl rfl rfl hq.2.2).drop (List.sublist_append_left [(xo, cO 0 [.ref wd, dv, .ref bg, rv, rw1, lv, .int lf])] _))) (by omega) (by omega)))
  obtain ⟨hnull, hu, hQ⟩ := hq
  have hS := hS.cpost0 [1] 0 rfl rfl rfl hQ
  cases hu
  subst hnull
  refine rv_return hX hE ?_ dX1_rule_20
  have hk0 : s.d.k = 0 := h7.null.elim (fun q => q.1) (fun ⟨_, c, e⟩ => by cases e)
  have ho : o_rule s r = (0, 0, s.setd (d_mk 1 s.d.mod s.d.sal s.d.tells k [] [])) := by
    unfold o_rule
    rw [hk]
    exact if_neg (by omega)
  rw [ho]
  have hS9 : xS X.1 F _ [xo] ((xo, cO 0 [.ref wd, .ref a_1, .ref bg, rv, rw1, lv, .int lf]) :: [(a_1, cO 9 [.int 0, .ref hi, .int (-1), .int 0, .ref bo, .int (rv_z false), .int (nI 0), .int (nI 0), .int (rv_z true)]), (hi, cO 10 [.int (nI 0), .int (nI k), .ref ht, .int (nI 0)]), (ht, cI (s.w.S.getD k 0) (fun _ => 0)), (bo, lO (nI 0) ba 0), (ba, cR 6 (fun _ => none))]) _ _ _ := hS
  have hS11 := (hS0.unf0 hS9).newd
  exact ⟨F, _, .rf, xSt.draft (Nd := Nd) (dv := .null) (dv' := .ref a_1) (d' := d_mk 1 s.d.mod s.d.sal s.d.tells k [] []) ⟨h2, h3⟩ ⟨h4, h5, h6⟩ h8 (xDr_new (k := 1) (md := s.d.mod) (sal := s.d.sal) (tl := s.d.tells) (rel := k) (cl := a_1) (hi := hi) (ht := ht) (bo := bo) (ba := ba) (m0 := nI 0) (sal0 := nI 0) (tl0 := true) (Or.inl rfl) (fun e => by cases e)), hS11.bud (by omega) (by omega), rfl, rfl⟩
