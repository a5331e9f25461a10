/-! THE SYSTEM: a fact taken; the focus -/
set_option maxRecDepth 100000
theorem j_removeA {G : rv_G} (hG : rv_GK G) {d a k e n m : Nat} (hd : 2 ≤ d) {F : xF} {es : List Nat} {N : xM} {h : rv_H} (ha : xAL G a es N) (hk : es[k]? = some e) (helm : ∀ e, e ∈ es → xElm G F e) (hH : xH G F N n m h) : rv_Call G d yJ2_remove wJ2_remove [.ref a, .int (nI k)] h (xN (fun u h' => ∃ N', u = some (.ref e) ∧ xAL G a (es.eraseIdx k) N' ∧ xS G F h (xad N) N' n m h')) := by
  have hkl := (List.getElem?_eq_some_iff.mp hk).1
  rcases ha with ⟨mc, ed, ⟨cap, f, rfl, hcap, hle, hlf, hoa⟩ | ⟨rfl, -, -, -⟩⟩
  · refine (j_remove hG hd (by omega) hle hlf hoa hk (xlel_of helm hH) (fun e he => (helm e he).ne hH) hH).mono (fun o h' q => ?_)
    cases o with
    | inl u =>
      obtain ⟨f', q1, q2, q3, q4⟩ := q
      have hl : (es.eraseIdx k).length = es.length - 1 := List.length_eraseIdx_of_lt hkl
      refine ⟨[(a, lO (mc + nI 1) ed (es.eraseIdx k).length), (ed, cR cap f')], q1, xAL.of hcap (by rw [hl]; omega) q2 (by rw [hl]; exact q3), ?_⟩
      rw [hl]
      exact q4
    | inr E => exact q
  · simp at hkl
theorem xEs.erase {α : Type} {rd : Nat → rv_C → Prop} {P : (Nat → rv_C → Prop) → Nat → α → Prop} {es : List Nat} {xs : List α} {k : Nat} (h : xEs rd P es xs) : xEs rd P (es.eraseIdx k) (xs.eraseIdx k) := by
  refine ⟨?_, fun i e x h1 h2 => ?_⟩
  · rw [List.length_eraseIdx, List.length_eraseIdx, h.1]
  · rw [List.getElem?_eraseIdx] at h1 h2
    split at h1
    · rename_i q
      rw [if_pos q] at h2
      exact h.2 i e x h1 h2
    · rename_i q
      rw [if_neg q] at h2
      exact h.2 (i + 1) e x h1 h2
theorem wfP_take {N k : Nat} {s : wS} (h : wfS N s) : wfP (N + 1) (1200 * N) (10 * N) (20 * N + 20) (s.w.setT (s.w.T.eraseIdx k)) := by
  have hX := h.P.mn (Nat.le_succ N) (Nat.le_refl _) (Nat.le_refl _) (Nat.le_add_right _ 20)
  obtain ⟨⟨hS, hR, hD, hT, hF, hA, hK, hN, hE⟩, -⟩ := hX
  exact ⟨hS, hR, hD, sp_erase_ok hT.1 hT.2, hF, hA, hK, hN, hE⟩
theorem x_take {G : rv_G} (hG : rv_GK G) (hLK : rv_LK G) {d xo n m N : Nat} {s : wS} {M : xM} {f : Int32} {F : xF} {h : rv_H} (hd : 70 ≤ d) (hN : N ≤ 24) (hSt : xSt G F xo s M) (hw : wfS N s) (hn : 40000 ≤ n) (hm : 200000 ≤ m) (hH : xH G F M n m h) : rv_Call G d yX1_take wX1_take [.ref xo, .int f] h (xOq G F xo (xad M) n m h [RJ19, RJ6, RJ18] false (o_take s f)) := by
  refine rv_start hG (by decide +kernel) (L := [some (.ref xo), some (.int f), none, none]) rfl (Nat.le_of_ble_eq_true rfl) (fun X hX1 hX hE => ?_)
  subst hX1
  obtain ⟨wd, bg, dv, rv, rw1, lv, lf, Nb, Nd, rfl, hW, hDr, hnew⟩ := hSt.world
  have hS0 : xS X.1 F h (xo :: xad (Nb ++ Nd)) ([(xo, cO 0 [.ref wd, dv, .ref bg, rv, rw1, lv, .int lf])] ++ (Nb ++ Nd)) n m h := hH.start
  have hS : xS X.1 F h [xo] [(xo, cO 0 [.ref wd, dv, .ref bg, rv, rw1, lv, .int lf])] n m h := hS0.foc
  have hp : ([(xo, cO 0 [.ref wd, dv, .ref bg, rv, rw1, lv, .int lf])] : xM).Perm ([(xo, cO 0 [.ref wd, dv, .ref bg, rv, rw1, lv, .int lf])] ++ []) := List.Perm.refl _
  have hZ := fun a c (q : xr X.1 F a c) => (hS.frz hp).2.xr q
  have hX0 := hS.frzr hp (a := xo) (List.mem_singleton.mpr rfl)
  obtain ⟨rel, ta, st, tg, ru, de, fi, sk, tf, r, ps, es1, es2, es3, es4, es5, es6, w1, ⟨a1, a2, a3, a4, a5, a6⟩, ⟨b1, b2, b3, b4, b5, b6⟩, ⟨e1, e2, e3, e4, e5, e6⟩, w4, w5, w9⟩ := hW.parts hw.1 hN
  have hS8 := hw.1.S
  have hT60 := hw.1.b6.1
  have tail : ∀ (k j : Nat) (h1 : rv_H) (n1 m1 : Nat), k < 8000000 → sp_fault s.w.S (nI k) = 0 → n ≤ n1 + 100 → m ≤ m1 + 5000 → sp_at s.w.T k = some j → f = nI k → xS X.1 F h [xo] [(xo, cO 0 [.ref wd, dv, .ref bg, rv, rw1, lv, .int lf])] n1 m1 h1 → rv_V X h1 27 [some (.ref xo), some (.int (nI k)), some (.int (nI j)), none] [] := by
    intro k j h1 n1 m1 hk8 hfa hn1 hm1 hat hfk hS
    subst hfk
    obtain ⟨e0, hj⟩ := sp_at_some hat
    have hjl := (List.getElem?_eq_some_iff.mp hj).1
    obtain ⟨te, hte⟩ : ∃ te, es2[j]? = some te := ⟨_, List.getElem?_eq_getElem (by rw [b2.1]; exact hjl)⟩
    have ho : o_take s (nI k) = s.step 3 (s.w.setT (s.w.T.eraseIdx j)) := by
      unfold o_take
      rw [if_neg (by rw [hfa]; decide), nI_clamp (by omega), hat]
    have hwP := wfP_take (k := j) hw
    have hTl' : (s.w.T.eraseIdx j).length ≤ 61 := by rw [List.length_eraseIdx_of_lt hjl]; omega
    refine rv_aload_n hX dX1_take_27 rfl ?_
    refine rv_getfR hX gX1_21_X1 (hS.mc (k := 0) rfl) rfl dX1_take_28 ?_
    refine rv_invVR hX iX1_117 mdX2_copy (hS.f w1) ⟨TX2, 12, rv_c1⟩ (x_copy hG (d := d - 1) (by omega) w1 a1 a2 a3 a4 a5 a6 e1 e2 e3 e4 e5 e6 (by omega) (by omega) (hS.cpre0 [0] 0 rfl rfl rfl)) (by omega) rfl rfl (Nat.le_of_ble_eq_true rfl) dX1_take_31 (fun v h' hq => ?_) (fun E h' hq => by first | exact hq.elim | cases hq.2 | cases hq.1)
    obtain ⟨nx, rel1, ta1, ru1, de1, fi1, sk1, N1, N2, N3, N4, N5, N6, hu, ⟨hN1, hN2, hN3, hN4, hN5, hN6⟩, hQ⟩ := hq
    have hS := hS.cpost0 [0] 0 rfl rfl rfl hQ
    cases hu
    have hS : xS X.1 F _ [xo] ([[(xo, cO 0 [.ref wd, dv, .ref bg, rv, rw1, lv, .int lf])], [(nx, cW rel1 ta1 st tg (nI s.w.g) ru1 de1 (nI s.w.nr) (nI s.w.nd) fi1 sk1 (nI s.w.now))], N1, N2, N3, N4, N6, N5].flatten) _ _ _ := hS.perm (by simp [xRe, xRa])
    have hl9 := hN2.rd hG hS.1 (xflat_mem (j := 3) rfl)
    obtain ⟨m9, e9, c9, f9, l9, -⟩ := id hl9
    refine rv_astore_n hX dX1_take_34 (rv_st_3 rfl) ?_
    refine rv_aload_n hX dX1_take_35 rfl ?_
    refine rv_getfR hX gX1_137_X2 (hS.mc (k := 1) rfl) rfl dX1_take_36 ?_
    refine rv_iload_n hX dX1_take_39 rfl ?_
    refine rv_invVR hX iX1_140 mdJ2_remove l9 ⟨TJ2, 3, rv_c17⟩ (j_removeA hG (d := d - 1) (by omega) hN2 hte e2.2 (hS.pick (j := 3) rfl).1) (by omega) rfl rfl (Nat.le_of_ble_eq_true rfl) dX1_take_40 (fun v h' hq => ?_) (fun E h' hq => by first | exact hq.elim | cases hq.2 | cases hq.1)
    obtain ⟨N2', hu, hN2', hQ⟩ := hq
    cases hu
    have hS := (hS.pick (j := 3) rfl).2 _ _ _ _ hQ
    refine rv_pop hX dX1_take_43 rfl ?_
    refine rv_aload_n hX dX1_take_44 rfl ?_
    refine rv_aload_n hX dX1_take_45 rfl ?_
    refine rv_invVR hX iX1_130 mdX1_become (hS.mc (k := 0) rfl) ⟨TX1, 7, rv_c0⟩ (x_becomeW hG hLK (w := s.w.setT (s.w.T.eraseIdx j)) (d := d - 1) (by omega) hwP (by omega) hTl' ⟨hN1, hN2', hN3, hN4, hN5, hN6⟩ ⟨b1, b2.erase, b3, b4, b5, b6⟩ w4 w5 w9 (by omega) (by omega) (hS.cpre0 [] 1 rfl rfl rfl)) (by omega) rfl rfl (Nat.le_of_ble_eq_true rfl) dX1_take_46 (fun v h' hq => ?_) (fun E h' hq => by exact rv_out hX hE (fun x hx => by cases hx) (xOq.thr (i := 2) (by rw [ho]; unfold wS.step; rw [hq.2.1]; exact ⟨rfl, rfl⟩) (by rw [hq.1]; rfl) hSt (hS0.unf0 (hS.cpost0 [] 1 rfl rfl rfl hq.2.2)) (by omega) (by omega)))
    obtain ⟨w', Zs, hst9, hu, hnx, hxw, hQ⟩ := hq
    have hS := hS.cpost0 [] 1 rfl rfl rfl hQ
    cases hu
    refine rv_ireturn hX hE rfl ?_ dX1_take_49
    obtain ⟨F9, -, hw9⟩ := wW.stl_spec hst9
    rw [ho]
    exact xOq.step .rf hst9 (hnew _ (fun _ _ q => q) nx w' Zs _ _ _ _ _ (hS0.unf0 hS) hnx hxw (by rw [hw9]; exact hDr)) (by omega) (by omega)
  refine rv_aload_n hX dX1_take_0 rfl ?_
  refine rv_iload_n hX dX1_take_1 rfl ?_
  refine rv_invVR hX iX1_121 mdX1_checkFact (hS.mc (k := 0) rfl) ⟨TX1, 7, rv_c0⟩ (x_checkFact hG (d := d - 1) (by omega) hX0 (hW.mono hZ) hS8 (by omega) (by omega) (hS.cpre [2] 0 rfl rfl rfl)) (by omega) rfl rfl (Nat.le_of_ble_eq_true rfl) dX1_take_2 (fun v h' hq => ?_) (fun E h' hq => by exact rv_out hX hE (fun x hx => by cases hx) (xOq.flt ⟨rfl, rfl⟩ (fun e => if_pos e) hSt hq.1 (hS0.unf0 (hS.cpost [2] 0 rfl rfl rfl hq.2)) (by omega) (by omega)))
  obtain ⟨⟨k, rfl, hk8, hkr⟩, hfa, rfl, rfl⟩ := hq
  refine rv_aload_n hX dX1_take_5 rfl ?_
  refine rv_getfR hX gX1_21_X1 (hS.mc (k := 0) rfl) rfl dX1_take_6 ?_
  refine rv_iload_n hX dX1_take_9 rfl ?_
  refine rv_invVR hX iX1_134 mdX2_toldAt (hS.f w1) ⟨TX2, 12, rv_c1⟩ (x_toldAt hG (d := d - 1) (by omega) (hS.f w1) ⟨es2, a2.mono (fun _ _ => hS.f), b2.mono (fun _ _ q => q.mono (fun _ _ => hS.f))⟩ hw.1.t8 (by omega)) (by omega) rfl rfl (Nat.le_of_ble_eq_true rfl) dX1_take_10 (fun v h' hq => ?_) (fun E h' hq => by first | exact hq.elim | cases hq.2 | cases hq.1)
  obtain ⟨rfl, hq⟩ := hq
  cases hq
  cases hat : sp_at s.w.T k with
  | none =>
    have ho : o_take s (nI k) = (3, 0, s) := by
      unfold o_take
      rw [if_neg (by rw [hfa]; decide), nI_clamp (by omega), hat]
    rw [show rv_oi none = -1 from rfl]
    refine rv_istore_n hX dX1_take_13 (rv_st_2 rfl) ?_
    refine rv_iload_n hX dX1_take_14 rfl ?_
    refine rv_iconst hX (v := -1) dX1_take_15 (by decide) ?_
    refine rv_icmp_eq hX 23 dX1_take_16 (by decide) (fun c_16 => ?_) (fun q => absurd rfl q)
    refine nv_iconst hX (m := 0) (by decide) dX1_take_23 ?_
    refine rv_invS hX iX1_114 mdX1_checkState (x_checkState hG (b := false) (d := d - 1) (by omega) (by omega) (by omega) (hS.cpre0 [] 0 rfl rfl rfl)) (by omega) rfl rfl (Nat.le_of_ble_eq_true rfl) dX1_take_24 (fun v h' hq => ?_) (fun E h' hq => by exact rv_out hX hE (fun x hx => by cases hx) (xOq.thr (i := 2) (by rw [ho]; exact ⟨rfl, rfl⟩) (by rw [hq.1]; rfl) hSt (hS0.unf0 (hS.cpost0 [] 0 rfl rfl rfl hq.2.2)) (by omega) (by omega)))
    obtain ⟨hb, rfl, rfl⟩ := hq
    exact absurd hb (by decide)
  | some j =>
    obtain ⟨e0, hj⟩ := sp_at_some hat
    have hjl := (List.getElem?_eq_some_iff.mp hj).1
    rw [rv_oi_some]
    refine rv_istore_n hX dX1_take_13 (rv_st_2 rfl) ?_
    refine rv_iload_n hX dX1_take_14 rfl ?_
    refine rv_iconst hX (v := -1) dX1_take_15 (by decide) ?_
    refine rv_icmp_eq hX 23 dX1_take_16 (by decide) (fun q => absurd ((rv_oi_m1 (x := some j) (fun x e => by cases e; omega)).mp q) (fun e => by cases e)) (fun c_16 => ?_)
    refine nv_iconst hX (m := 1) (by decide) dX1_take_19 ?_
    refine rv_goto hX 24 dX1_take_20 (by decide) ?_
    refine rv_invS hX iX1_114 mdX1_checkState (x_checkState hG (b := true) (d := d - 1) (by omega) (by omega) (by omega) (hS.cpre0 [] 0 rfl rfl rfl)) (by omega) rfl rfl (Nat.le_of_ble_eq_true rfl) dX1_take_24 (fun v h' hq => ?_) (fun E h' hq => by exact absurd hq.2.1 (by decide))
    obtain ⟨-, rfl, rfl⟩ := hq
    exact tail k j _ _ _ hk8 hfa (by omega) (by omega) hat rfl hS
