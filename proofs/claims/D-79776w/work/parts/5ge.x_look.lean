/-! THE SYSTEM: calls that only look (printed by tools/gen_look.py) -/
set_option maxRecDepth 100000
theorem wfW.t8 {N : Nat} {w : wW} (h : wfW N w) : ∀ p, p ∈ w.T → p.1 < 8000000 := fun p hp => by
  have h1 := (h.T.2 p hp).1
  have h2 := h.S.1
  unfold sp_faultN at h1
  cases e : w.S[p.1 / 1000000]? with
  | none => rw [e] at h1; cases h1
  | some k =>
    have := (List.getElem?_eq_some_iff.mp e).1
    omega
theorem xOq.flt {G : rv_G} {F : xF} {xo : Nat} {n m n' m' : Nat} {h h' : rv_H} {M : xM} {s : wS} {ex : List String} {vd : Bool} {a : wA} {f : Int32} {E : String} (hex : ex[0]? = some RJ19 ∧ ex[1]? = some RJ6) (ha : sp_fault s.w.S f ≠ 0 → a = (sp_fault s.w.S f, 0, s)) (hSt : xSt G F xo s M) (hq : (E = RJ19 ∧ sp_fault s.w.S f = 1) ∨ (E = RJ6 ∧ sp_fault s.w.S f = 2)) (hS : xS G F h (xad M) M n' m' h') (hn : n ≤ n' + 40000) (hm : m ≤ m' + 200000) : xOq G F xo (xad M) n m h ex vd a (.inr E) h' := by
  rcases hq with ⟨rfl, e⟩ | ⟨rfl, e⟩
  · have := ha (by omega)
    rw [this, e]
    exact xOq.thr (i := 0) ⟨rfl, rfl⟩ hex.1 hSt hS hn hm
  · have := ha (by omega)
    rw [this, e]
    exact xOq.thr (i := 1) ⟨rfl, rfl⟩ hex.2 hSt hS hn hm
theorem x_stands {G : rv_G} (hG : rv_GK G) (hLK : rv_LK G) {d xo n m N : Nat} {s : wS} {M : xM} {f : Int32} {F : xF} {h : rv_H} (hd : 12 ≤ d) (hN : N ≤ 24) (hSt : xSt G F xo s M) (hw : wfS N s) (hn : 40000 ≤ n) (hm : 200000 ≤ m) (hH : xH G F M n m h) : rv_Call G d yX1_stands wX1_stands [.ref xo, .int f] h (xOq G F xo (xad M) n m h [RJ19, RJ6] false (o_stands s f)) := by
  refine rv_start hG (by decide +kernel) (L := [some (.ref xo), some (.int f)]) rfl (Nat.le_of_ble_eq_true rfl) (fun X hX1 hX hE => ?_)
  subst hX1
  have hSt' := hSt
  obtain ⟨wd, b1, b2, b3, b4, b5, b6, M', rfl, hW⟩ := hSt'.cell
  have hS0 : xS X.1 F h (xo :: xad M') ([(xo, cO 0 [.ref wd, b1, b2, b3, b4, b5, b6])] ++ M') n m h := hH.start
  have hS : xS X.1 F h [xo] [(xo, cO 0 [.ref wd, b1, b2, b3, b4, b5, b6])] n m h := hS0.foc
  have hp : ([(xo, cO 0 [.ref wd, b1, b2, b3, b4, b5, b6])] : xM).Perm ([(xo, cO 0 [.ref wd, b1, b2, b3, b4, b5, b6])] ++ []) := List.Perm.refl _
  have hZ := fun a c (q : xr X.1 F a c) => (hS.frz hp).2.xr q
  have hX0 := hS.frzr hp (a := xo) (List.mem_singleton.mpr rfl)
  obtain ⟨rel, ta, st, tg, ru, de, fi, sk, tf, r, ps, w1, w2, w3, w4, w5, w6, w7, w8, w9, w10⟩ := id hW
  have hS8 := hw.1.S
  have hF60 := hw.1.F60
  obtain ⟨an, ar, nf, rf, l3, f2, f3, f4⟩ := id w4
  refine rv_aload_n hX dX1_stands_0 rfl ?_
  refine rv_iload_n hX dX1_stands_1 rfl ?_
  refine rv_invVR hX iX1_121 mdX1_checkFact (hS.mc (k := 0) rfl) ⟨TX1, 7, rv_c0⟩ (x_checkFact hG (d := d - 1) (by omega) hX0 (hW.mono hZ) hS8 (by omega) (by omega) (hS.cpre [2] 0 rfl rfl rfl)) (by omega) rfl rfl (Nat.le_of_ble_eq_true rfl) dX1_stands_2 (fun v h' hq => ?_) (fun E h' hq => by exact rv_out hX hE (fun x hx => by cases hx) (xOq.flt ⟨rfl, rfl⟩ (fun e => if_pos e) hSt hq.1 (hS0.unf0 (hS.cpost [2] 0 rfl rfl rfl hq.2)) (by omega) (by omega)))
  obtain ⟨⟨k, rfl, hk8, hkr⟩, hfa, rfl, rfl⟩ := hq
  refine rv_aload_n hX dX1_stands_5 rfl ?_
  refine rv_getfR hX gX1_21_X1 (hS.mc (k := 0) rfl) rfl dX1_stands_6 ?_
  refine rv_getfR hX gX1_105_X2 (hS.f w1) rfl dX1_stands_9 ?_
  refine rv_iload_n hX dX1_stands_12 rfl ?_
  refine rv_invVR hX iX1_143 mdX3_has (hS.f l3) ⟨TX3, 3, rv_c2⟩ (x_has hG (d := d - 1) (by omega) (w4.mono2 (fun _ _ => hS.f)) (by omega)) (by omega) rfl rfl (Nat.le_of_ble_eq_true rfl) dX1_stands_13 (fun v h' hq => ?_) (fun E h' hq => by first | exact hq.elim | cases hq.2 | cases hq.1)
  obtain ⟨rfl, hq⟩ := hq
  cases hq
  refine rv_ireturn hX hE (rv_zn _) ?_ dX1_stands_16
  have e : o_stands s (nI k) = (0, rv_z (decide (k ∈ s.w.F)), s) := by
    unfold o_stands
    rw [if_neg (by rw [hfa]; decide), nI_clamp (by omega)]
  rw [e]
  exact xOq.ret hSt (hS0.unf0 hS) (by omega) (by omega)
theorem x_endOf {G : rv_G} (hG : rv_GK G) (hLK : rv_LK G) {d xo n m N : Nat} {s : wS} {M : xM} {f : Int32} {F : xF} {h : rv_H} (hd : 12 ≤ d) (hN : N ≤ 24) (hSt : xSt G F xo s M) (hw : wfS N s) (hn : 40000 ≤ n) (hm : 200000 ≤ m) (hH : xH G F M n m h) : rv_Call G d yX1_endOf wX1_endOf [.ref xo, .int f] h (xOq G F xo (xad M) n m h [RJ19, RJ6] false (o_endOf s f)) := by
  refine rv_start hG (by decide +kernel) (L := [some (.ref xo), some (.int f), none]) rfl (Nat.le_of_ble_eq_true rfl) (fun X hX1 hX hE => ?_)
  subst hX1
  have hSt' := hSt
  obtain ⟨wd, b1, b2, b3, b4, b5, b6, M', rfl, hW⟩ := hSt'.cell
  have hS0 : xS X.1 F h (xo :: xad M') ([(xo, cO 0 [.ref wd, b1, b2, b3, b4, b5, b6])] ++ M') n m h := hH.start
  have hS : xS X.1 F h [xo] [(xo, cO 0 [.ref wd, b1, b2, b3, b4, b5, b6])] n m h := hS0.foc
  have hp : ([(xo, cO 0 [.ref wd, b1, b2, b3, b4, b5, b6])] : xM).Perm ([(xo, cO 0 [.ref wd, b1, b2, b3, b4, b5, b6])] ++ []) := List.Perm.refl _
  have hZ := fun a c (q : xr X.1 F a c) => (hS.frz hp).2.xr q
  have hX0 := hS.frzr hp (a := xo) (List.mem_singleton.mpr rfl)
  obtain ⟨rel, ta, st, tg, ru, de, fi, sk, tf, r, ps, w1, w2, w3, w4, w5, w6, w7, w8, w9, w10⟩ := id hW
  have hS8 := hw.1.S
  have hF60 := hw.1.F60
  obtain ⟨es, hL, hes⟩ := id w3
  obtain ⟨lm, led, lcap, lf, l2, lx⟩ := id hL
  have fin : ∀ (v : Int32) (k : Nat), k < 8000000 → sp_fault s.w.S (nI k) = 0 → v = (match sp_at s.w.T k with
    | none => -1
    | some k => nI (s.w.T.getD k (0, 0)).2) → xOq X.1 F xo (xo :: xad M') n m h [RJ19, RJ6] false (o_endOf s (nI k)) (.inl (some (.int v))) h := fun v k hk8 hfa e => by
    have e2 : o_endOf s (nI k) = (0, v, s) := by
      unfold o_endOf
      rw [if_neg (by rw [hfa]; decide), nI_clamp (by omega), e]
      rfl
    rw [e2]
    exact xOq.ret hSt (hS0.unf0 hS) (by omega) (by omega)
  refine rv_aload_n hX dX1_endOf_0 rfl ?_
  refine rv_iload_n hX dX1_endOf_1 rfl ?_
  refine rv_invVR hX iX1_121 mdX1_checkFact (hS.mc (k := 0) rfl) ⟨TX1, 7, rv_c0⟩ (x_checkFact hG (d := d - 1) (by omega) hX0 (hW.mono hZ) hS8 (by omega) (by omega) (hS.cpre [2] 0 rfl rfl rfl)) (by omega) rfl rfl (Nat.le_of_ble_eq_true rfl) dX1_endOf_2 (fun v h' hq => ?_) (fun E h' hq => by exact rv_out hX hE (fun x hx => by cases hx) (xOq.flt ⟨rfl, rfl⟩ (fun e => if_pos e) hSt hq.1 (hS0.unf0 (hS.cpost [2] 0 rfl rfl rfl hq.2)) (by omega) (by omega)))
  obtain ⟨⟨k, rfl, hk8, hkr⟩, hfa, rfl, rfl⟩ := hq
  refine rv_aload_n hX dX1_endOf_5 rfl ?_
  refine rv_getfR hX gX1_21_X1 (hS.mc (k := 0) rfl) rfl dX1_endOf_6 ?_
  refine rv_iload_n hX dX1_endOf_9 rfl ?_
  refine rv_invVR hX iX1_134 mdX2_toldAt (hS.f w1) ⟨TX2, 12, rv_c1⟩ (x_toldAt hG (d := d - 1) (by omega) (hS.f w1) (w3.mono (fun _ _ => hS.f) (fun _ _ q => q.mono (fun _ _ => hS.f))) hw.1.t8 (by omega)) (by omega) rfl rfl (Nat.le_of_ble_eq_true rfl) dX1_endOf_10 (fun v h' hq => ?_) (fun E h' hq => by first | exact hq.elim | cases hq.2 | cases hq.1)
  obtain ⟨rfl, hq⟩ := hq
  cases hq
  cases hat : sp_at s.w.T k with
  | none =>
    rw [show rv_oi none = -1 from rfl]
    refine rv_istore_n hX dX1_endOf_13 (rv_st_2 rfl) ?_
    refine rv_iload_n hX dX1_endOf_14 rfl ?_
    refine rv_iconst hX (v := -1) dX1_endOf_15 (by decide) ?_
    refine rv_icmp_ne hX 23 dX1_endOf_16 (by decide) (fun q => absurd rfl q) (fun c_16 => ?_)
    refine rv_iconst hX (v := -1) dX1_endOf_19 (by decide) ?_
    refine rv_goto hX 39 dX1_endOf_20 (by decide) ?_
    refine rv_ireturn hX hE rfl ?_ dX1_endOf_39
    exact fin _ k hk8 hfa (by rw [hat])
  | some j =>
    obtain ⟨e0, hj⟩ := sp_at_some hat
    obtain ⟨te, hte, tf, t1, t1b, t2, t3⟩ := xLp.get hes.1 hes.2 hj
    have hjl := (List.getElem?_eq_some_iff.mp hj).1
    have hT61 := (hw.1.b6).1
    rw [rv_oi_some]
    refine rv_istore_n hX dX1_endOf_13 (rv_st_2 rfl) ?_
    refine rv_iload_n hX dX1_endOf_14 rfl ?_
    refine rv_iconst hX (v := -1) dX1_endOf_15 (by decide) ?_
    refine rv_icmp_ne hX 23 dX1_endOf_16 (by decide) (fun c_16 => ?_) (fun q => absurd ((rv_oi_m1 (x := some j) (fun x e => by cases e; omega)).mp q) (fun e => by cases e))
    refine rv_aload_n hX dX1_endOf_23 rfl ?_
    refine rv_getfR hX gX1_21_X1 (hS.mc (k := 0) rfl) rfl dX1_endOf_24 ?_
    refine rv_getfR hX gX1_137_X2 (hS.f w1) rfl dX1_endOf_27 ?_
    refine rv_iload_n hX dX1_endOf_30 rfl ?_
    refine rv_invVR hX iX1_70 mdJ2_get (hS.f l2) ⟨TJ2, 3, rv_c17⟩ (j_get hG (d := d - 1) (by omega) (hL.mono (fun _ _ => hS.f)).L hte) (by omega) rfl rfl (Nat.le_of_ble_eq_true rfl) dX1_endOf_31 (fun v h' hq => ?_) (fun E h' hq => by first | exact hq.elim | cases hq.2 | cases hq.1)
    obtain ⟨rfl, hq⟩ := hq
    cases hq
    refine rv_castAN hX (k := 0) (by decide) (by decide) (hS.f t1) t1b q1435 dX1_endOf_34 ?_
    refine nv_iconst hX (m := 1) (by decide) dX1_endOf_37 ?_
    refine xv_iald hX (hS.f t1) (by omega) (by omega) dX1_endOf_38 ?_
    rw [t3]
    refine rv_ireturn hX hE rfl ?_ dX1_endOf_39
    exact fin _ k hk8 hfa (by rw [hat]; show _ = nI (s.w.T.getD j (0, 0)).2; rw [List.getD_eq_getElem?_getD, hj]; rfl)
theorem x_tag {G : rv_G} (hG : rv_GK G) (hLK : rv_LK G) {d xo n m N : Nat} {s : wS} {M : xM} {f : Int32} {F : xF} {h : rv_H} (hd : 12 ≤ d) (hN : N ≤ 24) (hSt : xSt G F xo s M) (hw : wfS N s) (hn : 40000 ≤ n) (hm : 200000 ≤ m) (hH : xH G F M n m h) : rv_Call G d yX1_tag wX1_tag [.ref xo, .int f] h (xOq G F xo (xad M) n m h [RJ19, RJ6] false (o_tag s f)) := by
  refine rv_start hG (by decide +kernel) (L := [some (.ref xo), some (.int f)]) rfl (Nat.le_of_ble_eq_true rfl) (fun X hX1 hX hE => ?_)
  subst hX1
  have hSt' := hSt
  obtain ⟨wd, b1, b2, b3, b4, b5, b6, M', rfl, hW⟩ := hSt'.cell
  have hS0 : xS X.1 F h (xo :: xad M') ([(xo, cO 0 [.ref wd, b1, b2, b3, b4, b5, b6])] ++ M') n m h := hH.start
  have hS : xS X.1 F h [xo] [(xo, cO 0 [.ref wd, b1, b2, b3, b4, b5, b6])] n m h := hS0.foc
  have hp : ([(xo, cO 0 [.ref wd, b1, b2, b3, b4, b5, b6])] : xM).Perm ([(xo, cO 0 [.ref wd, b1, b2, b3, b4, b5, b6])] ++ []) := List.Perm.refl _
  have hZ := fun a c (q : xr X.1 F a c) => (hS.frz hp).2.xr q
  have hX0 := hS.frzr hp (a := xo) (List.mem_singleton.mpr rfl)
  obtain ⟨rel, ta, st, tg, ru, de, fi, sk, tf, r, ps, w1, w2, w3, w4, w5, w6, w7, w8, w9, w10⟩ := id hW
  have hS8 := hw.1.S
  have hF60 := hw.1.F60
  refine rv_aload_n hX dX1_tag_0 rfl ?_
  refine rv_iload_n hX dX1_tag_1 rfl ?_
  refine rv_invVR hX iX1_121 mdX1_checkFact (hS.mc (k := 0) rfl) ⟨TX1, 7, rv_c0⟩ (x_checkFact hG (d := d - 1) (by omega) hX0 (hW.mono hZ) hS8 (by omega) (by omega) (hS.cpre [2] 0 rfl rfl rfl)) (by omega) rfl rfl (Nat.le_of_ble_eq_true rfl) dX1_tag_2 (fun v h' hq => ?_) (fun E h' hq => by exact rv_out hX hE (fun x hx => by cases hx) (xOq.flt ⟨rfl, rfl⟩ (fun e => if_pos e) hSt hq.1 (hS0.unf0 (hS.cpost [2] 0 rfl rfl rfl hq.2)) (by omega) (by omega)))
  obtain ⟨⟨k, rfl, hk8, hkr⟩, hfa, rfl, rfl⟩ := hq
  refine rv_aload_n hX dX1_tag_5 rfl ?_
  refine rv_getfR hX gX1_21_X1 (hS.mc (k := 0) rfl) rfl dX1_tag_6 ?_
  refine rv_iload_n hX dX1_tag_9 rfl ?_
  refine rv_invVR hX iX1_156 mdX2_tagOf (hS.f w1) ⟨TX2, 12, rv_c1⟩ (x_tagOf hG (d := d - 1) (by omega) (hS.f w1) (w4.mono2 (fun _ _ => hS.f)) (hS.f w5.1) hw.1.A.1 w5.2 (by omega)) (by omega) rfl rfl (Nat.le_of_ble_eq_true rfl) dX1_tag_10 (fun v h' hq => ?_) (fun E h' hq => by first | exact hq.elim | cases hq.2 | cases hq.1)
  obtain ⟨rfl, hq⟩ := hq
  cases hq
  refine rv_ireturn hX hE rfl ?_ dX1_tag_13
  have e : o_tag s (nI k) = (0, rv_oi (sp_tag s.w.F s.w.A k), s) := by
    unfold o_tag
    rw [if_neg (by rw [hfa]; decide), nI_clamp (by omega)]
    unfold sp_tag
    cases sp_ix s.w.F k <;> rfl
  rw [e]
  exact xOq.ret hSt (hS0.unf0 hS) (by omega) (by omega)
theorem x_standing {G : rv_G} (hG : rv_GK G) (hLK : rv_LK G) {d xo n m N : Nat} {s : wS} {M : xM} {F : xF} {h : rv_H} (hd : 12 ≤ d) (hN : N ≤ 24) (hSt : xSt G F xo s M) (hw : wfS N s) (hn : 40000 ≤ n) (hm : 200000 ≤ m) (hH : xH G F M n m h) : rv_Call G d yX1_standing wX1_standing [.ref xo] h (xOq G F xo (xad M) n m h [] false (o_standing s)) := by
  refine rv_start hG (by decide +kernel) (L := [some (.ref xo)]) rfl (Nat.le_of_ble_eq_true rfl) (fun X hX1 hX hE => ?_)
  subst hX1
  have hSt' := hSt
  obtain ⟨wd, b1, b2, b3, b4, b5, b6, M', rfl, hW⟩ := hSt'.cell
  have hS0 : xS X.1 F h (xo :: xad M') ([(xo, cO 0 [.ref wd, b1, b2, b3, b4, b5, b6])] ++ M') n m h := hH.start
  have hS : xS X.1 F h [xo] [(xo, cO 0 [.ref wd, b1, b2, b3, b4, b5, b6])] n m h := hS0.foc
  have hp : ([(xo, cO 0 [.ref wd, b1, b2, b3, b4, b5, b6])] : xM).Perm ([(xo, cO 0 [.ref wd, b1, b2, b3, b4, b5, b6])] ++ []) := List.Perm.refl _
  have hZ := fun a c (q : xr X.1 F a c) => (hS.frz hp).2.xr q
  have hX0 := hS.frzr hp (a := xo) (List.mem_singleton.mpr rfl)
  obtain ⟨rel, ta, st, tg, ru, de, fi, sk, tf, r, ps, w1, w2, w3, w4, w5, w6, w7, w8, w9, w10⟩ := id hW
  have hS8 := hw.1.S
  have hF60 := hw.1.F60
  obtain ⟨an, ar, nf, rf, l3, f2, f3, f4⟩ := id w4
  refine rv_aload_n hX dX1_standing_0 rfl ?_
  refine rv_getfR hX gX1_21_X1 (hS.mc (k := 0) rfl) rfl dX1_standing_1 ?_
  refine rv_getfR hX gX1_105_X2 (hS.f w1) rfl dX1_standing_4 ?_
  refine rv_getfR hX gX1_109_X3 (hS.f l3) rfl dX1_standing_7 ?_
  refine rv_ireturn hX hE rfl ?_ dX1_standing_10
  exact xOq.ret hSt (hS0.unf0 hS) (by omega) (by omega)
theorem x_standingAt {G : rv_G} (hG : rv_GK G) (hLK : rv_LK G) {d xo n m N : Nat} {s : wS} {M : xM} {p : Int32} {F : xF} {h : rv_H} (hd : 12 ≤ d) (hN : N ≤ 24) (hSt : xSt G F xo s M) (hw : wfS N s) (hn : 40000 ≤ n) (hm : 200000 ≤ m) (hH : xH G F M n m h) : rv_Call G d yX1_standingAt wX1_standingAt [.ref xo, .int p] h (xOq G F xo (xad M) n m h [RJ19] false (o_standingAt s p)) := by
  refine rv_start hG (by decide +kernel) (L := [some (.ref xo), some (.int p)]) rfl (Nat.le_of_ble_eq_true rfl) (fun X hX1 hX hE => ?_)
  subst hX1
  have hSt' := hSt
  obtain ⟨wd, b1, b2, b3, b4, b5, b6, M', rfl, hW⟩ := hSt'.cell
  have hS0 : xS X.1 F h (xo :: xad M') ([(xo, cO 0 [.ref wd, b1, b2, b3, b4, b5, b6])] ++ M') n m h := hH.start
  have hS : xS X.1 F h [xo] [(xo, cO 0 [.ref wd, b1, b2, b3, b4, b5, b6])] n m h := hS0.foc
  have hp : ([(xo, cO 0 [.ref wd, b1, b2, b3, b4, b5, b6])] : xM).Perm ([(xo, cO 0 [.ref wd, b1, b2, b3, b4, b5, b6])] ++ []) := List.Perm.refl _
  have hZ := fun a c (q : xr X.1 F a c) => (hS.frz hp).2.xr q
  have hX0 := hS.frzr hp (a := xo) (List.mem_singleton.mpr rfl)
  obtain ⟨rel, ta, st, tg, ru, de, fi, sk, tf, r, ps, w1, w2, w3, w4, w5, w6, w7, w8, w9, w10⟩ := id hW
  have hS8 := hw.1.S
  have hF60 := hw.1.F60
  obtain ⟨an, ar, nf, rf, l3, f2, f3, f4⟩ := id w4
  refine rv_iload_n hX dX1_standingAt_0 rfl ?_
  refine rv_aload_n hX dX1_standingAt_1 rfl ?_
  refine rv_getfR hX gX1_21_X1 (hS.mc (k := 0) rfl) rfl dX1_standingAt_2 ?_
  refine rv_getfR hX gX1_105_X2 (hS.f w1) rfl dX1_standingAt_5 ?_
  refine rv_getfR hX gX1_109_X3 (hS.f l3) rfl dX1_standingAt_8 ?_
  refine rv_invS hX iX1_62 mdX1_checkIndex (x_checkIndex hG (d := d - 1) (by omega) (by omega) (by omega) (by omega) (hS.cpre0 [] 0 rfl rfl rfl)) (by omega) rfl rfl (Nat.le_of_ble_eq_true rfl) dX1_standingAt_11 (fun v h' hq => ?_) (fun E h' hq => by exact rv_out hX hE (fun x hx => by cases hx) (xOq.thr (i := 0) (by unfold o_standingAt; rw [hq.2.1]; exact ⟨rfl, rfl⟩) (by rw [hq.1]; rfl) hSt (hS0.unf0 (hS.cpost0 [] 0 rfl rfl rfl hq.2.2)) (by omega) (by omega)))
  obtain ⟨⟨k, hk⟩, rfl, rfl⟩ := hq
  obtain ⟨hk1, rfl⟩ := w_idx_some (by omega) hk
  obtain ⟨x, hx⟩ : ∃ x, s.w.F[k]? = some x := ⟨_, List.getElem?_eq_getElem hk1⟩
  have hnx := (f4.2 k x hx).1
  refine rv_aload_n hX dX1_standingAt_14 rfl ?_
  refine rv_getfR hX gX1_21_X1 (hS.mc (k := 0) rfl) rfl dX1_standingAt_15 ?_
  refine rv_getfR hX gX1_105_X2 (hS.f w1) rfl dX1_standingAt_18 ?_
  refine rv_getfR hX gX1_159_X3 (hS.f l3) rfl dX1_standingAt_21 ?_
  refine rv_iload_n hX dX1_standingAt_24 rfl ?_
  refine xv_iald hX (hS.f f2) (by omega) (by omega) dX1_standingAt_25 ?_
  rw [hnx]
  refine rv_ireturn hX hE rfl ?_ dX1_standingAt_26
  have e : o_standingAt s (nI k) = (0, nI x, s) := by
    unfold o_standingAt
    rw [hk]
    show ((0, nI (s.w.F.getD k 0), s) : wA) = _
    rw [sp_getD hx]
  rw [e]
  exact xOq.ret hSt (hS0.unf0 hS) (by omega) (by omega)
theorem x_now {G : rv_G} (hG : rv_GK G) (hLK : rv_LK G) {d xo n m N : Nat} {s : wS} {M : xM} {F : xF} {h : rv_H} (hd : 12 ≤ d) (hN : N ≤ 24) (hSt : xSt G F xo s M) (hw : wfS N s) (hn : 40000 ≤ n) (hm : 200000 ≤ m) (hH : xH G F M n m h) : rv_Call G d yX1_now wX1_now [.ref xo] h (xOq G F xo (xad M) n m h [] false (o_now s)) := by
  refine rv_start hG (by decide +kernel) (L := [some (.ref xo)]) rfl (Nat.le_of_ble_eq_true rfl) (fun X hX1 hX hE => ?_)
  subst hX1
  have hSt' := hSt
  obtain ⟨wd, b1, b2, b3, b4, b5, b6, M', rfl, hW⟩ := hSt'.cell
  have hS0 : xS X.1 F h (xo :: xad M') ([(xo, cO 0 [.ref wd, b1, b2, b3, b4, b5, b6])] ++ M') n m h := hH.start
  have hS : xS X.1 F h [xo] [(xo, cO 0 [.ref wd, b1, b2, b3, b4, b5, b6])] n m h := hS0.foc
  have hp : ([(xo, cO 0 [.ref wd, b1, b2, b3, b4, b5, b6])] : xM).Perm ([(xo, cO 0 [.ref wd, b1, b2, b3, b4, b5, b6])] ++ []) := List.Perm.refl _
  have hZ := fun a c (q : xr X.1 F a c) => (hS.frz hp).2.xr q
  have hX0 := hS.frzr hp (a := xo) (List.mem_singleton.mpr rfl)
  obtain ⟨rel, ta, st, tg, ru, de, fi, sk, tf, r, ps, w1, w2, w3, w4, w5, w6, w7, w8, w9, w10⟩ := id hW
  have hS8 := hw.1.S
  have hF60 := hw.1.F60
  refine rv_aload_n hX dX1_now_0 rfl ?_
  refine rv_getfR hX gX1_21_X1 (hS.mc (k := 0) rfl) rfl dX1_now_1 ?_
  refine rv_getfR hX gX1_124_X2 (hS.f w1) rfl dX1_now_4 ?_
  refine rv_ireturn hX hE rfl ?_ dX1_now_7
  exact xOq.ret hSt (hS0.unf0 hS) (by omega) (by omega)
theorem x_focused {G : rv_G} (hG : rv_GK G) (hLK : rv_LK G) {d xo n m N : Nat} {s : wS} {M : xM} {F : xF} {h : rv_H} (hd : 12 ≤ d) (hN : N ≤ 24) (hSt : xSt G F xo s M) (hw : wfS N s) (hn : 40000 ≤ n) (hm : 200000 ≤ m) (hH : xH G F M n m h) : rv_Call G d yX1_focused wX1_focused [.ref xo] h (xOq G F xo (xad M) n m h [] false (o_focused s)) := by
  refine rv_start hG (by decide +kernel) (L := [some (.ref xo)]) rfl (Nat.le_of_ble_eq_true rfl) (fun X hX1 hX hE => ?_)
  subst hX1
  have hSt' := hSt
  obtain ⟨wd, b1, b2, b3, b4, b5, b6, M', rfl, hW⟩ := hSt'.cell
  have hS0 : xS X.1 F h (xo :: xad M') ([(xo, cO 0 [.ref wd, b1, b2, b3, b4, b5, b6])] ++ M') n m h := hH.start
  have hS : xS X.1 F h [xo] [(xo, cO 0 [.ref wd, b1, b2, b3, b4, b5, b6])] n m h := hS0.foc
  have hp : ([(xo, cO 0 [.ref wd, b1, b2, b3, b4, b5, b6])] : xM).Perm ([(xo, cO 0 [.ref wd, b1, b2, b3, b4, b5, b6])] ++ []) := List.Perm.refl _
  have hZ := fun a c (q : xr X.1 F a c) => (hS.frz hp).2.xr q
  have hX0 := hS.frzr hp (a := xo) (List.mem_singleton.mpr rfl)
  obtain ⟨rel, ta, st, tg, ru, de, fi, sk, tf, r, ps, w1, w2, w3, w4, w5, w6, w7, w8, w9, w10⟩ := id hW
  have hS8 := hw.1.S
  have hF60 := hw.1.F60
  obtain ⟨es, hL, hes⟩ := id w10
  obtain ⟨lm, led, lcap, lf, l8, lx⟩ := id hL
  have hK := hw.1.K
  obtain ⟨x, hx⟩ : ∃ x, s.w.K[s.w.K.length - 1]? = some x := ⟨_, List.getElem?_eq_getElem (by omega)⟩
  obtain ⟨e, he, hb⟩ := xbx (G := X.1) (h := h) (a := sk) ⟨hes.1, fun i e x q1 q2 => hes.2 i e x q1 q2⟩ hx
  refine rv_aload_n hX dX1_focused_0 rfl ?_
  refine rv_getfR hX gX1_21_X1 (hS.mc (k := 0) rfl) rfl dX1_focused_1 ?_
  refine rv_getfR hX gX1_34_X2 (hS.f w1) rfl dX1_focused_4 ?_
  refine rv_aload_n hX dX1_focused_7 rfl ?_
  refine rv_getfR hX gX1_21_X1 (hS.mc (k := 0) rfl) rfl dX1_focused_8 ?_
  refine rv_getfR hX gX1_34_X2 (hS.f w1) rfl dX1_focused_11 ?_
  refine rv_invVR hX iX1_58 mdJ2_size (hS.f l8) ⟨TJ2, 3, rv_c17⟩ (j_size hG (d := d - 1) (hL.mono (fun _ _ => hS.f)).L) (by omega) rfl rfl (Nat.le_of_ble_eq_true rfl) dX1_focused_14 (fun v h' hq => ?_) (fun E h' hq => by first | exact hq.elim | cases hq.2 | cases hq.1)
  obtain ⟨rfl, hq⟩ := hq
  cases hq
  rw [hes.1]
  refine nv_iconst hX (m := 1) (by decide) dX1_focused_17 ?_
  first | refine nv_isub hX (by omega) dX1_focused_18 ?_ | refine rv_isub hX dX1_focused_18 ?_
  refine rv_invVR hX iX1_70 mdJ2_get (hS.f l8) ⟨TJ2, 3, rv_c17⟩ (j_get hG (d := d - 1) (by omega) (hL.mono (fun _ _ => hS.f)).L he) (by omega) rfl rfl (Nat.le_of_ble_eq_true rfl) dX1_focused_19 (fun v h' hq => ?_) (fun E h' hq => by first | exact hq.elim | cases hq.2 | cases hq.1)
  obtain ⟨rfl, hq⟩ := hq
  cases hq
  refine rv_castOR hX hb rv_c20 q839 dX1_focused_22 ?_
  refine rv_invVR hX iX1_74 mdJ17_intValue hb ⟨TJ17, 1, rv_c20⟩ (j_intValue hG (d := d - 1) hb) (by omega) rfl rfl (Nat.le_of_ble_eq_true rfl) dX1_focused_25 (fun v h' hq => ?_) (fun E h' hq => by first | exact hq.elim | cases hq.2 | cases hq.1)
  obtain ⟨rfl, hq⟩ := hq
  cases hq
  refine rv_ireturn hX hE rfl ?_ dX1_focused_28
  have e : o_focused s = (0, nI x, s) := by
    unfold o_focused
    rw [List.getLastD_eq_getLast?, List.getLast?_eq_getElem?, hx]
    rfl
  rw [e]
  exact xOq.ret hSt (hS0.unf0 hS) (by omega) (by omega)
