/-! THE SYSTEM: a fact told -/
set_option maxRecDepth 100000
theorem xEs.set {α : Type} {rd : Nat → rv_C → Prop} {P : (Nat → rv_C → Prop) → Nat → α → Prop} {es : List Nat} {xs : List α} {e k : Nat} {x : α} (h : xEs rd P es xs) (hx : P rd e x) : xEs rd P (es.set k e) (xs.set k x) := by
  refine ⟨by rw [List.length_set, List.length_set, h.1], fun i e' x' h1 h2 => ?_⟩
  by_cases hi : k = i
  · subst hi
    have hl := (List.getElem?_eq_some_iff.mp h1).1
    have hl2 := (List.getElem?_eq_some_iff.mp h2).1
    rw [List.length_set] at hl hl2
    rw [List.getElem?_set_self hl] at h1
    rw [List.getElem?_set_self hl2] at h2
    cases h1
    cases h2
    exact hx
  · rw [List.getElem?_set_ne hi] at h1 h2
    exact h.2 i e' x' h1 h2
/-- what a step leaves -/
theorem xOq.step {G : rv_G} {F F1 : xF} {xo p : Nat} {n m n' m' : Nat} {h h' : rv_H} {s : wS} {w w' : wW} {ex : List String} {Mx : xM} {A : List Nat} (hle : xle F F1 h A) (hst : w.stl = some w') (hk : ∃ F2, xle F1 F2 h A ∧ xSt G F2 xo (s.setw w') Mx ∧ xS G F2 h A Mx n' m' h') (hn : n ≤ n' + 40000) (hm : m ≤ m' + 200000) : xOq G F xo A n m h ex false (s.step p w) (.inl (some (.int (nI w'.F.length)))) h' := by
  obtain ⟨F2, k1, k2, k3⟩ := hk
  have e : s.step p w = (0, nI w'.F.length, s.setw w') := by unfold wS.step; rw [hst]
  rw [e]
  exact ⟨F2, Mx, hle.tr k1 (Nat.le_refl _) (fun b hb => Or.inl hb), k2, k3.bud (by omega) (by omega), rfl, rfl⟩
theorem wfP_tell {N k e : Nat} {s : wS} (h : wfS N s) (hk : sp_faultN s.w.S k = 0) (he : e ≤ 20 * N + 20 + 100) : wfP (N + 1) (1200 * N) (10 * N) (20 * N + 20) (s.w.setT (sp_tellF s.w.T k e)) := by
  have hX := h.P.mn (Nat.le_succ N) (Nat.le_refl _) (Nat.le_refl _) (Nat.le_add_right _ 20)
  obtain ⟨⟨hS, hR, hD, hT, hF, hA, hK, hN, hE⟩, -⟩ := hX
  exact ⟨hS, hR, hD, sp_tellF_ok hT.1 hT.2 ⟨hk, he⟩, hF, hA, hK, hN, hE⟩
theorem sp_tellF_len {T : List (Nat × Nat)} {f e : Nat} : (sp_tellF T f e).length ≤ T.length + 1 := by
  unfold sp_tellF
  split
  · rw [List.length_append]
    exact Nat.le_refl _
  · split
    · rw [List.length_set]
      exact Nat.le_succ _
    · exact Nat.le_succ _
theorem x_tell {G : rv_G} (hG : rv_GK G) (hLK : rv_LK G) {d xo n m N : Nat} {s : wS} {M : xM} {f t : Int32} {F : xF} {h : rv_H} (hd : 70 ≤ d) (hN : N ≤ 24) (hSt : xSt G F xo s M) (hw : wfS N s) (hn : 40000 ≤ n) (hm : 200000 ≤ m) (hH : xH G F M n m h) : rv_Call G d yX1_tell wX1_tell [.ref xo, .int f, .int t] h (xOq G F xo (xad M) n m h [RJ19, RJ6, RJ18] false (o_tell s f t)) := by
  refine rv_start hG (by decide +kernel) (L := [some (.ref xo), some (.int f), some (.int t), none]) rfl (Nat.le_of_ble_eq_true rfl) (fun X hX1 hX hE => ?_)
  subst hX1
  obtain ⟨wd, bg, dv, rv, rw1, lv, lf, Nb, Nd, rfl, hW, hDr, hnew⟩ := hSt.world
  have hS0 : xS X.1 F h (xo :: xad (Nb ++ Nd)) ([(xo, cO 0 [.ref wd, dv, .ref bg, rv, rw1, lv, .int lf])] ++ (Nb ++ Nd)) n m h := hH.start
  have hS : xS X.1 F h [xo] [(xo, cO 0 [.ref wd, dv, .ref bg, rv, rw1, lv, .int lf])] n m h := hS0.foc
  have hp : ([(xo, cO 0 [.ref wd, dv, .ref bg, rv, rw1, lv, .int lf])] : xM).Perm ([(xo, cO 0 [.ref wd, dv, .ref bg, rv, rw1, lv, .int lf])] ++ []) := List.Perm.refl _
  have hZ := fun a c (q : xr X.1 F a c) => (hS.frz hp).2.xr q
  have hX0 := hS.frzr hp (a := xo) (List.mem_singleton.mpr rfl)
  obtain ⟨rel, ta, st, tg, ru, de, fi, sk, tf, r, ps, es1, es2, es3, es4, es5, es6, w1, ⟨a1, a2, a3, a4, a5, a6⟩, ⟨b1, b2, b3, b4, b5, b6⟩, ⟨e1, e2, e3, e4, e5, e6⟩, w4, w5, w9⟩ := hW.parts hw.1 hN
  have hS8 := hw.1.S
  have hT60 := hw.1.b6.1
  have hnow := hw.1.now
  have hT8 : ∀ p, p ∈ s.w.T → p.1 < 8000000 ∧ p.2 < 1000000 := fun p hp => ⟨hw.1.t8 p hp, by have := (hw.1.T.2 p hp).2; omega⟩
  have hthr : ∀ (E : String) (i : Nat) (h' : rv_H) (n' m' : Nat), [RJ19, RJ6, RJ18][i]? = some E → (o_tell s f t).1 = i + 1 ∧ (o_tell s f t).2.2 = s → xS X.1 F h (xo :: xad (Nb ++ Nd)) ([(xo, cO 0 [.ref wd, dv, .ref bg, rv, rw1, lv, .int lf])] ++ (Nb ++ Nd)) n' m' h' → n ≤ n' + 40000 → m ≤ m' + 200000 → xOq X.1 F xo (xo :: xad (Nb ++ Nd)) n m h [RJ19, RJ6, RJ18] false (o_tell s f t) (.inr E) h' := fun E i h' n' m' q1 q2 q3 q4 q5 => xOq.thr (i := i) q2 q1 hSt q3 q4 q5
  have tail : ∀ (k e nx rel1 ta1 ru1 de1 fi1 sk1 : Nat) (N1 N2 N3 N4 N5 N6 : xM) (L3 : Option Value) (h1 : rv_H) (n1 m1 : Nat), k < 8000000 → sp_faultN s.w.S k = 0 → e ≤ 20 * N + 20 + 100 → n ≤ n1 + 100 → m ≤ m1 + 5000 → o_tell s f t = s.step 3 (s.w.setT (sp_tellF s.w.T k e)) → (xAL X.1 rel1 es1 N1 ∧ xAL X.1 ta1 es2 N2 ∧ xAL X.1 ru1 es3 N3 ∧ xAL X.1 de1 es4 N4 ∧ xAL X.1 fi1 es5 N5 ∧ xAL X.1 sk1 es6 N6) → xS X.1 F h [xo] ((xo, cO 0 [.ref wd, dv, .ref bg, rv, rw1, lv, .int lf]) :: (nx, cW rel1 ta1 st tg (nI s.w.g) ru1 de1 (nI s.w.nr) (nI s.w.nd) fi1 sk1 (nI s.w.now)) :: (N1 ++ (N2 ++ (N3 ++ (N4 ++ (N6 ++ N5)))))) n1 m1 h1 → rv_V X h1 50 [some (.ref xo), some (.int f), some (.int t), some (.ref nx)] [.int (nI e), .int (nI k), .ref nx] := by
    intro k e nx rel1 ta1 ru1 de1 fi1 sk1 N1 N2 N3 N4 N5 N6 L3 h1 n1 m1 hk8 hkf he hn1 hm1 ho ⟨hN1, hN2, hN3, hN4, hN5, hN6⟩ hS
    have hS9 : xS X.1 F h [xo] ([[(xo, cO 0 [.ref wd, dv, .ref bg, rv, rw1, lv, .int lf])], (nx, cW rel1 ta1 st tg (nI s.w.g) ru1 de1 (nI s.w.nr) (nI s.w.nd) fi1 sk1 (nI s.w.now)) :: N2, N1, N3, N4, N6, N5].flatten) n1 m1 h1 := hS.perm ((List.Perm.append_left [(xo, cO 0 [.ref wd, dv, .ref bg, rv, rw1, lv, .int lf]), (nx, cW rel1 ta1 st tg (nI s.w.g) ru1 de1 (nI s.w.nr) (nI s.w.nd) fi1 sk1 (nI s.w.now))] (List.perm_append_comm_assoc N1 N2 (N3 ++ (N4 ++ (N6 ++ N5))))).trans (by simp))
    have hwP := wfP_tell hw hkf he
    have hTl' := sp_tellF_len (T := s.w.T) (f := k) (e := e)
    have hS := hS9
    refine rv_invVR hX iX1_127 mdX2_tell (hS.mc (k := 1) rfl) ⟨TX2, 12, rv_c1⟩ (x_wtell hG (d := d - 1) (by omega) hN2 b2 hT8 hT60 hk8 (by omega) (by omega) (by omega) (hS9.pick (j := 1) rfl).1) (by omega) rfl rfl (Nat.le_of_ble_eq_true rfl) dX1_tell_50 (fun v h' hq => ?_) (fun E h' hq => by first | exact hq.elim | cases hq.2 | cases hq.1)
    obtain ⟨te, tfn, es2', N2', e', hu, hN2', ⟨q1, q2⟩, hcase, hQ⟩ := hq
    cases hu
    have hS7 := (hS9.pick (j := 1) rfl).2 _ _ _ _ hQ
    have hS8 : xS X.1 F h [xo] ([(te, cI 2 tfn)] ++ [[(xo, cO 0 [.ref wd, dv, .ref bg, rv, rw1, lv, .int lf])], [(nx, cW rel1 ta1 st tg (nI s.w.g) ru1 de1 (nI s.w.nr) (nI s.w.nd) fi1 sk1 (nI s.w.now))], N1, N2', N3, N4, N6, N5].flatten) _ _ _ := hS7.perm (by
      show ([(xo, cO 0 [.ref wd, dv, .ref bg, rv, rw1, lv, .int lf])] ++ (((nx, cW rel1 ta1 st tg (nI s.w.g) ru1 de1 (nI s.w.nr) (nI s.w.nd) fi1 sk1 (nI s.w.now)) :: (te, cI 2 tfn) :: N2') ++ [N1, N3, N4, N6, N5].flatten)).Perm _
      have e9 : ([(te, cI 2 tfn)] ++ [[(xo, cO 0 [.ref wd, dv, .ref bg, rv, rw1, lv, .int lf])], [(nx, cW rel1 ta1 st tg (nI s.w.g) ru1 de1 (nI s.w.nr) (nI s.w.nd) fi1 sk1 (nI s.w.now))], N1, N2', N3, N4, N6, N5].flatten : xM) = (te, cI 2 tfn) :: ([(xo, cO 0 [.ref wd, dv, .ref bg, rv, rw1, lv, .int lf]), (nx, cW rel1 ta1 st tg (nI s.w.g) ru1 de1 (nI s.w.nr) (nI s.w.nd) fi1 sk1 (nI s.w.now))] ++ (N1 ++ (N2' ++ [N3, N4, N6, N5].flatten))) := by simp
      rw [e9]
      have e8 : ([(xo, cO 0 [.ref wd, dv, .ref bg, rv, rw1, lv, .int lf])] ++ (((nx, cW rel1 ta1 st tg (nI s.w.g) ru1 de1 (nI s.w.nr) (nI s.w.nd) fi1 sk1 (nI s.w.now)) :: (te, cI 2 tfn) :: N2') ++ [N1, N3, N4, N6, N5].flatten) : xM) = [(xo, cO 0 [.ref wd, dv, .ref bg, rv, rw1, lv, .int lf]), (nx, cW rel1 ta1 st tg (nI s.w.g) ru1 de1 (nI s.w.nr) (nI s.w.nd) fi1 sk1 (nI s.w.now))] ++ (te, cI 2 tfn) :: (N2' ++ (N1 ++ [N3, N4, N6, N5].flatten)) := by simp
      rw [e8]
      exact List.perm_middle.trans (List.Perm.cons _ (List.Perm.append_left _ (List.perm_append_comm_assoc _ _ _))))
    have hte := hS8.frzr (List.Perm.refl _) (a := te) (List.mem_singleton.mpr rfl)
    have hteb : rv_b X.1 ≤ te := (hS8.1.2.2.2.1.2 _ _ (hS8.mg (k := 0) rfl)).1
    obtain ⟨hS, hle⟩ := hS8.frz (Z := [(te, cI 2 tfn)]) (List.Perm.refl _)
    have hmn := fun a c (q : xr X.1 F a c) => hle.xr q
    have hE2 : xEs (xr X.1 (xfz F [(te, cI 2 tfn)])) (xTd X.1) es2' (sp_tellF s.w.T k e) := by
      rcases hcase with ⟨c1, c2⟩ | ⟨j, c1, c2⟩
      · rw [c1, c2]
        exact (b2.mono (fun _ _ q => q.mono hmn)).snoc ⟨tfn, hte, hteb, q1, q2⟩
      · rw [c1, c2]
        exact (b2.mono (fun _ _ q => q.mono hmn)).set ⟨tfn, hte, hteb, q1, q2⟩
    refine rv_aload_n hX dX1_tell_53 rfl ?_
    refine rv_aload_n hX dX1_tell_54 rfl ?_
    refine rv_invVR hX iX1_130 mdX1_become (hS.mc (k := 0) rfl) ⟨TX1, 7, rv_c0⟩ (x_becomeW hG hLK (F := xfz F [(te, cI 2 tfn)]) (w := s.w.setT (sp_tellF s.w.T k e)) (d := d - 1) (by omega) hwP (by omega) (by show (sp_tellF s.w.T k e).length ≤ 61; omega) ⟨hN1, hN2', hN3, hN4, hN5, hN6⟩ ⟨b1.mono (fun _ _ q => q), hE2, b3.mono (fun _ _ q => q.mono hmn), b4.mono (fun _ _ q => q.mono hmn), b5.mono (fun _ _ q => q.mono hmn), b6.mono (fun _ _ q => q)⟩ (w4.mono2 hmn) ⟨hmn _ _ w5.1, w5.2⟩ w9 (by omega) (by omega) (hS.cpre0 [] 1 rfl rfl rfl)) (by omega) rfl rfl (Nat.le_of_ble_eq_true rfl) dX1_tell_55 (fun v h' hq => ?_) (fun E h' hq => by exact rv_out hX hE (fun x hx => by cases hx) (hthr E 2 h' _ _ (by rw [hq.1]; rfl) (by rw [ho]; unfold wS.step; rw [hq.2.1]; exact ⟨rfl, rfl⟩) ((hS0.unf (hS.cpost0 [] 1 rfl rfl rfl hq.2.2) hle).1.wk hle) (by omega) (by omega)))
    obtain ⟨w', Zs, hst9, hu, hnx, hxw, hQ⟩ := hq
    have hS := hS.cpost0 [] 1 rfl rfl rfl hQ
    cases hu
    refine rv_ireturn hX hE rfl ?_ dX1_tell_58
    obtain ⟨z1, z2⟩ := hS0.unf hS hle
    obtain ⟨F9, -, hw9⟩ := wW.stl_spec hst9
    rw [ho]
    exact xOq.step (z2 F .rf) hst9 (hnew _ hmn nx w' Zs _ _ _ _ _ z1 hnx hxw (by rw [hw9]; exact hDr)) (by omega) (by omega)
  by_cases hrng : w_rng 0 100 t
  · obtain ⟨tn, -, ht100, rfl, htc⟩ := w_rng_nat (by decide) (by decide) hrng
    refine rv_aload_n hX dX1_tell_0 rfl ?_
    refine rv_iload_n hX dX1_tell_1 rfl ?_
    refine rv_invVR hX iX1_121 mdX1_checkFact (hS.mc (k := 0) rfl) ⟨TX1, 7, rv_c0⟩ (x_checkFact hG (d := d - 1) (by omega) hX0 (hW.mono hZ) hS8 (by omega) (by omega) (hS.cpre [2] 0 rfl rfl rfl)) (by omega) rfl rfl (Nat.le_of_ble_eq_true rfl) dX1_tell_2 (fun v h' hq => ?_) (fun E h' hq => by exact rv_out hX hE (fun x hx => by cases hx) (xOq.flt ⟨rfl, rfl⟩ (fun e => if_pos e) hSt hq.1 (hS0.unf0 (hS.cpost [2] 0 rfl rfl rfl hq.2)) (by omega) (by omega)))
    obtain ⟨⟨k, rfl, hk8, hkr⟩, hfa, rfl, rfl⟩ := hq
    have hfn : sp_faultN s.w.S k = 0 := by rw [sp_fault_nI (by omega)] at hfa; exact hfa
    have hoe : ∀ e : Nat, e = (if nI tn = 0 then 0 else s.w.now + (nI tn).toNatClampNeg) → o_tell s (nI k) (nI tn) = s.step 3 (s.w.setT (sp_tellF s.w.T k e)) := fun e q => by
      unfold o_tell
      rw [if_neg (by rw [hfa]; decide), if_neg (fun q => q hrng), nI_clamp (by omega), ← q]
    refine rv_iload_n hX dX1_tell_5 rfl ?_
    refine rv_if_lt hX 19 dX1_tell_6 (by decide) (fun q => absurd q (nI_pos (by omega))) (fun c_6 => ?_)
    refine rv_iload_n hX dX1_tell_9 rfl ?_
    refine nv_bipush hX (m := 100) (by decide) dX1_tell_10 ?_
    refine nv_icmp_gt hX 19 (by omega) (by omega) dX1_tell_12 (by decide) (fun q => absurd q (by omega)) (fun c_12 => ?_)
    refine nv_iconst hX (m := 1) (by decide) dX1_tell_15 ?_
    refine rv_goto hX 20 dX1_tell_16 (by decide) ?_
    refine rv_invS hX iX1_85 mdX1_checkArgument (x_checkArgument hG (b := true) (d := d - 1) (by omega) (by omega) (by omega) (hS.cpre0 [] 0 rfl rfl rfl)) (by omega) rfl rfl (Nat.le_of_ble_eq_true rfl) dX1_tell_20 (fun v h' hq => ?_) (fun E h' hq => by exact absurd hq.2.1 (by decide))
    obtain ⟨-, rfl, rfl⟩ := hq
    refine rv_aload_n hX dX1_tell_23 rfl ?_
    refine rv_getfR hX gX1_21_X1 (hS.mc (k := 0) rfl) rfl dX1_tell_24 ?_
    refine rv_invVR hX iX1_117 mdX2_copy (hS.f w1) ⟨TX2, 12, rv_c1⟩ (x_copy hG (d := d - 1) (by omega) w1 a1 a2 a3 a4 a5 a6 e1 e2 e3 e4 e5 e6 (by omega) (by omega) (hS.cpre0 [0] 0 rfl rfl rfl)) (by omega) rfl rfl (Nat.le_of_ble_eq_true rfl) dX1_tell_27 (fun v h' hq => ?_) (fun E h' hq => by first | exact hq.elim | cases hq.2 | cases hq.1)
    obtain ⟨nx, rel1, ta1, ru1, de1, fi1, sk1, N1, N2, N3, N4, N5, N6, hu, hNs, hQ⟩ := hq
    have hS := hS.cpost0 [0] 0 rfl rfl rfl hQ
    cases hu
    refine rv_astore_n hX dX1_tell_30 (rv_st_3 rfl) ?_
    refine rv_aload_n hX dX1_tell_31 rfl ?_
    refine rv_iload_n hX dX1_tell_32 rfl ?_
    refine rv_iload_n hX dX1_tell_33 rfl ?_
    first | refine zv_if_ne hX 41 dX1_tell_34 (by decide) (fun c_34 => ?_) (fun c_34 => ?_) | refine nv_if_ne hX 41 (by omega) dX1_tell_34 (by decide) (fun c_34 => ?_) (fun c_34 => ?_) | refine rv_if_ne hX 41 dX1_tell_34 (by decide) (fun c_34 => ?_) (fun c_34 => ?_)
    · skip
      have hev : s.w.now + tn = (if nI tn = 0 then 0 else s.w.now + (nI tn).toNatClampNeg) := by rw [if_neg (fun q => by have := (nI_eq (a := tn) (b := 0) (by omega) (by omega)).mp q; omega), htc]
      refine rv_aload_n hX dX1_tell_41 rfl ?_
      refine rv_getfR hX gX1_21_X1 (hS.mc (k := 0) rfl) rfl dX1_tell_42 ?_
      refine rv_getfR hX gX1_124_X2 (hS.f w1) rfl dX1_tell_45 ?_
      refine rv_iload_n hX dX1_tell_48 rfl ?_
      first | refine nv_iadd hX dX1_tell_49 ?_ | refine rv_iadd hX dX1_tell_49 ?_
      exact tail k _ nx rel1 ta1 ru1 de1 fi1 sk1 N1 N2 N3 N4 N5 N6 none _ _ _ hk8 hfn (by omega) (by omega) (by omega) (hoe _ hev) hNs hS
    · skip
      have hev : 0 = (if nI tn = 0 then 0 else s.w.now + (nI tn).toNatClampNeg) := by rw [if_pos (show nI tn = 0 from (nI_eq (a := tn) (b := 0) (by omega) (by omega)).mpr (by omega))]
      refine nv_iconst hX (m := 0) (by decide) dX1_tell_37 ?_
      refine rv_goto hX 50 dX1_tell_38 (by decide) ?_
      exact tail k _ nx rel1 ta1 ru1 de1 fi1 sk1 N1 N2 N3 N4 N5 N6 none _ _ _ hk8 hfn (by omega) (by omega) (by omega) (hoe _ hev) hNs hS
  · skip
    refine rv_aload_n hX dX1_tell_0 rfl ?_
    refine rv_iload_n hX dX1_tell_1 rfl ?_
    refine rv_invVR hX iX1_121 mdX1_checkFact (hS.mc (k := 0) rfl) ⟨TX1, 7, rv_c0⟩ (x_checkFact hG (d := d - 1) (by omega) hX0 (hW.mono hZ) hS8 (by omega) (by omega) (hS.cpre [2] 0 rfl rfl rfl)) (by omega) rfl rfl (Nat.le_of_ble_eq_true rfl) dX1_tell_2 (fun v h' hq => ?_) (fun E h' hq => by exact rv_out hX hE (fun x hx => by cases hx) (xOq.flt ⟨rfl, rfl⟩ (fun e => if_pos e) hSt hq.1 (hS0.unf0 (hS.cpost [2] 0 rfl rfl rfl hq.2)) (by omega) (by omega)))
    obtain ⟨⟨k, rfl, hk8, hkr⟩, hfa, rfl, rfl⟩ := hq
    have ho : o_tell s (nI k) t = (2, 0, s) := by
      unfold o_tell
      rw [if_neg (by rw [hfa]; decide), if_pos hrng]
    refine rv_iload_n hX dX1_tell_5 rfl ?_
    refine rv_if_lt hX 19 dX1_tell_6 (by decide) (fun c_6 => ?_) (fun c_6 => ?_)
    · skip
      refine nv_iconst hX (m := 0) (by decide) dX1_tell_19 ?_
      refine rv_invS hX iX1_85 mdX1_checkArgument (x_checkArgument hG (b := false) (d := d - 1) (by omega) (by omega) (by omega) (hS.cpre0 [] 0 rfl rfl rfl)) (by omega) rfl rfl (Nat.le_of_ble_eq_true rfl) dX1_tell_20 (fun v h' hq => ?_) (fun E h' hq => by exact rv_out hX hE (fun x hx => by cases hx) (xOq.thr (i := 1) (by rw [ho]; exact ⟨rfl, rfl⟩) (by rw [hq.1]; rfl) hSt (hS0.unf0 (hS.cpost0 [] 0 rfl rfl rfl hq.2.2)) (by omega) (by omega)))
      obtain ⟨hb, rfl, rfl⟩ := hq
      exact absurd hb (by decide)
    · skip
      refine rv_iload_n hX dX1_tell_9 rfl ?_
      refine nv_bipush hX (m := 100) (by decide) dX1_tell_10 ?_
      first | refine nv_icmp_gt hX 19 (by omega) (by omega) dX1_tell_12 (by decide) (fun c_12 => ?_) (fun c_12 => ?_) | refine rv_icmp_gt hX 19 dX1_tell_12 (by decide) (fun c_12 => ?_) (fun c_12 => ?_)
      · skip
        refine nv_iconst hX (m := 0) (by decide) dX1_tell_19 ?_
        refine rv_invS hX iX1_85 mdX1_checkArgument (x_checkArgument hG (b := false) (d := d - 1) (by omega) (by omega) (by omega) (hS.cpre0 [] 0 rfl rfl rfl)) (by omega) rfl rfl (Nat.le_of_ble_eq_true rfl) dX1_tell_20 (fun v h' hq => ?_) (fun E h' hq => by exact rv_out hX hE (fun x hx => by cases hx) (xOq.thr (i := 1) (by rw [ho]; exact ⟨rfl, rfl⟩) (by rw [hq.1]; rfl) hSt (hS0.unf0 (hS.cpost0 [] 0 rfl rfl rfl hq.2.2)) (by omega) (by omega)))
        obtain ⟨hb, rfl, rfl⟩ := hq
        exact absurd hb (by decide)
      · skip
        exact absurd ⟨Int32.not_lt.mp c_6, Int32.not_lt.mp c_12⟩ hrng --done
