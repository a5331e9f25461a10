/-! THE SYSTEM: derivers of all rules -/
set_option maxRecDepth 100000
section FOC
variable {G : rv_G} {F F1 : xF} {h0 h h' : rv_H} {A : List Nat} {M P P' W Z : xM} {n m n' m' : Nat}
theorem xS.foc (hS : xS G F h0 A (P ++ W) n m h) : xS G F h (xad P) P n m h := (hS.pre (Z := []) (P := P) (W := W) (List.Perm.refl _)).start
theorem xS.unf (hS : xS G F h0 A (P ++ W) n m h) (hQ : xS G F1 h (xad P) P' n' m' h') (hle : xle F F1 h (xad P)) : xS G F1 h0 A (P' ++ W) n' m' h' ∧ ∀ F0, xle F0 F h0 A → xle F0 F1 h0 A := hS.postE (List.Perm.refl _) hQ hle
theorem xS.unf0 (hS : xS G F h0 A (P ++ W) n m h) (hQ : xS G F h (xad P) P' n' m' h') : xS G F h0 A (P' ++ W) n' m' h' := (hS.unf hQ .rf).1
theorem xM_range {M : xM} {e : Nat × rv_C} : (List.range M.length).map (fun i => M.getD i e) = M := by
  apply List.ext_getElem?
  intro i
  rw [List.getElem?_map]
  by_cases hi : i < M.length
  · rw [List.getElem?_range hi, List.getElem?_eq_getElem hi]
    show some (M.getD i e) = _
    rw [List.getD_eq_getElem?_getD, List.getElem?_eq_getElem hi]
    rfl
  · rw [List.getElem?_eq_none (by rw [List.length_range]; omega), List.getElem?_eq_none (by omega)]
    rfl
theorem xS.reo (hS : xS G F h0 A M n m h) (z : Nat) (ix : List Nat) (hz : M.length = z) (hp : (List.range z).Perm ix) (hM : ix.map (fun i => M.getD i (0, cI 0 (fun _ => 0))) = W) : xS G F h0 A W n m h := by
  subst hz
  refine hS.perm ?_
  rw [← hM]
  have := hp.map (fun i => M.getD i (0, cI 0 (fun _ => 0)))
  rw [xM_range] at this
  exact this
/-- own cells frozen, and read so -/
theorem xS.frzr (hS : xS G F h0 A M n m h) (hp : M.Perm (Z ++ W)) {a : Nat} {c : rv_C} (hq : (a, c) ∈ Z) : xr G (xfz F Z) a c := by
  refine Or.inl (xfz_mem ?_ hq)
  have h1 := (xad_perm hp).nodup_iff.mp hS.1.2.2.1
  rw [xad_app] at h1
  exact (List.nodup_append.mp h1).1
theorem xS.oa (hS : xS G F h0 A M n m h) {k a : Nat} {c : rv_C} (hk : M[k]? = some (a, c)) : xoa G a := Or.inl (hS.1.2.2.2.1.2 _ _ (hS.mg hk)).1
theorem xS.adne (hS : xS G F h0 A M n m h) {i j a b : Nat} {c e : rv_C} (hi : M[i]? = some (a, c)) (hj : M[j]? = some (b, e)) (hij : i ≠ j) : a ≠ b := fun q => hij (sp_nd_inj hS.1.2.2.1 (xad_at hi) (by rw [q]; exact xad_at hj))
end FOC
/-- derivers, a rule each: es their objects, Ns their own cells -/
def xDs (G : rv_G) (rd : Nat → rv_C → Prop) (ms fo : Nat) (R : List sp_C) (es : List Nat) (Ns : List xM) : Prop := es.length = R.length ∧ Ns.length = R.length ∧ ∀ (i : Nat) (C : sp_C) (D : Nat) (N : xM), R[i]? = some C → es[i]? = some D → Ns[i]? = some N → ∃ ca, xCl G false rd ca C ∧ xDv G rd ca ms fo C D N
theorem xDs.mono {G : rv_G} {rd rd2 : Nat → rv_C → Prop} {ms fo : Nat} {R : List sp_C} {es : List Nat} {Ns : List xM} (h : xDs G rd ms fo R es Ns) (hm : ∀ a c, rd a c → rd2 a c) : xDs G rd2 ms fo R es Ns := ⟨h.1, h.2.1, fun i C D N h1 h2 h3 => by
  obtain ⟨ca, q1, q2⟩ := h.2.2 i C D N h1 h2 h3
  exact ⟨ca, q1.mono hm, q2.mono hm⟩⟩
theorem xDs.snoc {G : rv_G} {rd : Nat → rv_C → Prop} {ms fo k : Nat} {R : List sp_C} {C : sp_C} {es : List Nat} {Ns : List xM} {ca D : Nat} {N : xM} (h : xDs G rd ms fo (R.take k) es Ns) (hC : R[k]? = some C) (h1 : xCl G false rd ca C) (h2 : xDv G rd ca ms fo C D N) : xDs G rd ms fo (R.take (k + 1)) (es ++ [D]) (Ns ++ [N]) := by
  rw [sp_take_get hC]
  refine ⟨by rw [List.length_append, List.length_append, h.1]; rfl, by rw [List.length_append, List.length_append, h.2.1]; rfl, fun i C' D' N' q1 q2 q3 => ?_⟩
  by_cases hi : i < (R.take k).length
  · rw [List.getElem?_append_left hi] at q1
    rw [List.getElem?_append_left (by rw [h.1]; exact hi)] at q2
    rw [List.getElem?_append_left (by rw [h.2.1]; exact hi)] at q3
    exact h.2.2 i C' D' N' q1 q2 q3
  · rw [List.getElem?_append_right (by omega)] at q1
    have hi2 := (List.getElem?_eq_some_iff.mp q1).1
    have e : i = (R.take k).length := by
      rw [List.length_singleton] at hi2
      omega
    subst e
    rw [Nat.sub_self] at q1
    rw [List.getElem?_append_right (by rw [h.1]; exact Nat.le_refl _), h.1, Nat.sub_self] at q2
    rw [List.getElem?_append_right (by rw [h.2.1]; exact Nat.le_refl _), h.2.1, Nat.sub_self] at q3
    cases q1
    cases q2
    cases q3
    exact ⟨ca, h1, h2⟩
theorem x_derivers {G : rv_G} (hG : rv_GK G) (hLK : rv_LK G) {d wd fo ms n m : Nat} (hd : 62 ≤ d) {rel ta st tg ru de fi sk : Nat} {tgd rn dn now : Int32} {S : List Nat} {R : List sp_C} {F : xF} {h : rv_H} (hW : xr G F wd (cW rel ta st tg tgd ru de rn dn fi sk now)) (hR : xLp G (xr G F) (xCl G false) ru R) (hR10 : R.length ≤ 10) (hw : ∀ C, C ∈ R → sp_wfC S C) (hS3 : ∀ n, n ∈ S → 1 ≤ n ∧ n ≤ 3) (hn : 122 ≤ n) (hm : 2720 ≤ m) (hH : xH G F [] n m h) : rv_Call G d yX2_derivers wX2_derivers [.ref wd, .ref fo, .ref ms] h (xN (fun u h' => ∃ F1 la es Ns, u = some (.ref la) ∧ xle F F1 h [] ∧ xLs G (xr G F1) la es ∧ xDs G (xr G F1) ms fo R es Ns ∧ xS G F1 h [] Ns.flatten (n - 122) (m - 2720) h')) := by
  refine rv_start hG (by decide +kernel) (L := [some (.ref wd), some (.ref fo), some (.ref ms), none, none]) rfl (Nat.le_of_ble_eq_true rfl) (fun X hX1 hX hE => ?_)
  subst hX1
  have hS := hH.start
  obtain ⟨rs, hL, hes, hxs⟩ := id hR
  obtain ⟨lm, led, lcap, lf, l1, l2⟩ := id hL
  have loop : ∀ (la ed z k : Nat) (F1 : xF) (mc : Int32) (f : Nat → Option Nat) (es : List Nat) (Ns : List xM) (h1 : rv_H), R.length - k < z → k ≤ R.length → xle F F1 h [] → es.length = k → lsf es f → xDs X.1 (xr X.1 F1) ms fo (R.take k) es Ns → xS X.1 F1 h [] ([(la, lO mc ed es.length), (ed, cR 10 f)] ++ Ns.flatten) (n - 2 - 12 * k) (m - 13 - 269 * k) h1 → rv_V X h1 13 [some (.ref wd), some (.ref fo), some (.ref ms), some (.ref la), some (.int (nI k))] [] := by
    intro la ed z
    induction z with
    | zero => intro k F1 mc f es Ns h1 g1; omega
    | succ z ih =>
      intro k F1 mc f es Ns h1 g1 g2 hle hk hf hD hS0
      have hS := hS0.foc
      have hmn := fun a c (q : xr X.1 F a c) => hle.xr q
      have hL1 := hL.mono hmn
      have hW := hmn _ _ hW
      have l1 := hmn _ _ l1
      by_cases hkR : k = R.length
      · rw [hkR, List.take_length] at hD
        refine rv_iload hX dX2_derivers_13 rfl ?_
        refine rv_aload_n hX dX2_derivers_15 rfl ?_
        refine rv_getfR hX gX2_34_X2 (hS.f hW) rfl dX2_derivers_16 ?_
        refine rv_invVR hX iX2_65 mdJ2_size (hS.f l1) ⟨TJ2, 3, rv_c17⟩ (j_size hG (d := d - 1) (hL1.mono (fun _ _ => hS.f)).L) (by omega) rfl rfl (Nat.le_of_ble_eq_true rfl) dX2_derivers_19 (fun v h' hq => ?_) (fun E h' hq => by first | exact hq.elim | cases hq.2 | cases hq.1)
        obtain ⟨rfl, hq⟩ := hq
        cases hq
        rw [hes]
        refine nv_icmp_ge hX 57 (by omega) (by omega) dX2_derivers_22 (by decide) (fun c_22 => ?_) (fun q => absurd q (by omega))
        refine rv_aload_n hX dX2_derivers_57 rfl ?_
        refine rv_areturn hX hE (Or.inl ⟨_, rfl⟩) (Or.inr ⟨_, rfl⟩) ?_ dX2_derivers_58
        obtain ⟨z1, z2⟩ := hS0.cfrz [2, 2] 0 rfl rfl rfl rfl
        have hp : ([(la, lO mc ed es.length), (ed, cR 10 f)] ++ Ns.flatten).Perm ([(la, lO mc ed es.length), (ed, cR 10 f)] ++ Ns.flatten) := List.Perm.refl _
        have hxr := fun a c (q : xr X.1 F1 a c) => z2.xr q
        exact ⟨_, la, es, Ns, rfl, hle.tr z2 (Nat.le_refl _) (fun b hb => Or.inl hb), ⟨mc, ed, 10, f, hS0.frzr hp (by simp), hS0.frzr hp (by simp), ⟨by omega, hS.oa (k := 1) rfl⟩, by decide, hf⟩, hD.mono hxr, z1.bud (by omega) (by omega)⟩
      · obtain ⟨C, hC⟩ : ∃ C, R[k]? = some C := ⟨R[k], List.getElem?_eq_getElem (by omega)⟩
        obtain ⟨ca, hca, hCl⟩ := xLp.get hes hxs hC
        have hwC := hw C (List.mem_of_getElem? hC)
        have hCl1 := hCl.mono hmn
        obtain ⟨cd, cb, cgk, cmd, csal, ctl, hc1, hc2⟩ := id hCl1
        have hb6 := hwC.len.2
        have hgo : ∀ s, C.gath = some s → s < 3 := fun s hs => by
          have := (List.getElem?_eq_some_iff.mp (sp_gt_at hs).1).1
          have := hwC.ht3 hS3
          omega
        have hlen : (es.length + 1) = k + 1 := by rw [hk]
        by_cases hg : C.gath = none
        · skip
          refine rv_iload hX dX2_derivers_13 rfl ?_
          refine rv_aload_n hX dX2_derivers_15 rfl ?_
          refine rv_getfR hX gX2_34_X2 (hS.f hW) rfl dX2_derivers_16 ?_
          refine rv_invVR hX iX2_65 mdJ2_size (hS.f l1) ⟨TJ2, 3, rv_c17⟩ (j_size hG (d := d - 1) (hL1.mono (fun _ _ => hS.f)).L) (by omega) rfl rfl (Nat.le_of_ble_eq_true rfl) dX2_derivers_19 (fun v h' hq => ?_) (fun E h' hq => by first | exact hq.elim | cases hq.2 | cases hq.1)
          obtain ⟨rfl, hq⟩ := hq
          cases hq
          rw [hes]
          refine nv_icmp_ge hX 57 (by omega) (by omega) dX2_derivers_22 (by decide) (fun q => absurd q (by omega)) (fun c_22 => ?_)
          refine rv_aload_n hX dX2_derivers_25 rfl ?_
          refine xv_new hX hS nX2_122 (by omega) (show 7 ≤ _ by omega) dX2_derivers_26 (fun a_26 h_26 hS => ?_)
          have hS := hS.bud (Nat.le_refl _) (show _ - 7 ≤ _ from Nat.le_refl _)
          refine rv_dup hX dX2_derivers_29 rfl ?_
          refine rv_aload_n hX dX2_derivers_30 rfl ?_
          refine rv_getfR hX gX2_34_X2 (hS.f hW) rfl dX2_derivers_31 ?_
          refine rv_iload hX dX2_derivers_34 rfl ?_
          refine rv_invVR hX iX2_69 mdJ2_get (hS.f l1) ⟨TJ2, 3, rv_c17⟩ (j_get hG (d := d - 1) (by omega) (hL1.mono (fun _ _ => hS.f)).L hca) (by omega) rfl rfl (Nat.le_of_ble_eq_true rfl) dX2_derivers_36 (fun v h' hq => ?_) (fun E h' hq => by first | exact hq.elim | cases hq.2 | cases hq.1)
          obtain ⟨rfl, hq⟩ := hq
          cases hq
          refine rv_castOR hX (hS.f hc1) rv_c9 q1236 dX2_derivers_39 ?_
          refine rv_aload_n hX dX2_derivers_42 rfl ?_
          refine rv_aload_n hX dX2_derivers_43 rfl ?_
          refine rv_invI hX iX2_124 mdX7_init rfl (x_derInit0 hG hLK (d := d - 1) (by omega) hCl1 hg hb6 (by omega) (by omega) (hS.cpre0 [0,0,1] 0 rfl rfl rfl)) (by omega) rfl rfl (Nat.le_of_ble_eq_true rfl) dX2_derivers_44 (fun v h' hq => ?_) (fun E h' hq => by first | exact hq.elim | cases hq.2 | cases hq.1)
          obtain ⟨V, L, Mo, fr, bo, vf, hu, hxL, hvf, hQ⟩ := hq
          have hS := hS.cpost0 [0,0,1] 0 rfl rfl rfl hQ
          cases hu
          refine rv_invVR hX iX2_78 mdJ2_add (hS.mc (k := 0) rfl) ⟨TJ2, 3, rv_c17⟩ (j_add hG (d := d - 1) (by omega) (by omega) (by decide) hf (xv_el hS (hS.mc (k := 2) rfl) rv_c6 q2809) (hS.adne (i := 2) (j := 0) rfl rfl (by decide)) (hS.cpre0 [1,1] 0 rfl rfl rfl)) (by omega) rfl rfl (Nat.le_of_ble_eq_true rfl) dX2_derivers_47 (fun v h' hq => ?_) (fun E h' hq => by first | exact hq.elim | cases hq.2 | cases hq.1)
          obtain ⟨f', hu, hf', hQ⟩ := hq
          have hS := hS.cpost0 [1,1] 0 rfl rfl rfl hQ
          cases hu
          refine rv_pop hX dX2_derivers_50 rfl ?_
          first | refine nv_iinc hX (m := 1) dX2_derivers_51 rfl (by decide) (rv_st_4 rfl) ?_ | refine rv_iinc hX dX2_derivers_51 rfl rfl (rv_st_4 rfl) ?_
          refine rv_goto hX 13 dX2_derivers_54 (by decide) ?_
          obtain ⟨z1, z2⟩ := hS.cfrz [0, 0, 2, 0, 2] 0 rfl rfl rfl rfl
          have hp := xP_perm (d := 0) (by decide) (cs := [0, 0, 2, 0, 2]) (M := [(la, lO (mc + 1) ed (es.length + 1)), (ed, cR 10 f'), (a_26, cO 6 [.ref ca, .ref ms, .ref V, .ref ms, .null, .ref Mo, .null]), (V, cI 8 vf), (L, .inr (24, [.ref a_26, .ref ca])), (Mo, mX bo C.its.length fo L V fr (-1) 0 false 0), (fr, cI 3 (fun _ => 0))]) (by decide)
          have hxr := fun a c (q : xr X.1 F1 a c) => z2.xr q
          have hN : xDc0 L V Mo fr bo fo C.its.length [(Mo, mX bo C.its.length fo L V fr (-1) 0 false 0), (V, cI 8 vf), (fr, cI 3 (fun _ => 0))] := ⟨_, _, _, _, vf, _, hvf, by decide, rfl⟩
          have hDv : xDv X.1 (xr X.1 _) ca ms fo C a_26 _ := Or.inl ⟨hg, L, V, Mo, fr, bo, ⟨hS.frzr hp (a := a_26) (by simp [xP, xPa]), hS.frzr hp (a := L) (by simp [xP, xPa]), hxL.mono hxr (fun _ _ q => q.mono hxr)⟩, hN⟩
          have z3 := z1.reo 5 [0, 1, 3, 2, 4] rfl (by decide) rfl
          obtain ⟨z4, z5⟩ := hS0.unf z3 z2
          have z6 := z4.perm (W := [(la, lO (mc + 1) ed (es.length + 1)), (ed, cR 10 f')] ++ (Ns ++ [[(Mo, mX bo C.its.length fo L V fr (-1) 0 false 0), (V, cI 8 vf), (fr, cI 3 (fun _ => 0))]]).flatten) (by
            rw [List.flatten_append]
            show ([(la, lO (mc + 1) ed (es.length + 1)), (ed, cR 10 f')] ++ [(Mo, mX bo C.its.length fo L V fr (-1) 0 false 0), (V, cI 8 vf), (fr, cI 3 (fun _ => 0))] ++ Ns.flatten).Perm _
            rw [List.append_assoc]
            refine List.Perm.append_left _ (List.perm_append_comm.trans ?_)
            simp)
          refine ih (k + 1) _ (mc + 1) f' (es ++ [a_26]) _ _ (by omega) (by omega) (z5 F hle) (by rw [List.length_append, hk]; rfl) hf' ((hD.mono hxr).snoc hC (hCl1.mono hxr) hDv) ?_
          rw [List.length_append]
          exact z6.bud (by omega) (by omega)
        · skip
          refine rv_iload hX dX2_derivers_13 rfl ?_
          refine rv_aload_n hX dX2_derivers_15 rfl ?_
          refine rv_getfR hX gX2_34_X2 (hS.f hW) rfl dX2_derivers_16 ?_
          refine rv_invVR hX iX2_65 mdJ2_size (hS.f l1) ⟨TJ2, 3, rv_c17⟩ (j_size hG (d := d - 1) (hL1.mono (fun _ _ => hS.f)).L) (by omega) rfl rfl (Nat.le_of_ble_eq_true rfl) dX2_derivers_19 (fun v h' hq => ?_) (fun E h' hq => by first | exact hq.elim | cases hq.2 | cases hq.1)
          obtain ⟨rfl, hq⟩ := hq
          cases hq
          rw [hes]
          refine nv_icmp_ge hX 57 (by omega) (by omega) dX2_derivers_22 (by decide) (fun q => absurd q (by omega)) (fun c_22 => ?_)
          refine rv_aload_n hX dX2_derivers_25 rfl ?_
          refine xv_new hX hS nX2_122 (by omega) (show 7 ≤ _ by omega) dX2_derivers_26 (fun a_26 h_26 hS => ?_)
          have hS := hS.bud (Nat.le_refl _) (show _ - 7 ≤ _ from Nat.le_refl _)
          refine rv_dup hX dX2_derivers_29 rfl ?_
          refine rv_aload_n hX dX2_derivers_30 rfl ?_
          refine rv_getfR hX gX2_34_X2 (hS.f hW) rfl dX2_derivers_31 ?_
          refine rv_iload hX dX2_derivers_34 rfl ?_
          refine rv_invVR hX iX2_69 mdJ2_get (hS.f l1) ⟨TJ2, 3, rv_c17⟩ (j_get hG (d := d - 1) (by omega) (hL1.mono (fun _ _ => hS.f)).L hca) (by omega) rfl rfl (Nat.le_of_ble_eq_true rfl) dX2_derivers_36 (fun v h' hq => ?_) (fun E h' hq => by first | exact hq.elim | cases hq.2 | cases hq.1)
          obtain ⟨rfl, hq⟩ := hq
          cases hq
          refine rv_castOR hX (hS.f hc1) rv_c9 q1236 dX2_derivers_39 ?_
          refine rv_aload_n hX dX2_derivers_42 rfl ?_
          refine rv_aload_n hX dX2_derivers_43 rfl ?_
          refine rv_invI hX iX2_124 mdX7_init rfl (x_derInit1 hG hLK (d := d - 1) (by omega) hCl1 hg hgo hb6 (by omega) (by omega) (hS.cpre0 [0,0,1] 0 rfl rfl rfl)) (by omega) rfl rfl (Nat.le_of_ble_eq_true rfl) dX2_derivers_44 (fun v h' hq => ?_) (fun E h' hq => by first | exact hq.elim | cases hq.2 | cases hq.1)
          obtain ⟨V, gs, gn, gr, Go, Ha, L, Mo, fr, Mo2, fr2, bo, vf, hu, hxL, hvf, hQ⟩ := hq
          have hS := hS.cpost0 [0,0,1] 0 rfl rfl rfl hQ
          cases hu
          refine rv_invVR hX iX2_78 mdJ2_add (hS.mc (k := 0) rfl) ⟨TJ2, 3, rv_c17⟩ (j_add hG (d := d - 1) (by omega) (by omega) (by decide) hf (xv_el hS (hS.mc (k := 2) rfl) rv_c6 q2809) (hS.adne (i := 2) (j := 0) rfl rfl (by decide)) (hS.cpre0 [1,1] 0 rfl rfl rfl)) (by omega) rfl rfl (Nat.le_of_ble_eq_true rfl) dX2_derivers_47 (fun v h' hq => ?_) (fun E h' hq => by first | exact hq.elim | cases hq.2 | cases hq.1)
          obtain ⟨f', hu, hf', hQ⟩ := hq
          have hS := hS.cpost0 [1,1] 0 rfl rfl rfl hQ
          cases hu
          refine rv_pop hX dX2_derivers_50 rfl ?_
          first | refine nv_iinc hX (m := 1) dX2_derivers_51 rfl (by decide) (rv_st_4 rfl) ?_ | refine rv_iinc hX dX2_derivers_51 rfl rfl (rv_st_4 rfl) ?_
          refine rv_goto hX 13 dX2_derivers_54 (by decide) ?_
          obtain ⟨z1, z2⟩ := hS.cfrz [0, 0, 2, 0, 0, 0, 0, 0, 0, 2] 0 rfl rfl rfl rfl
          have hp := xP_perm (d := 0) (by decide) (cs := [0, 0, 2, 0, 0, 0, 0, 0, 0, 2]) (M := [(la, lO (mc + 1) ed (es.length + 1)), (ed, cR 10 f'), (a_26, cO 6 [.ref ca, .ref ms, .ref V, .ref gs, .ref Go, .ref Mo, .ref Mo2]), (V, cI 8 vf), (gs, cO 2 [.ref gn, .ref gr, .int (nI 0)]), (gn, cI 60 (fun _ => 0)), (gr, cI 60 (fun _ => 0)), (Go, cO 7 [.ref ca, .ref Ha, .int 0]), (Ha, cZ 100 (fun _ => 0)), (L, .inr (24, [.ref a_26, .ref ca])), (Mo, mX bo C.its.length fo L V fr (-1) 0 false 0), (fr, cI 3 (fun _ => 0)), (Mo2, mX bo C.its.length fo Go V fr2 (-1) 0 false 0), (fr2, cI 3 (fun _ => 0))]) (by decide)
          have hxr := fun a c (q : xr X.1 F1 a c) => z2.xr q
          have hN : xDc1 L V gs gn gr Go Ha Mo fr Mo2 fr2 bo fo ca C.its.length [(Mo, mX bo C.its.length fo L V fr (-1) 0 false 0), (Mo2, mX bo C.its.length fo Go V fr2 (-1) 0 false 0), (V, cI 8 vf), (fr, cI 3 (fun _ => 0)), (fr2, cI 3 (fun _ => 0)), (gs, cO 2 [.ref gn, .ref gr, .int (nI 0)]), (gn, cI 60 (fun _ => 0)), (gr, cI 60 (fun _ => 0)), (Go, cO 7 [.ref ca, .ref Ha, .int 0]), (Ha, cZ 100 (fun _ => 0))] := ⟨_, _, _, _, 0, 0, 0, vf, _, _, _, xIn.nil (fun _ => 0) (fun _ => 0), hvf, by decide, by decide, rfl⟩
          have hDv : xDv X.1 (xr X.1 _) ca ms fo C a_26 _ := Or.inr ⟨hg, L, V, gs, gn, gr, Go, Ha, Mo, fr, Mo2, fr2, bo, ⟨hS.frzr hp (a := a_26) (by simp [xP, xPa]), hS.frzr hp (a := L) (by simp [xP, xPa]), hxL.mono hxr (fun _ _ q => q.mono hxr)⟩, hN⟩
          have z3 := z1.reo 12 [0, 1, 8, 10, 2, 9, 11, 3, 4, 5, 6, 7] rfl (by decide) rfl
          obtain ⟨z4, z5⟩ := hS0.unf z3 z2
          have z6 := z4.perm (W := [(la, lO (mc + 1) ed (es.length + 1)), (ed, cR 10 f')] ++ (Ns ++ [[(Mo, mX bo C.its.length fo L V fr (-1) 0 false 0), (Mo2, mX bo C.its.length fo Go V fr2 (-1) 0 false 0), (V, cI 8 vf), (fr, cI 3 (fun _ => 0)), (fr2, cI 3 (fun _ => 0)), (gs, cO 2 [.ref gn, .ref gr, .int (nI 0)]), (gn, cI 60 (fun _ => 0)), (gr, cI 60 (fun _ => 0)), (Go, cO 7 [.ref ca, .ref Ha, .int 0]), (Ha, cZ 100 (fun _ => 0))]]).flatten) (by
            rw [List.flatten_append]
            show ([(la, lO (mc + 1) ed (es.length + 1)), (ed, cR 10 f')] ++ [(Mo, mX bo C.its.length fo L V fr (-1) 0 false 0), (Mo2, mX bo C.its.length fo Go V fr2 (-1) 0 false 0), (V, cI 8 vf), (fr, cI 3 (fun _ => 0)), (fr2, cI 3 (fun _ => 0)), (gs, cO 2 [.ref gn, .ref gr, .int (nI 0)]), (gn, cI 60 (fun _ => 0)), (gr, cI 60 (fun _ => 0)), (Go, cO 7 [.ref ca, .ref Ha, .int 0]), (Ha, cZ 100 (fun _ => 0))] ++ Ns.flatten).Perm _
            rw [List.append_assoc]
            refine List.Perm.append_left _ (List.perm_append_comm.trans ?_)
            simp)
          refine ih (k + 1) _ (mc + 1) f' (es ++ [a_26]) _ _ (by omega) (by omega) (z5 F hle) (by rw [List.length_append, hk]; rfl) hf' ((hD.mono hxr).snoc hC (hCl1.mono hxr) hDv) ?_
          rw [List.length_append]
          exact z6.bud (by omega) (by omega)
  refine xv_new hX hS nX2_9 (by omega) (show 3 ≤ _ by omega) dX2_derivers_0 (fun a_0 h_0 hS => ?_)
  have hS := hS.bud (Nat.le_refl _) (show _ - 3 ≤ _ from Nat.le_refl _)
  refine rv_dup hX dX2_derivers_3 rfl ?_
  refine nv_bipush hX (m := 10) (by decide) dX2_derivers_4 ?_
  refine rv_invI hX iX2_11 mdJ2_init rfl (j_new hG (d := d - 1) (by omega) (by decide) (by omega) (by omega) (hS.cpre0 [] 1 rfl rfl rfl)) (by omega) rfl rfl (Nat.le_of_ble_eq_true rfl) dX2_derivers_6 (fun v h' hq => ?_) (fun E h' hq => by first | exact hq.elim | cases hq.2 | cases hq.1)
  obtain ⟨ed, hu, hQ⟩ := hq
  have hS := hS.cpost0 [] 1 rfl rfl rfl hQ
  cases hu
  refine rv_astore_n hX dX2_derivers_9 (rv_st_3 rfl) ?_
  refine nv_iconst hX (m := 0) (by decide) dX2_derivers_10 ?_
  refine rv_istore hX dX2_derivers_11 (rv_st_4 rfl) ?_
  exact loop _ ed _ 0 F _ _ [] [] _ (Nat.lt_succ_self _) (Nat.zero_le _) .rf rfl (fun i e q => by cases q) ⟨rfl, rfl, fun i C D N q => by simp at q⟩ hS
