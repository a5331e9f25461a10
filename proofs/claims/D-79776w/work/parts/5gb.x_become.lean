/-! THE SYSTEM: a changed world becomes the one of now -/
set_option maxRecDepth 100000
def nw_leaf : Cond → Bool
  | .and _ _ => false
  | _ => true
theorem nw_flat : ∀ {p : List Bool} {c : Cond}, nw_leaf (nw_get c p) = true → nw_get c p ∈ flatC c := by
  intro p
  induction p with
  | nil =>
    intro c h
    cases c with
    | and a b => cases h
    | _ => exact List.mem_singleton.mpr rfl
  | cons x p ih =>
    intro c h
    cases c with
    | and a b =>
      cases x with
      | true => exact List.mem_append_right _ (ih (c := b) h)
      | false => exact List.mem_append_left _ (ih (c := a) h)
    | _ => exact List.mem_singleton.mpr rfl
theorem rv_ncp {E nm : String} (p : List Bool) (h : nw_get narrow_1 p = Cond.not (.castable E nm)) : rv_nc E nm := by
  unfold rv_nc
  rw [← h]
  exact List.mem_append_right _ (nw_flat (by rw [h]; rfl))
theorem nc_DC : rv_nc RX5 RX6 := rv_ncp (nw_p [0, 0, 0, 1, 0, 1, 1, 1, 0, 1, 0]) rfl
theorem x_become {G : rv_G} (hG : rv_GK G) (hLK : rv_LK G) {d xo nx n m : Nat} (hd : 68 ≤ d) {dv rv rw lv : Value} {lf : Int32} {wd bg rel ta st0 tg ru de fi sk g : Nat} {rn dn now : Int32} {S Fs A : List Nat} {R : List sp_C} {T : List (Nat × Nat)} {r : Nat → Nat} {tf : Nat → Int32} {ps : List (Nat × (Nat × Nat × Nat × Nat))} {Nf : xM} {F : xF} {h : rv_H} (hR : xLp G (xr G F) (xCl G false) ru R) (hT : xLp G (xr G F) (xTd G) ta T) (hF : xFc (xr G F) st0 Fs r) (hA : xr G F tg (cI 60 tf)) (hAl : A.length = Fs.length) (hAt : ∀ k t, A[k]? = some t → tf k = nI t) (hA1 : ∀ t, t ∈ A → 1 ≤ t ∧ t ≤ g) (hg : g ≤ 1000000) (hfi : xAL G fi (ps.map (fun p => p.1)) Nf) (hps : ∀ p, p ∈ ps → xFi G (xr G F) p.1 p.2 ∧ ∀ k, xet p.2 k < 2147483648) (hR10 : R.length ≤ 10) (hw : ∀ C, C ∈ R → sp_wfC S C) (hS3 : ∀ n, n ∈ S → 1 ≤ n ∧ n ≤ 3) (hS8 : S.length ≤ 8) (hTl : T.length ≤ 61) (hT8 : ∀ p, p ∈ T → p.1 < 8000000) (hn : 150 ≤ n) (hm : 3200 ≤ m) (hH : xH G F ((xo, cO 0 [.ref wd, dv, .ref bg, rv, rw, lv, .int lf]) :: (nx, cW rel ta st0 tg (nI g) ru de rn dn fi sk now) :: Nf) n m h) : rv_Call G d yX1_become wX1_become [.ref xo, .ref nx] h (xT (fun u h' => ∃ (st1 an ar tg1 : Nat) (s : xIn) (tf1 : Nat → Int32) (N1 : xM), u = some (.int (nI s.F.length)) ∧ sp_set R (T.map (fun p => p.1)) = some s.F ∧ (∀ k t, (sp_gtags Fs A g s.F)[k]? = some t → tf1 k = nI t) ∧ xAL G fi ((ps.filter (fun p => xal3 (sp_gtags Fs A g s.F) p.2)).map (fun p => p.1)) N1 ∧ xS G F h (xo :: nx :: xad Nf) ((xo, cO 0 [.ref nx, dv, .ref bg, rv, rw, lv, .int lf]) :: (nx, cW rel ta st1 tg1 (nI (sp_gnew Fs A g s.F)) ru de rn dn fi sk now) :: (s.M st1 an ar ++ ((tg1, cI 60 tf1) :: N1))) (n - 150) (m - 3200) h') (fun E h' => E = RJ18 ∧ sp_set R (T.map (fun p => p.1)) = none ∧ xS G F h (xo :: nx :: xad Nf) [(xo, cO 0 [.ref wd, dv, .ref bg, rv, rw, lv, .int lf])] (n - 150) (m - 3200) h')) := by
  refine rv_startW hG (by decide +kernel) (L := [some (.ref xo), some (.ref nx), none]) rfl (Nat.le_of_ble_eq_true rfl) (fun X hX1 hX hE => ?_)
  subst hX1
  have hS : xS X.1 F h (xo :: nx :: xad Nf) ((xo, cO 0 [.ref wd, dv, .ref bg, rv, rw, lv, .int lf]) :: (nx, cW rel ta st0 tg (nI g) ru de rn dn fi sk now) :: Nf) n m h := hH.start
  have fin : ∀ (q : Nat) (h' : rv_H), sp_set R (T.map (fun p => p.1)) = none → xS X.1 F h (xo :: nx :: xad Nf) [(xo, cO 0 [.ref wd, dv, .ref bg, rv, rw, lv, .int lf])] (n - 140) (m - 3100) h' → rv_V X h' 7 [some (.ref xo), some (.ref nx), none] [.ref q] := by
    intro q h' hno hS
    refine rv_astore_n hX dX1_become_7 (rv_st_2 rfl) ?_
    refine xv_new hX hS nX1_49 (by omega) (show 6 ≤ _ by omega) dX1_become_8 (fun a_8 h_8 hS => ?_)
    have hS := hS.bud (Nat.le_refl _) (show _ - 6 ≤ _ from Nat.le_refl _)
    refine rv_dup hX dX1_become_11 rfl ?_
    refine rv_null hX dX1_become_12 ?_
    refine rv_aload_n hX dX1_become_13 rfl ?_
    refine rv_invI hX iX1_102 mdJ18_init rfl (j_ise2 hG (d := d - 1) (by omega) (hS.cpre0 [0] 1 rfl rfl rfl)) (by omega) rfl rfl (Nat.le_of_ble_eq_true rfl) dX1_become_14 (fun v h' hq => ?_) (fun E h' hq => by first | exact hq.elim | cases hq.2 | cases hq.1)
    obtain ⟨fs, hu, hQ⟩ := hq
    have hS := hS.cpost0 [0] 1 rfl rfl rfl hQ
    cases hu
    refine rv_athrow hX rv_c22 (hS.mg (k := 1) rfl) dX1_become_17 ?_
    exact rv_out hX hE (by decide) ⟨rfl, hno, (hS.drop (W := [(xo, cO 0 [.ref wd, dv, .ref bg, rv, rw, lv, .int lf])]) ((List.Sublist.refl _).trans (List.sublist_append_left [(xo, cO 0 [.ref wd, dv, .ref bg, rv, rw, lv, .int lf])] _))).bud (by omega) (by omega)⟩
  refine rv_aload_n hX dX1_become_0 rfl ?_
  refine rv_invVR hX iX1_95 mdX2_settle (hS.mc (k := 1) rfl) ⟨TX2, 12, rv_c1⟩ (x_settle hG hLK (d := d - 1) (by omega) hR hT hF hA hAl hAt hA1 hg hfi hps hR10 hw hS3 hS8 hTl hT8 (by omega) (by omega) (hS.cpre0 [0] 1 rfl rfl rfl)) (by omega) rfl rfl (Nat.le_of_ble_eq_true rfl) dX1_become_1 (fun v h' hq => ?_) (fun E h' hq => ?_)
  obtain ⟨st1, an, ar, tg1, s, tf1, N1, hu, hset, htf, hN1, hQ⟩ := hq
  have hS := hS.cpost0 [0] 1 rfl rfl rfl hQ
  cases hu
  have hS : xS X.1 F h (xo :: nx :: xad Nf) ((xo, cO 0 [.ref wd, dv, .ref bg, rv, rw, lv, .int lf]) :: (nx, cW rel ta st1 tg1 (nI (sp_gnew Fs A g s.F)) ru de rn dn fi sk now) :: (fun L => (st1, cO 2 [.ref an, .ref ar, .int (nI s.F.length)]) :: (an, cI 60 s.1.2.1) :: (ar, cI 60 s.1.2.2) :: L) ((tg1, cI 60 tf1) :: N1)) _ _ _ := hS
  refine rv_goto hX 18 dX1_become_4 (by decide) ?_
  refine rv_aload_n hX dX1_become_18 rfl ?_
  refine rv_aload_n hX dX1_become_19 rfl ?_
  refine xv_putf hX hS (k := 0) rfl pX1_21_X1 (fun q => by cases q) rfl rfl rfl dX1_become_20 (fun h_20 hS => ?_)
  refine rv_aload_n hX dX1_become_23 rfl ?_
  refine rv_getfR hX gX1_105_X2 (hS.mc (k := 1) rfl) rfl dX1_become_24 ?_
  refine rv_getfR hX gX1_109_X3 (hS.mc (k := 2) rfl) rfl dX1_become_27 ?_
  refine rv_ireturn hX hE rfl ?_ dX1_become_30
  exact ⟨st1, an, ar, tg1, s, tf1, N1, rfl, hset, htf, hN1, hS.bud (by omega) (by omega)⟩
  · have hS9 := hS.cpost0 [0] 1 rfl rfl rfl hq.2.2
    rcases hq.1 with e | e
    · subst e
      exact rv_catch hX hE [] _ _ rfl (fun z hz => by cases hz) rfl (by decide) q923 q1268 (fun q_1 => fin q_1 _ hq.2.1 hS9)
    · subst e
      exact rv_catch hX hE [_] _ [] rfl (fun z hz => by rw [List.mem_singleton.mp hz]; exact Or.inr ⟨by decide, _, q923, nc_DC⟩) rfl (by decide) q1227 q1240 (fun q_1 => fin q_1 _ hq.2.1 hS9)
