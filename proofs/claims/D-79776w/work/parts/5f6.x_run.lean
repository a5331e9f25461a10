/-! THE SYSTEM: a matcher made and run -/
set_option maxRecDepth 100000
theorem x_matcherInit {G : rv_G} (hG : rv_GK G) {d a ia len st vr tk n m : Nat} (hd : 1 ≤ d) {F : xF} {h : rv_H} (hn : 1 ≤ n) (hm : 3 ≤ m) (hH : xH G F [(a, cO 8 [.null, .int 0, .null, .null, .null, .null, .int 0, .int 0, .int 0, .int 0])] n m h) : rv_Call G d yX9_init wX9_init [.ref a, .ref ia, .int (nI len), .ref st, .ref vr, .ref tk] h (xN (fun u h' => ∃ fr, u = none ∧ xS G F h [a] [(a, mX ia len st tk vr fr (-1) 0 false 0), (fr, cI 3 (fun _ => 0))] (n - 1) (m - 3) h')) := by
  refine rv_start hG (by decide +kernel) (L := [some (.ref a), some (.ref ia), some (.int (nI len)), some (.ref st), some (.ref vr), some (.ref tk)]) rfl (Nat.le_of_ble_eq_true rfl) (fun X hX1 hX hE => ?_)
  subst hX1
  have hS := hH.start
  refine rv_aload_n hX dX9_init_0 rfl ?_
  refine rv_objInit hX q887 q171 q172 (by omega) (Nat.le_of_ble_eq_true rfl) dX9_init_1 ?_
  refine rv_aload_n hX dX9_init_4 rfl ?_
  refine nv_iconst hX (m := 3) (by decide) dX9_init_5 ?_
  refine xv_newI hX hS q548 (by omega) (by omega) (by omega) dX9_init_6 (fun a_6 h_6 hS => ?_)
  refine xv_putf hX hS (k := 0) rfl pX9_9_X9 (fun _ => rfl) rfl rfl rfl dX9_init_8 (fun h_8 hS => ?_)
  refine rv_aload_n hX dX9_init_11 rfl ?_
  refine rv_iconst hX (v := -1) dX9_init_12 (by decide) ?_
  refine xv_putf hX hS (k := 0) rfl pX9_15_X9 (fun q => by cases q) rfl rfl rfl dX9_init_13 (fun h_13 hS => ?_)
  refine rv_aload_n hX dX9_init_16 rfl ?_
  refine rv_aload_n hX dX9_init_17 rfl ?_
  refine xv_putf hX hS (k := 0) rfl pX9_19_X9 (fun _ => rfl) rfl rfl rfl dX9_init_18 (fun h_18 hS => ?_)
  refine rv_aload_n hX dX9_init_21 rfl ?_
  refine rv_iload_n hX dX9_init_22 rfl ?_
  refine xv_putf hX hS (k := 0) rfl pX9_23_X9 (fun _ => rfl) rfl rfl rfl dX9_init_23 (fun h_23 hS => ?_)
  refine rv_aload_n hX dX9_init_26 rfl ?_
  refine rv_aload_n hX dX9_init_27 rfl ?_
  refine xv_putf hX hS (k := 0) rfl pX9_26_X9 (fun _ => rfl) rfl rfl rfl dX9_init_28 (fun h_28 hS => ?_)
  refine rv_aload_n hX dX9_init_31 rfl ?_
  refine rv_aload hX dX9_init_32 rfl ?_
  refine xv_putf hX hS (k := 0) rfl pX9_30_X9 (fun _ => rfl) rfl rfl rfl dX9_init_34 (fun h_34 hS => ?_)
  refine rv_aload_n hX dX9_init_37 rfl ?_
  refine rv_aload hX dX9_init_38 rfl ?_
  refine xv_putf hX hS (k := 0) rfl pX9_33_X9 (fun _ => rfl) rfl rfl rfl dX9_init_40 (fun h_40 hS => ?_)
  refine rv_return hX hE ?_ dX9_init_43
  exact ⟨_, rfl, hS⟩
theorem x_run {S : Type} {G : rv_G} {F : xF} {T : S → xM} {nb mb : S → Nat} {stp : S → sp_Q → Option (S × Bool)} {dt mo ia st tk vr fr : Nat} {nw : Option (Nat × Nat)} {ro : Int32} {Ss : List Nat} {body its : List sp_I} {Fs : List Nat} {r : Nat → Nat} {M0 : List sp_Q} (hC : xGo G F T nb mb stp dt ia st tk vr fr nw ro Ss body its Fs r M0) {d rch n m : Nat} {v : sp_V} {vf ff : Nat → Int32} {s : S} {h : rv_H} {ov : Bool} (hd : 2 * its.length + dt + 5 ≤ d) (hv : xva v vf) (hok : sp_okA Fs its v) (hM0 : ∀ q, q ∈ xMs Fs r nw 0 [] its v → q ∈ M0) (hrch : rch ≤ 6) (hH : xH G F ((mo, mX ia its.length st tk vr fr (rv_oi (nw.map (fun p => p.1))) ro ov rch) :: (vr, cI 8 vf) :: (fr, cI 3 ff) :: T s) (n + nb s) (m + mb s) h) : rv_Call G d yX9_run wX9_run [.ref mo] h (xGoQ G F T nb mb mo ia st tk vr fr its.length nw ro v ff 0 n m h s (xfold stp s (xMs Fs r nw 0 [] its v)) (Nat.max rch (0 + sp_reach Fs its v))) := by
  have hG := hC.1.1
  refine rv_start hG (by decide +kernel) (L := [some (.ref mo)]) rfl (Nat.le_of_ble_eq_true rfl) (fun X hX1 hX hE => ?_)
  subst hX1
  have hS := hH.start
  generalize hRES : xfold stp s (xMs Fs r nw 0 [] its v) = RES at *
  refine rv_aload_n hX dX9_run_0 rfl ?_
  refine nv_iconst hX (m := 0) (by decide) dX9_run_1 ?_
  refine xv_putf hX hS (k := 0) rfl pX9_37_X9 (fun q => by cases q) rfl rfl rfl dX9_run_2 (fun h_2 hS => ?_)
  refine rv_aload_n hX dX9_run_5 rfl ?_
  refine nv_iconst hX (m := 0) (by decide) dX9_run_6 ?_
  refine nv_iconst hX (m := 0) (by decide) dX9_run_7 ?_
  refine rv_invVR hX iX9_41 mdX9_go (hS.mc (k := 0) rfl) ⟨TX9, 10, rv_c8⟩ (x_go hC its (d - 1) 0 [] [] v vf ff s rch n m _ rfl (by omega) rfl rfl hv (fun i f e => by cases e) hok hM0 hrch (hS.cpre0 [] 1 rfl rfl rfl)) (by omega) rfl rfl (Nat.le_of_ble_eq_true rfl) dX9_run_8 (fun v h' hq => ?_) (fun E h' hq => by exact rv_out hX hE (fun x hx => by cases hx) ⟨hq.1, hRES.symm.trans hq.2.1, hS.exc0 [] 1 rfl rfl rfl hq.2.2⟩)
  obtain ⟨s2, b2, vf4, ff4, rch4, hR2, hu, hv4, hff4, ⟨hr4, hTG4⟩, hQ⟩ := hq
  have hS := hS.cpost0 [] 1 rfl rfl rfl hQ
  cases hu
  refine rv_return hX hE ?_ dX9_run_11
  exact ⟨s2, b2, vf4, ff4, rch4, hRES.symm.trans hR2, rfl, hv4, hff4, ⟨hr4, hTG4⟩, hS⟩
theorem x_run2 {S : Type} {G : rv_G} {F : xF} {T : S → xM} {nb mb : S → Nat} {stp : S → sp_Q → Option (S × Bool)} {dt mo ia st tk vr fr : Nat} {nw : Option (Nat × Nat)} {ro nw0 ro0 : Int32} {Ss : List Nat} {body its : List sp_I} {Fs : List Nat} {r : Nat → Nat} {M0 : List sp_Q} (hC : xGo G F T nb mb stp dt ia st tk vr fr nw ro Ss body its Fs r M0) {d rch n m : Nat} {v : sp_V} {vf ff : Nat → Int32} {s : S} {h : rv_H} {ov : Bool} (hd : 2 * its.length + dt + 6 ≤ d) (hv : xva v vf) (hok : sp_okA Fs its v) (hM0 : ∀ q, q ∈ xMs Fs r nw 0 [] its v → q ∈ M0) (hrch : rch ≤ 6) (hH : xH G F ((mo, mX ia its.length st tk vr fr nw0 ro0 ov rch) :: (vr, cI 8 vf) :: (fr, cI 3 ff) :: T s) (n + nb s) (m + mb s) h) : rv_Call G d yX9_run_2 wX9_run_2 [.ref mo, .int (rv_oi (nw.map (fun p => p.1))), .int ro] h (xGoQ G F T nb mb mo ia st tk vr fr its.length nw ro v ff 0 n m h s (xfold stp s (xMs Fs r nw 0 [] its v)) (Nat.max rch (0 + sp_reach Fs its v))) := by
  have hG := hC.1.1
  refine rv_start hG (by decide +kernel) (L := [some (.ref mo), some (.int (rv_oi (nw.map (fun p => p.1)))), some (.int ro)]) rfl (Nat.le_of_ble_eq_true rfl) (fun X hX1 hX hE => ?_)
  subst hX1
  have hS := hH.start
  generalize hRES : xfold stp s (xMs Fs r nw 0 [] its v) = RES at *
  refine rv_aload_n hX dX9_run_2_0 rfl ?_
  refine rv_iload_n hX dX9_run_2_1 rfl ?_
  refine xv_putf hX hS (k := 0) rfl pX9_15_X9 (fun q => by cases q) rfl rfl rfl dX9_run_2_2 (fun h_2 hS => ?_)
  refine rv_aload_n hX dX9_run_2_5 rfl ?_
  refine rv_iload_n hX dX9_run_2_6 rfl ?_
  refine xv_putf hX hS (k := 0) rfl pX9_45_X9 (fun q => by cases q) rfl rfl rfl dX9_run_2_7 (fun h_7 hS => ?_)
  refine rv_aload_n hX dX9_run_2_10 rfl ?_
  refine rv_invVR hX iX9_48 mdX9_run (hS.mc (k := 0) rfl) ⟨TX9, 10, rv_c8⟩ (x_run hC (d := d - 1) (by omega) hv hok hM0 hrch (hS.cpre0 [] 1 rfl rfl rfl)) (by omega) rfl rfl (Nat.le_of_ble_eq_true rfl) dX9_run_2_11 (fun v h' hq => ?_) (fun E h' hq => by exact rv_out hX hE (fun x hx => by cases hx) ⟨hq.1, hRES.symm.trans hq.2.1, hS.exc0 [] 1 rfl rfl rfl hq.2.2⟩)
  obtain ⟨s2, b2, vf4, ff4, rch4, hR2, hu, hv4, hff4, ⟨hr4, hTG4⟩, hQ⟩ := hq
  have hS := hS.cpost0 [] 1 rfl rfl rfl hQ
  cases hu
  refine rv_return hX hE ?_ dX9_run_2_14
  exact ⟨s2, b2, vf4, ff4, rch4, hRES.symm.trans hR2, rfl, hv4, hff4, ⟨hr4, hTG4⟩, hS⟩
