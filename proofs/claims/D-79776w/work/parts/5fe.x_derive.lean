/-! THE SYSTEM: what a deriver gives -/
set_option maxRecDepth 100000
section DV
variable {G : rv_G} {F : xF} {S Fs : List Nat} {r : Nat → Nat} {C : sp_C} {ca st : Nat}
/-- what is known all the while -/
def xDK (G : rv_G) (F : xF) (S Fs : List Nat) (r : Nat → Nat) (C : sp_C) (ca st : Nat) : Prop := xCl G false (xr G F) ca C ∧ sp_wfC S C ∧ ((∀ n, n ∈ S → 1 ≤ n ∧ n ≤ 3) ∧ S.length ≤ 8) ∧ xFc (xr G F) st Fs r ∧ ∀ x, x ∈ Fs → r x < 1000000
theorem xDK.rel (h : xDK G F S Fs r C ca st) : C.rel < 8 := by
  have := (List.getElem?_eq_some_iff.mp h.2.1.hd).1
  have := h.2.2.1.2
  omega
theorem xDK.okA (h : xDK G F S Fs r C ca st) {v : sp_V} : sp_okA Fs C.its v := sp_snd.okA h.2.1.its (sp_has_none v) h.2.1.snd
theorem x_deriveAll0 (hG : rv_GK G) (hLK : rv_LK G) (hK : xDK G F S Fs r C ca st) {d D L ms mn mr V Mo fr bo n m : Nat} (hd : 29 ≤ d) {N : xM} {s : xIn} {h : rv_H} (hg : C.gath = none) (hD : xDf0 G (xr G F) D L ca ms V Mo bo C) (hN : xDc0 L V Mo fr bo st C.its.length N) (hH : xH G F (N ++ s.M ms mn mr) (n + 1) (m + 6) h) : rv_Call G d yX7_deriveAll wX7_deriveAll [.ref D] h (xT (fun u h' => ∃ (N' : xM) (s' : xIn), u = none ∧ (∀ x, x ∈ s'.F ↔ x ∈ s.F ∨ x ∈ sp_give Fs C) ∧ (xDc0 L V Mo fr bo st C.its.length N' ∧ xad N' = xad N) ∧ xS G F h (xad N ++ [ms, mn, mr]) (N' ++ s'.M ms mn mr) (n + 1) (m + 6) h') (fun E h' => E = RX6 ∧ sp_crowd s.F (sp_give Fs C) ∧ xS G F h (xad N ++ [ms, mn, mr]) [] n m h')) := by
  obtain ⟨nw, ro, ov, rch, vf, ff, hvf, hrch, rfl⟩ := hN
  refine rv_start hG (by decide +kernel) (L := [some (.ref D), none]) rfl (Nat.le_of_ble_eq_true rfl) (fun X hX1 hX hE => ?_)
  subst hX1
  obtain ⟨hC, hw, ⟨hS3, hS8⟩, hst, hr⟩ := id hK
  obtain ⟨hD1, hL, hbo⟩ := hD
  have hS : xS X.1 F h [Mo, V, fr, ms, mn, mr] [(Mo, mX bo C.its.length st L V fr nw ro ov rch), (V, cI 8 vf), (fr, cI 3 ff), (ms, cO 2 [.ref mn, .ref mr, .int (nI s.1.1.length)]), (mn, cI 60 s.1.2.1), (mr, cI 60 s.1.2.2)] (n + 1) (m + 6) h := hH.start
  have hgo := xDgo hG hLK (nw := none) (ro := nI 0) (fr := fr) (vr := V) (tk := L) (gn := mn) (gr := mr) hC hw hS3 hS8 hD1 hL hbo hst hr (fun p e => by cases e)
  have hgive : sp_give Fs C = (xMs Fs r none 0 [] C.its (fun _ => none)).map (sp_key C) := by
    rw [xMs_key]
    unfold sp_give
    rw [if_pos hg]
  have hlt : ∀ f, f ∈ (xMs Fs r none 0 [] C.its (fun _ => none)).map (sp_key C) → f < 8000000 := fun f hf => by
    rw [← hgive] at hf
    exact (sp_give_rel (hw.ht3 hS3) hf).2 hK.rel
  have hb6 := hw.len.2
  refine rv_aload_n hX dX7_deriveAll_0 rfl ?_
  refine rv_getfR hX gX7_44_X7 (hS.f hD1) rfl dX7_deriveAll_1 ?_
  refine rv_ifnonnullN hX dX7_deriveAll_4 ?_
  refine rv_aload_n hX dX7_deriveAll_7 rfl ?_
  refine rv_getfR hX gX7_67_X7 (hS.f hD1) rfl dX7_deriveAll_8 ?_
  refine rv_iconst hX (v := -1) dX7_deriveAll_11 (by decide) ?_
  refine nv_iconst hX (m := 0) (by decide) dX7_deriveAll_12 ?_
  refine rv_invVR hX iX7_74 mdX9_run_2 (hS.mc (k := 0) rfl) ⟨TX9, 10, rv_c8⟩ (x_run2 hgo (s := s) (nw := none) (ro := nI 0) (d := d - 1) (by omega) hvf hK.okA (fun q hq => hq) hrch (hS.cpre0 [] 1 rfl rfl rfl)) (by omega) rfl rfl (Nat.le_of_ble_eq_true rfl) dX7_deriveAll_13 (fun v h' hq => ?_) (fun E h' hq => by exact rv_out hX hE (fun x hx => by cases hx) ⟨hq.1, (by have hR := hq.2.1; rw [xfold_kp, Option.map_eq_none_iff] at hR; rw [hgive]; exact xIn.adds_none hlt hR), hS.exc0 [] 1 rfl rfl rfl hq.2.2⟩)
  obtain ⟨s2, b2, vf4, ff4, rch4, hR2, hu, hv4, hff4, ⟨hr4, hTG4⟩, hQ⟩ := hq
  have hS := hS.cpost0 [] 1 rfl rfl rfl hQ
  cases hu
  refine rv_return hX hE ?_ dX7_deriveAll_16
  rw [xfold_kp, Option.map_eq_some_iff] at hR2
  obtain ⟨s3, hs3, e3⟩ := hR2
  cases e3
  exact ⟨_, s2, rfl, fun x => by rw [hgive]; exact (xIn.adds_some hs3).1 x, ⟨⟨_, _, _, _, vf4, ff4, hv4, hr4, rfl⟩, rfl⟩, hS⟩
theorem x_deriveNew0 (hG : rv_GK G) (hLK : rv_LK G) (hK : xDK G F S Fs r C ca st) {d D L ms mn mr V Mo fr bo n m rd : Nat} (hd : 29 ≤ d) (hrd : rd < 1000000) {N : xM} {s : xIn} {h : rv_H} (hg : C.gath = none) (hD : xDf0 G (xr G F) D L ca ms V Mo bo C) (hN : xDc0 L V Mo fr bo st C.its.length N) (hH : xH G F (N ++ s.M ms mn mr) (n + 1) (m + 6) h) : rv_Call G d yX7_deriveNew wX7_deriveNew [.ref D, .int (nI rd)] h (xT (fun u h' => ∃ (N' : xM) (s' : xIn), u = none ∧ (∀ x, x ∈ s'.F ↔ x ∈ s.F ∨ x ∈ xnew Fs r rd C) ∧ (xDc0 L V Mo fr bo st C.its.length N' ∧ xad N' = xad N) ∧ xS G F h (xad N ++ [ms, mn, mr]) (N' ++ s'.M ms mn mr) (n + 1) (m + 6) h') (fun E h' => E = RX6 ∧ sp_crowd s.F (xnew Fs r rd C) ∧ xS G F h (xad N ++ [ms, mn, mr]) [] n m h')) := by
  obtain ⟨nw, ro, ov, rch, vf, ff, hvf, hrch, rfl⟩ := hN
  refine rv_start hG (by decide +kernel) (L := [some (.ref D), some (.int (nI rd)), none]) rfl (Nat.le_of_ble_eq_true rfl) (fun X hX1 hX hE => ?_)
  subst hX1
  obtain ⟨hC, hw, ⟨hS3, hS8⟩, hst, hr⟩ := id hK
  obtain ⟨hD1, hL, hbo⟩ := hD
  obtain ⟨cd, cb, cgk, cmd, csal, ctl, hc1, hc2⟩ := id hC
  have hS : xS X.1 F h [Mo, V, fr, ms, mn, mr] [(Mo, mX bo C.its.length st L V fr nw ro ov rch), (V, cI 8 vf), (fr, cI 3 ff), (ms, cO 2 [.ref mn, .ref mr, .int (nI s.1.1.length)]), (mn, cI 60 s.1.2.1), (mr, cI 60 s.1.2.2)] (n + 1) (m + 6) h := hH.start
  have hb6 := hw.len.2
  have hat3 := hw.atoms
  let A : Nat → List Nat := fun k => (xMs Fs r (some (k, rd)) 0 [] C.its (fun _ => none)).map (sp_key C)
  have hnw : xnew Fs r rd C = (List.range (C.its.filter (fun it => it.1 == 0)).length).flatMap A := by unfold xnew; rw [if_pos hg]
  have hlt : ∀ k f, k < (C.its.filter (fun it => it.1 == 0)).length → f ∈ A k → f ∈ xnew Fs r rd C ∧ f < 8000000 := fun k f hk hf => by
    have h1 : f ∈ xnew Fs r rd C := by rw [hnw]; exact List.mem_flatMap.mpr ⟨k, List.mem_range.mpr hk, hf⟩
    exact ⟨h1, (sp_give_rel (hw.ht3 hS3) (xnew_sub h1)).2 hK.rel⟩
  have loop : ∀ (z k : Nat) (nw ro : Int32) (ov : Bool) (rch : Nat) (vf ff : Nat → Int32) (t : xIn) (h1 : rv_H), (C.its.filter (fun it => it.1 == 0)).length - k < z → k ≤ (C.its.filter (fun it => it.1 == 0)).length → xva (fun _ => none) vf → rch ≤ 6 → s.adds 0 ((List.range k).flatMap A) = some t → xS X.1 F h [Mo, V, fr, ms, mn, mr] [(Mo, mX bo C.its.length st L V fr nw ro ov rch), (V, cI 8 vf), (fr, cI 3 ff), (ms, cO 2 [.ref mn, .ref mr, .int (nI t.1.1.length)]), (mn, cI 60 t.1.2.1), (mr, cI 60 t.1.2.2)] (n + 1) (m + 6) h1 → rv_V X h1 2 [some (.ref D), some (.int (nI rd)), some (.int (nI k))] [] := by
    intro z
    induction z with
    | zero => intro k nw ro ov rch vf ff t h1 g1; omega
    | succ z ih =>
      intro k nw ro ov rch vf ff t h1 g1 g2 hvf hrch ht hS
      by_cases hk : k = (C.its.filter (fun it => it.1 == 0)).length
      · skip
        refine rv_iload_n hX dX7_deriveNew_2 rfl ?_
        refine rv_aload_n hX dX7_deriveNew_3 rfl ?_
        refine rv_getfR hX gX7_25_X7 (hS.f hD1) rfl dX7_deriveNew_4 ?_
        refine rv_invVR hX iX7_104 mdX10_atoms (hS.f hc1) ⟨TX10, 9, rv_c9⟩ (x_atoms hG (d := d - 1) (by omega) (hC.mono (fun _ _ => hS.f)) hb6 (fun it hi => by have := (hw.its it hi).1; omega)) (by omega) rfl rfl (Nat.le_of_ble_eq_true rfl) dX7_deriveNew_7 (fun v h' hq => ?_) (fun E h' hq => by first | exact hq.elim | cases hq.2 | cases hq.1)
        obtain ⟨rfl, hq⟩ := hq
        cases hq
        refine nv_icmp_ge hX 35 (by omega) (by omega) dX7_deriveNew_10 (by decide) (fun c_10 => ?_) (fun q => absurd q (by omega))
        refine rv_return hX hE ?_ dX7_deriveNew_35
        refine ⟨_, t, rfl, fun x => ?_, ⟨⟨_, _, _, _, vf, ff, hvf, hrch, rfl⟩, rfl⟩, hS⟩
        rw [hnw, ← hk]
        exact (xIn.adds_some ht).1 x
      · have hnw2 : ∀ p, some (k, rd) = some p → nI rd = nI p.2 ∧ p.1 < 6 ∧ p.2 < 1000000 := fun p e => by
          cases e
          exact ⟨rfl, by show k < 6; omega, hrd⟩
        have hgo := xDgo hG hLK (nw := some (k, rd)) (ro := nI rd) (fr := fr) (vr := V) (tk := L) (gn := mn) (gr := mr) hC hw hS3 hS8 hD1 hL hbo hst hr hnw2
        have hsplit : ∀ o, t.adds 0 (A k) = o → s.adds 0 ((List.range (k + 1)).flatMap A) = o := fun o e => by
          rw [List.range_succ, List.flatMap_append, xIn.adds_app, ht]
          show t.adds 0 ([k].flatMap A) = o
          rw [← e]
          simp
        refine rv_iload_n hX dX7_deriveNew_2 rfl ?_
        refine rv_aload_n hX dX7_deriveNew_3 rfl ?_
        refine rv_getfR hX gX7_25_X7 (hS.f hD1) rfl dX7_deriveNew_4 ?_
        refine rv_invVR hX iX7_104 mdX10_atoms (hS.f hc1) ⟨TX10, 9, rv_c9⟩ (x_atoms hG (d := d - 1) (by omega) (hC.mono (fun _ _ => hS.f)) hb6 (fun it hi => by have := (hw.its it hi).1; omega)) (by omega) rfl rfl (Nat.le_of_ble_eq_true rfl) dX7_deriveNew_7 (fun v h' hq => ?_) (fun E h' hq => by first | exact hq.elim | cases hq.2 | cases hq.1)
        obtain ⟨rfl, hq⟩ := hq
        cases hq
        refine nv_icmp_ge hX 35 (by omega) (by omega) dX7_deriveNew_10 (by decide) (fun q => absurd q (by omega)) (fun c_10 => ?_)
        refine rv_aload_n hX dX7_deriveNew_13 rfl ?_
        refine rv_getfR hX gX7_44_X7 (hS.f hD1) rfl dX7_deriveNew_14 ?_
        refine rv_ifnonnullN hX dX7_deriveNew_17 ?_
        refine rv_aload_n hX dX7_deriveNew_20 rfl ?_
        refine rv_getfR hX gX7_67_X7 (hS.f hD1) rfl dX7_deriveNew_21 ?_
        refine rv_iload_n hX dX7_deriveNew_24 rfl ?_
        refine rv_iload_n hX dX7_deriveNew_25 rfl ?_
        refine rv_invVR hX iX7_74 mdX9_run_2 (hS.mc (k := 0) rfl) ⟨TX9, 10, rv_c8⟩ (x_run2 hgo (s := t) (nw := some (k, rd)) (ro := nI rd) (d := d - 1) (by omega) hvf hK.okA (fun q hq => hq) hrch (hS.cpre0 [] 1 rfl rfl rfl)) (by omega) rfl rfl (Nat.le_of_ble_eq_true rfl) dX7_deriveNew_26 (fun v h' hq => ?_) (fun E h' hq => by exact rv_out hX hE (fun x hx => by cases hx) ⟨hq.1, (by have hR := hq.2.1; rw [xfold_kp, Option.map_eq_none_iff] at hR; exact fun G' g1 g2 g3 => xIn.adds_none (l := (List.range (k + 1)).flatMap A) (fun f hf => by obtain ⟨j, hj, hf⟩ := List.mem_flatMap.mp hf; exact (hlt j f (by have := List.mem_range.mp hj; omega) hf).2) (hsplit _ hR) G' g1 g2 (fun f hf => by obtain ⟨j, hj, hf⟩ := List.mem_flatMap.mp hf; exact g3 f (hlt j f (by have := List.mem_range.mp hj; omega) hf).1)), hS.exc0 [] 1 rfl rfl rfl hq.2.2⟩)
        obtain ⟨s2, b2, vf4, ff4, rch4, hR2, hu, hv4, hff4, ⟨hr4, hTG4⟩, hQ⟩ := hq
        have hS := hS.cpost0 [] 1 rfl rfl rfl hQ
        cases hu
        rw [xfold_kp, Option.map_eq_some_iff] at hR2
        obtain ⟨s3, hs3, e3⟩ := hR2
        cases e3
        first | refine nv_iinc hX (m := 1) dX7_deriveNew_29 rfl (by decide) (rv_st_2 rfl) ?_ | refine rv_iinc hX dX7_deriveNew_29 rfl rfl (rv_st_2 rfl) ?_
        refine rv_goto hX 2 dX7_deriveNew_32 (by decide) ?_
        exact ih (k + 1) _ _ _ rch4 vf4 ff4 s2 _ (by omega) (by omega) hv4 hr4 (hsplit _ hs3) hS
  refine nv_iconst hX (m := 0) (by decide) dX7_deriveNew_0 ?_
  refine rv_istore_n hX dX7_deriveNew_1 (rv_st_2 rfl) ?_
  exact loop _ 0 nw ro ov rch vf ff s _ (Nat.lt_succ_self _) (Nat.zero_le _) hvf hrch rfl hS
end DV
