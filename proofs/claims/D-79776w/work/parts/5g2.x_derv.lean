/-! THE SYSTEM: what a deriver gives, whatever its rule -/
set_option maxRecDepth 100000
def xDvQ (G : rv_G) (F1 F : xF) (ca ms st : Nat) (C : sp_C) (D mn mr : Nat) (N : xM) (s : xIn) (L : List Nat) (n m : Nat) (h : rv_H) : rv_O → rv_H → Prop := xT (fun u h' => ∃ (N' : xM) (s' : xIn), u = none ∧ (∀ x, x ∈ s'.F ↔ x ∈ s.F ∨ x ∈ L) ∧ (xDv G (xr G F1) ca ms st C D N' ∧ xad N' = xad N) ∧ xS G F h (xad N ++ [ms, mn, mr]) (N' ++ s'.M ms mn mr) (n + 1) (m + 6) h') (fun E h' => E = RX6 ∧ sp_crowd s.F L ∧ xS G F h (xad N ++ [ms, mn, mr]) [] n m h')
section DV
variable {G : rv_G} {F F1 : xF} {S Fs : List Nat} {r : Nat → Nat} {C : sp_C} {ca st : Nat}
theorem x_deriveAll (hG : rv_GK G) (hLK : rv_LK G) (hK : xDK G F S Fs r C ca st) {d D ms mn mr n m : Nat} (hd : 29 ≤ d) {N : xM} {s : xIn} {h : rv_H} (hle : ∀ a c, xr G F1 a c → xr G F a c) (hDv : xDv G (xr G F1) ca ms st C D N) (hH : xH G F (N ++ s.M ms mn mr) (n + 1) (m + 6) h) : rv_Call G d yX7_deriveAll wX7_deriveAll [.ref D] h (xDvQ G F1 F ca ms st C D mn mr N s (sp_give Fs C) n m h) := by
  rcases hDv with ⟨hg, L, V, Mo, fr, bo, hD, hN⟩ | ⟨hg, L, V, gs, gn, gr, Go, Ha, Mo, fr, Mo2, fr2, bo, hD, hN⟩
  · refine (x_deriveAll0 hG hLK hK hd hg (hD.mono hle) hN hH).mono (fun o h' q => ?_)
    cases o with
    | inl u =>
      obtain ⟨N', s', q1, q2, ⟨q3, q4⟩, q5⟩ := q
      exact ⟨N', s', q1, q2, ⟨Or.inl ⟨hg, L, V, Mo, fr, bo, hD, q3⟩, q4⟩, q5⟩
    | inr E => exact q
  · obtain ⟨s0, hs⟩ : ∃ s0, C.gath = some s0 := Option.ne_none_iff_exists'.mp hg
    refine (x_deriveAll1 hG hLK hK hd hs (hD.mono hle) hN hH).mono (fun o h' q => ?_)
    cases o with
    | inl u =>
      obtain ⟨N', s', q1, q2, ⟨q3, q4⟩, q5⟩ := q
      exact ⟨N', s', q1, q2, ⟨Or.inr ⟨hg, L, V, gs, gn, gr, Go, Ha, Mo, fr, Mo2, fr2, bo, hD, q3⟩, q4⟩, q5⟩
    | inr E => exact q
theorem x_deriveNew (hG : rv_GK G) (hLK : rv_LK G) (hK : xDK G F S Fs r C ca st) {d D ms mn mr n m rd : Nat} (hd : 29 ≤ d) (hrd : rd < 1000000) {N : xM} {s : xIn} {h : rv_H} (hle : ∀ a c, xr G F1 a c → xr G F a c) (hDv : xDv G (xr G F1) ca ms st C D N) (hH : xH G F (N ++ s.M ms mn mr) (n + 1) (m + 6) h) : rv_Call G d yX7_deriveNew wX7_deriveNew [.ref D, .int (nI rd)] h (xDvQ G F1 F ca ms st C D mn mr N s (xnew Fs r rd C) n m h) := by
  rcases id hDv with ⟨hg, L, V, Mo, fr, bo, hD, hN⟩ | ⟨hg, L, V, gs, gn, gr, Go, Ha, Mo, fr, Mo2, fr2, bo, hD, hN⟩
  · refine (x_deriveNew0 hG hLK hK hd hrd hg (hD.mono hle) hN hH).mono (fun o h' q => ?_)
    cases o with
    | inl u =>
      obtain ⟨N', s', q1, q2, ⟨q3, q4⟩, q5⟩ := q
      exact ⟨N', s', q1, q2, ⟨Or.inl ⟨hg, L, V, Mo, fr, bo, hD, q3⟩, q4⟩, q5⟩
    | inr E => exact q
  · have hnw : xnew Fs r rd C = [] := by unfold xnew; rw [if_neg hg]
    rw [hnw]
    refine rv_start hG (by decide +kernel) (L := [some (.ref D), some (.int (nI rd)), none]) rfl (Nat.le_of_ble_eq_true rfl) (fun X hX1 hX hE => ?_)
    subst hX1
    obtain ⟨hC, hw, ⟨hS3, hS8⟩, hst, hr⟩ := id hK
    obtain ⟨hD1, hL, hbo⟩ := hD.mono hle
    obtain ⟨cd, cb, cgk, cmd, csal, ctl, hc1, hc2⟩ := id hC
    have hb6 := hw.len.2
    have hS := hH.start
    rw [xad_app] at hS
    have hat3 := hw.atoms
    refine nv_iconst hX (m := 0) (by decide) dX7_deriveNew_0 ?_
    refine rv_istore_n hX dX7_deriveNew_1 (rv_st_2 rfl) ?_
    refine rv_iload_n hX dX7_deriveNew_2 rfl ?_
    refine rv_aload_n hX dX7_deriveNew_3 rfl ?_
    refine rv_getfR hX gX7_25_X7 (hS.f hD1) rfl dX7_deriveNew_4 ?_
    refine rv_invVR hX iX7_104 mdX10_atoms (hS.f hc1) ⟨TX10, 9, rv_c9⟩ (x_atoms hG (d := d - 1) (by omega) (hC.mono (fun _ _ => hS.f)) hb6 (fun it hi => by have := (hw.its it hi).1; omega)) (by omega) rfl rfl (Nat.le_of_ble_eq_true rfl) dX7_deriveNew_7 (fun v h' hq => ?_) (fun E h' hq => by first | exact hq.elim | cases hq.2 | cases hq.1)
    obtain ⟨rfl, hq⟩ := hq
    cases hq
    first | refine nv_icmp_ge hX 35 (by omega) (by omega) dX7_deriveNew_10 (by decide) (fun c_10 => ?_) (fun c_10 => ?_) | refine rv_icmp_ge hX 35 dX7_deriveNew_10 (by decide) (fun c_10 => ?_) (fun c_10 => ?_)
    · skip
      refine rv_return hX hE ?_ dX7_deriveNew_35
      exact ⟨N, s, rfl, fun x => ⟨Or.inl, fun q => q.elim id (fun q => by cases q)⟩, ⟨hDv, rfl⟩, hS⟩
    · skip
      refine rv_aload_n hX dX7_deriveNew_13 rfl ?_
      refine rv_getfR hX gX7_44_X7 (hS.f hD1) rfl dX7_deriveNew_14 ?_
      refine rv_ifnonnull hX 35 dX7_deriveNew_17 (by decide) ?_
      refine rv_return hX hE ?_ dX7_deriveNew_35
      exact ⟨N, s, rfl, fun x => ⟨Or.inl, fun q => q.elim id (fun q => by cases q)⟩, ⟨hDv, rfl⟩, hS⟩
end DV
