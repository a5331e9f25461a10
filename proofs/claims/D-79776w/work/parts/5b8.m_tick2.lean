/-! THE REFERENCE: ticks -/
set_option maxRecDepth 100000
noncomputable def wW.ticks : Nat → Nat → wW → Option (Nat × wW)
  | 0, m, w => some (m, w)
  | n + 1, m, w => match w.tk.stl with
    | none => none
    | some w' => wW.ticks n (m + (w.T.length - w.tkF.length)) w'
noncomputable def o_tick (s : wS) (t : Int32) : wA := if ¬ w_rng 1 20 t then (1, 0, s) else match s.w.ticks t.toNatClampNeg 0 with
  | none => (2, 0, s)
  | some (m, w) => (0, nI m, s.setw w)
theorem wfX.tk {n ng ne nn : Nat} {w : wW} (h : wfX n ng ne nn w) : wfP n ng ne (nn + 1) w.tk := by
  obtain ⟨⟨hS, hR, hD, hT, hF, hA, hK, hN, hE⟩, -⟩ := h
  refine ⟨hS, hR, hD, ⟨(List.filter_sublist.map _).nodup hT.1, fun p hp => ?_⟩, hF, hA, hK, ?_, hE⟩
  · have := hT.2 p (List.mem_filter.mp hp).1
    exact ⟨this.1, by omega⟩
  · show w.now + 1 ≤ nn + 1
    omega
theorem wfX.ticks {n ne : Nat} : ∀ {c ng nn m m' : Nat} {w w' : wW}, wfX n ng ne nn w → w.ticks c m = some (m', w') → wfX n (ng + 60 * c) ne (nn + c) w' ∧ w'.S = w.S ∧ w'.E = w.E ∧ m' ≤ m + 61 * c := by
  intro c
  induction c with
  | zero => intro ng nn m m' w w' h e; cases e; exact ⟨h, rfl, rfl, Nat.le_refl _⟩
  | succ c ih =>
    intro ng nn m m' w w' h e
    have e1 : w.ticks (c + 1) m = match w.tk.stl with
      | none => none
      | some w' => wW.ticks c (m + (w.T.length - w.tkF.length)) w' := rfl
    rw [e1] at e
    cases hs : w.tk.stl with
    | none => rw [hs] at e; cases e
    | some w1 =>
      rw [hs] at e
      obtain ⟨i1, i2, i3, i4⟩ := ih (h.tk.stl hs) e
      have hb := h.b6.1
      obtain ⟨F, -, rfl⟩ := wW.stl_spec hs
      exact ⟨i1.mn (Nat.le_refl _) (by omega) (Nat.le_refl _) (by omega), i2, i3, by omega⟩
theorem m_tick {G : rv_G} (hG : rv_GK G) {d : Nat} (hd : 10 ≤ d) {σ : rv_S} {s : wS} {n ng ne nn : Nat} (hn : n ≤ 24) (hng : ng + 1200 ≤ 1000000) (hnn : nn + 20 < 1000000) (h : mSt σ s) (hwf : wfX n ng ne nn s.w) {t : Int32} : mC G d yX4_tick wX4_tick [.int t] σ (mPi (fun r τ => mRes τ r (o_tick s t))) := by
  refine mv_start hG (by decide +kernel) (Nat.le_of_ble_eq_true rfl) (fun X Hb o hX1 hX hE => ?_)
  subst hX1
  show rv_V X (rv_mh Hb o _) 0 [some (.ref o), some (.int t), none, none] []
  have hb6 := hwf.b6
  obtain ⟨st, hst, -⟩ := sp_set_spec hwf.2
  refine rv_aload_n hX dX4_tick_0 rfl ?_
  refine rv_iload_n hX dX4_tick_1 rfl ?_
  refine nv_iconst hX (m := 1) (by decide) dX4_tick_2 ?_
  refine nv_bipush hX (m := 20) (by decide) dX4_tick_3 ?_
  refine sv_callz hX iX4_135 mdX4_in (m_in hG (d := d - 1) (v := t)) (by omega) rfl rfl (Nat.le_of_ble_eq_true rfl) dX4_tick_5 (fun r_5 h_5 => ?_)
  have hm := h_5
  first | refine zv_if_eq hX 15 dX4_tick_8 (by decide) (fun c_8 => ?_) (fun c_8 => ?_) | refine nv_if_eq hX 15 (by omega) dX4_tick_8 (by decide) (fun c_8 => ?_) (fun c_8 => ?_) | refine rv_if_eq hX 15 dX4_tick_8 (by decide) (fun c_8 => ?_) (fun c_8 => ?_)
  · skip
    refine nv_iconst hX (m := 1) (by decide) dX4_tick_15 ?_
    refine mv_callz hX iX4_266 rfl mdX4_goesWell (m_goesWellN hG (by decide) (by decide) (d := d - 1)) (by omega) rfl rfl (Nat.le_of_ble_eq_true rfl) dX4_tick_16 (fun r_16 τ_16 h_16 => ?_)
    obtain ⟨rfl, rfl⟩ := h_16
    refine rv_if_ne hX 24 dX4_tick_19 (by decide) (fun q => absurd q (by decide)) (fun _ => ?_)
    refine nv_iconst hX (m := 0) (by decide) dX4_tick_22 ?_
    refine mv_reti hX hE dX4_tick_23 ?_
    unfold o_tick
    rw [if_pos (fun q => absurd ((hm.mpr q).symm.trans c_8) (by decide))]
    exact h.th (by decide)
  · skip
    refine nv_iconst hX (m := 0) (by decide) dX4_tick_11 ?_
    refine rv_goto hX 16 dX4_tick_12 (by decide) ?_
    refine mv_callz hX iX4_266 rfl mdX4_goesWell (m_goesWell0 hG (d := d - 1)) (by omega) rfl rfl (Nat.le_of_ble_eq_true rfl) dX4_tick_16 (fun r_16 τ_16 h_16 => ?_)
    obtain ⟨rfl, rfl⟩ := h_16
    refine rv_if_ne hX 24 dX4_tick_19 (by decide) (fun _ => ?_) (fun q => absurd q (by decide))
    refine rv_aload_n hX dX4_tick_24 rfl ?_
    refine nv_iconst hX (m := 3) (by decide) dX4_tick_25 ?_
    refine mv_callv hX iX4_275 rfl mdX4_save (m_saveW hG (d := d - 1) (by omega) (h.thrown _) hb6) (by omega) rfl rfl (Nat.le_of_ble_eq_true rfl) dX4_tick_26 (fun τ_26 h_26 => ?_)
    obtain ⟨s1, s2, s3⟩ := h_26
    refine nv_iconst hX (m := 0) (by decide) dX4_tick_29 ?_
    refine rv_istore_n hX dX4_tick_30 (rv_st_2 rfl) ?_
    refine nv_iconst hX (m := 0) (by decide) dX4_tick_31 ?_
    refine rv_istore_n hX dX4_tick_32 (rv_st_3 rfl) ?_
    obtain ⟨c, c1, c2, rfl, c3⟩ := w_rng_nat (by decide) (by decide) (hm.mp c_8)
    have hunf : o_tick s (nI c) = match s.w.ticks c 0 with
        | none => (2, 0, s)
        | some (m, w) => (0, nI m, s.setw w) := by
      unfold o_tick
      rw [if_neg (fun q => q (hm.mp c_8)), c3]
    obtain ⟨dep0, hdp0⟩ := s1.2.2.2
    have h00 : τ_26.1 0 = nI 0 := by rw [s3.1 0 (by decide)]; rfl
    have loop : ∀ (k m i ng' nn' : Nat) (w : wW) (τ : rv_S), k + i = c → ng' + 60 * k ≤ ng + 1200 → nn' + k ≤ nn + 20 → wfX n ng' ne nn' w → w.R = s.w.R → w.S = s.w.S → w.E = s.w.E → mW0 τ w → (∃ dep, mDep τ dep) → rv_same [0, 29, 30, 31, 32, 33, 34, 39] [1, 13, 14, 15, 16, 22, 23, 24, 25, 26, 27, 28, 29, 30, 31, 32, 33, 34] τ_26 τ → τ.1 0 = nI 0 → m ≤ 61 * i → s.w.ticks c 0 = w.ticks k m → rv_V X (rv_mh Hb o τ) 33 [some (.ref o), some (.int (nI c)), some (.int (nI m)), some (.int (nI i))] [] := by
      intro k
      induction k with
      | zero =>
        intro m i ng' nn' w τ h1 h2 h3 h4 hr1 hr2 hr3 h5 h6 h7 h8 h9 h10
        refine rv_iload_n hX dX4_tick_33 rfl ?_
        refine rv_iload_n hX dX4_tick_34 rfl ?_
        first | refine nv_icmp_ge hX 77 (by omega) (by omega) dX4_tick_35 (by decide) (fun c_35 => ?_) (fun c_35 => ?_) | refine rv_icmp_ge hX 77 dX4_tick_35 (by decide) (fun c_35 => ?_) (fun c_35 => ?_)
        · skip
          refine rv_iload_n hX dX4_tick_77 rfl ?_
          refine mv_reti hX hE dX4_tick_78 ?_
          rw [hunf, h10]
          refine ⟨h8, fun _ => rfl, ⟨h5, ?_⟩, ?_, s1.2.2.1.same h7 (by decide) (by decide), h6⟩
          · show mEnt τ w.E
            rw [hr3]
            exact s1.1.2.same h7 (by decide)
          · show mDraft τ w.S s.d
            rw [hr2]
            exact s1.2.1.same h7 (by decide) (by decide)
        · skip
          exact absurd h1 (by omega)
          --done
      | succ k ih =>
        intro m i ng' nn' w τ h1 h2 h3 h4 hr1 hr2 hr3 h5 h6 h7 h8 h9 h10
        have e9 : w.ticks (k + 1) m = match w.tk.stl with
          | none => none
          | some w' => wW.ticks k (m + (w.T.length - w.tkF.length)) w' := rfl
        rw [e9] at h10
        obtain ⟨dep1, hdp1⟩ := h6
        have hwb := h4.b6.1
        have hst2 : sp_strata w.tk.R = some st := by
          show sp_strata w.R = some st
          rw [hr1]
          exact hst
        refine rv_iload_n hX dX4_tick_33 rfl ?_
        refine rv_iload_n hX dX4_tick_34 rfl ?_
        first | refine nv_icmp_ge hX 77 (by omega) (by omega) dX4_tick_35 (by decide) (fun c_35 => ?_) (fun c_35 => ?_) | refine rv_icmp_ge hX 77 dX4_tick_35 (by decide) (fun c_35 => ?_) (fun c_35 => ?_)
        · skip
          exact absurd h1 (by omega)
          --done
        · skip
          refine rv_iload_n hX dX4_tick_38 rfl ?_
          refine rv_aload_n hX dX4_tick_39 rfl ?_
          refine mv_calli hX iX4_438 rfl mdX4_beginTick (m_beginTick hG (d := d - 1) (by omega) h5 (by have := h4.1.2.2.2.2.2.2.2.1; omega)) (by omega) rfl rfl (Nat.le_of_ble_eq_true rfl) dX4_tick_40 (fun r_40 τ_40 h_40 => ?_)
          obtain ⟨rfl, b2, b3⟩ := h_40
          first | refine nv_iadd hX dX4_tick_43 ?_ | refine rv_iadd hX dX4_tick_43 ?_
          refine rv_istore_n hX dX4_tick_44 (rv_st_2 rfl) ?_
          refine rv_aload_n hX dX4_tick_45 rfl ?_
          refine rv_aload_n hX dX4_tick_46 rfl ?_
          refine mv_callz hX iX4_284 rfl mdX4_settle (m_settleW hG (d := d - 1) (by omega) b2 hst2 (h4.tk.st (by omega)) ⟨dep1, hdp1.same b3 (by decide)⟩) (by omega) rfl rfl (Nat.le_of_ble_eq_true rfl) dX4_tick_47 (fun r_47 τ_47 h_47 => ?_)
          obtain ⟨q1, q2, q3⟩ := h_47
          first | refine zv_if_eq hX 57 dX4_tick_50 (by decide) (fun c_50 => ?_) (fun c_50 => ?_) | refine nv_if_eq hX 57 (by omega) dX4_tick_50 (by decide) (fun c_50 => ?_) (fun c_50 => ?_) | refine rv_if_eq hX 57 dX4_tick_50 (by decide) (fun c_50 => ?_) (fun c_50 => ?_)
          · skip
            have hno : w.tk.stl = none := by
              rcases q3 with ⟨r1, -⟩ | ⟨-, r2⟩
              · exact absurd (r1.symm.trans c_50) (by decide)
              · exact r2
            rw [hno] at h10
            refine nv_iconst hX (m := 2) (by decide) dX4_tick_57 ?_
            have hall := ((h7.mn (fs' := [0, 29, 30, 31, 32, 33, 34, 39]) (js' := [1, 13, 14, 15, 16, 22, 23, 24, 25, 26, 27, 28, 29, 30, 31, 32, 33, 34]) (by decide) (by decide)).tr (b3.mn (by decide) (by decide))).tr (q1.mn (by decide) (by decide))
            refine mv_callz hX iX4_266 rfl mdX4_goesWell (m_goesWellN hG (by decide) (by decide) (d := d - 1)) (by omega) rfl rfl (Nat.le_of_ble_eq_true rfl) dX4_tick_58 (fun r_58 τ_58 h_58 => ?_)
            obtain ⟨rfl, rfl⟩ := h_58
            refine rv_if_ne hX 71 dX4_tick_61 (by decide) (fun q => absurd q (by decide)) (fun _ => ?_)
            refine rv_aload_n hX dX4_tick_64 rfl ?_
            refine nv_iconst hX (m := 3) (by decide) dX4_tick_65 ?_
            refine mv_callv hX iX4_287 rfl mdX4_bringBack (m_bringW hG (d := d - 1) (by omega) (i := 3) (w := s.w) (Nat.le_refl _) ((s2.same hall (by decide)).same (fs := [0]) (js := []) (.f (by decide)) (by decide))) (by omega) rfl rfl (Nat.le_of_ble_eq_true rfl) dX4_tick_66 (fun τ_66 h_66 => ?_)
            obtain ⟨r1, r2, r3⟩ := h_66
            refine nv_iconst hX (m := 0) (by decide) dX4_tick_69 ?_
            refine mv_reti hX hE dX4_tick_70 ?_
            rw [hunf, h10]
            refine ⟨by rw [r2.1 0 (by decide)]; rfl, fun e => absurd (show (2 : Nat) = 0 from e) (by decide), r1, r3 _ _ ((s1.2.1.same hall (by decide) (by decide)).same (fs := [0]) (js := []) (.f (by decide)) (by decide) (by decide)), ((s1.2.2.1.same hall (by decide) (by decide)).same (fs := [0]) (js := []) (.f (by decide)) (by decide) (by decide)).same r2 (by decide) (by decide), dep0, ((hdp0.same hall (by decide)).same (fs := [0]) (js := []) (.f (by decide)) (by decide)).same r2 (by decide)⟩
          · skip
            obtain ⟨w', hs1, hw1⟩ : ∃ w', w.tk.stl = some w' ∧ mW0 τ_47 w' := by
              rcases q3 with ⟨-, r2⟩ | ⟨r1, -⟩
              · exact r2
              · exact absurd (r1.symm.trans c_50) (by decide)
            rw [hs1] at h10
            refine nv_iconst hX (m := 0) (by decide) dX4_tick_53 ?_
            refine rv_goto hX 58 dX4_tick_54 (by decide) ?_
            have hall := ((h7.mn (fs' := [0, 29, 30, 31, 32, 33, 34, 39]) (js' := [1, 13, 14, 15, 16, 22, 23, 24, 25, 26, 27, 28, 29, 30, 31, 32, 33, 34]) (by decide) (by decide)).tr (b3.mn (by decide) (by decide))).tr (q1.mn (by decide) (by decide))
            refine mv_callz hX iX4_266 rfl mdX4_goesWell (m_goesWell0 hG (d := d - 1)) (by omega) rfl rfl (Nat.le_of_ble_eq_true rfl) dX4_tick_58 (fun r_58 τ_58 h_58 => ?_)
            obtain ⟨rfl, rfl⟩ := h_58
            refine rv_if_ne hX 71 dX4_tick_61 (by decide) (fun _ => ?_) (fun q => absurd q (by decide))
            first | refine nv_iinc hX (m := 1) dX4_tick_71 rfl (by decide) (rv_st_3 rfl) ?_ | refine rv_iinc hX dX4_tick_71 rfl rfl (rv_st_3 rfl) ?_
            refine rv_goto hX 33 dX4_tick_74 (by decide) ?_
            obtain ⟨F9, -, hF9⟩ := wW.stl_spec hs1
            have hwx := h4.tk.stl hs1
            refine ih _ (i + 1) (ng' + 60) (nn' + 1) w' _ (by omega) (by omega) (by omega) hwx (by rw [hF9]; exact hr1) (by rw [hF9]; exact hr2) (by rw [hF9]; exact hr3) (hw1.same (fs := [0]) (js := []) (.f (by decide)) (by decide)) ?_ ?_ rfl (by omega) h10
            · obtain ⟨dep3, hd3⟩ := q2
              exact ⟨dep3, hd3.same (fs := [0]) (js := []) (.f (by decide)) (by decide)⟩
            · have hf0 : rv_same [0] [] τ_47 (rv_sF τ_47 0 (nI 0)) := .f (by decide)
              exact (((h7.mn (fs' := [0, 29, 30, 31, 32, 33, 34, 39]) (js' := [1, 13, 14, 15, 16, 22, 23, 24, 25, 26, 27, 28, 29, 30, 31, 32, 33, 34]) (by decide) (by decide)).tr (b3.mn (by decide) (by decide))).tr (q1.mn (by decide) (by decide))).tr (hf0.mn (by decide) (by decide))
    exact loop c 0 0 ng nn s.w _ (by omega) (by omega) (by omega) hwf rfl rfl rfl s1.1.1 ⟨dep0, hdp0⟩ .rf h00 (by omega) rfl
