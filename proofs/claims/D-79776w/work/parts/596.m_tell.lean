/-! THE REFERENCE: facts told and taken -/
set_option maxRecDepth 100000
theorem mW0.chT {fs js : List Nat} {σ τ : rv_S} {w : wW} {T : List (Nat × Nat)} (h : mW0 σ w) (hs : rv_same fs js σ τ) (hj : ∀ j, j ∈ [2, 3, 4, 5, 6, 7, 8, 9, 10, 11, 12, 15, 16, 17] → j ∉ js) (h1 : ∀ i, i ≠ 5 → τ.2.1 1 i = σ.2.1 1 i) (ht : mTl τ T) : mW0 τ (w.setT T) := ⟨h.rules.same2 hs (h1 0 (by decide)) (h1 1 (by decide)) (fun j hj2 => hj j (by revert j; decide)), h.deeds.same2 hs (h1 0 (by decide)) (h1 2 (by decide)) (fun j hj2 => hj j (by revert j; decide)), by rw [h1 3 (by decide)]; exact h.nr, by rw [h1 4 (by decide)]; exact h.nd, ht, ⟨by rw [h1 6 (by decide)]; exact h.facts.1, h.facts.2.1, h.facts.2.2.1, fun k f e => by rw [hs.2.1 15 (hj 15 (by decide))]; exact h.facts.2.2.2 k f e⟩, h.tags.same hs (hj 16 (by decide)), by rw [h1 7 (by decide)]; exact h.g, h.stk.same2 hs (h1 8 (by decide)) (hj 17 (by decide)), by rw [h1 9 (by decide)]; exact h.now, by rw [h1 10 (by decide)]; exact h.fd⟩
theorem m_tell {G : rv_G} (hG : rv_GK G) {d : Nat} (hd : 10 ≤ d) {σ : rv_S} {s : wS} {N : Nat} (hN : N ≤ 24) (h : mSt σ s) (hwf : wfW N s.w) {f t : Int32} : mC G d yX4_tell wX4_tell [.int f, .int t] σ (mPi (fun r τ => mRes τ r (o_tell s f t))) := by
  refine mv_start hG (by decide +kernel) (Nat.le_of_ble_eq_true rfl) (fun X Hb o hX1 hX hE => ?_)
  subst hX1
  show rv_V X (rv_mh Hb o _) 0 [some (.ref o), some (.int f), some (.int t), none] []
  have hle := sp_fault_le s.w.S f
  have hnow := hwf.now
  have hb6 := hwf.b6
  have hT61 := h.1.1.tl.2.1
  obtain ⟨st, hst, -⟩ := sp_set_spec hwf.set
  refine rv_aload_n hX dX4_tell_0 rfl ?_
  refine rv_iload_n hX dX4_tell_1 rfl ?_
  refine mv_calli hX iX4_272 rfl mdX4_faultOf (m_faultOf hG (d := d - 1) (by omega) h.1.1.rel) (by omega) rfl rfl (Nat.le_of_ble_eq_true rfl) dX4_tell_2 (fun r_2 τ_2 h_2 => ?_)
  obtain ⟨rfl, rfl⟩ := h_2
  refine rv_istore_n hX dX4_tell_5 (rv_st_3 rfl) ?_
  refine rv_aload_n hX dX4_tell_6 rfl ?_
  refine rv_iload_n hX dX4_tell_7 rfl ?_
  first | refine nv_if_le hX 15 (by omega) dX4_tell_8 (by decide) (fun c_8 => ?_) (fun c_8 => ?_) | refine rv_if_le hX 15 dX4_tell_8 (by decide) (fun c_8 => ?_) (fun c_8 => ?_)
  · skip
    refine rv_iload_n hX dX4_tell_15 rfl ?_
    refine nv_iconst hX (m := 0) (by decide) dX4_tell_16 ?_
    refine nv_bipush hX (m := 100) (by decide) dX4_tell_17 ?_
    refine sv_callz hX iX4_135 mdX4_in (m_in hG (d := d - 1) (v := t)) (by omega) rfl rfl (Nat.le_of_ble_eq_true rfl) dX4_tell_19 (fun r_19 h_19 => ?_)
    have ht := h_19
    first | refine zv_if_eq hX 29 dX4_tell_22 (by decide) (fun c_22 => ?_) (fun c_22 => ?_) | refine nv_if_eq hX 29 (by omega) dX4_tell_22 (by decide) (fun c_22 => ?_) (fun c_22 => ?_) | refine rv_if_eq hX 29 dX4_tell_22 (by decide) (fun c_22 => ?_) (fun c_22 => ?_)
    · skip
      refine nv_iconst hX (m := 2) (by decide) dX4_tell_29 ?_
      refine mv_callz hX iX4_266 rfl mdX4_goesWell (m_goesWellN hG (by decide) (by decide) (d := d - 1)) (by omega) rfl rfl (Nat.le_of_ble_eq_true rfl) dX4_tell_30 (fun r_30 τ_30 h_30 => ?_)
      obtain ⟨rfl, rfl⟩ := h_30
      refine rv_if_ne hX 38 dX4_tell_33 (by decide) (fun q => absurd q (by decide)) (fun _ => ?_)
      refine nv_iconst hX (m := 0) (by decide) dX4_tell_36 ?_
      refine mv_reti hX hE dX4_tell_37 ?_
      unfold o_tell
      first
        | (rw [if_pos (show sp_fault s.w.S f ≠ 0 by omega)]
           exact h.th (by omega))
        | (rw [if_neg (show ¬ sp_fault s.w.S f ≠ 0 by omega), if_pos (fun q => by
             have := ht.mpr q
             rw [c_22] at this
             cases this)]
           exact h.th (by decide))
    · skip
      refine nv_iconst hX (m := 0) (by decide) dX4_tell_25 ?_
      refine rv_goto hX 30 dX4_tell_26 (by decide) ?_
      refine mv_callz hX iX4_266 rfl mdX4_goesWell (m_goesWell0 hG (d := d - 1)) (by omega) rfl rfl (Nat.le_of_ble_eq_true rfl) dX4_tell_30 (fun r_30 τ_30 h_30 => ?_)
      obtain ⟨rfl, rfl⟩ := h_30
      refine rv_if_ne hX 38 dX4_tell_33 (by decide) (fun _ => ?_) (fun q => absurd q (by decide))
      have h0 : sp_fault s.w.S f = 0 := by omega
      obtain ⟨n, n8, rfl, n3, n4⟩ := sp_fault_0 h.1.1.rel.2.1 h0
      obtain ⟨m, m1, m2, rfl, m4⟩ := w_rng_nat (by decide) (by decide) (ht.mp c_22)
      have hunf : o_tell s (nI n) (nI m) = s.step 3 (s.w.setT (sp_tellF s.w.T n (if m = 0 then 0 else s.w.now + m))) := by
        unfold o_tell
        rw [if_neg (fun q => q h0), if_neg (fun q => q (ht.mp c_22)), nI_clamp (by omega), m4]
        congr 3
        by_cases q : m = 0
        · rw [if_pos q, if_pos (by rw [q]; decide)]
        · rw [if_neg q, if_neg (nI_ne0 (by omega) (by omega))]
      refine rv_aload_n hX dX4_tell_38 rfl ?_
      refine nv_iconst hX (m := 3) (by decide) dX4_tell_39 ?_
      refine mv_callv hX iX4_275 rfl mdX4_save (m_saveW hG (d := d - 1) (by omega) (h.thrown _) hb6) (by omega) rfl rfl (Nat.le_of_ble_eq_true rfl) dX4_tell_40 (fun τ_40 h_40 => ?_)
      obtain ⟨s1, s2, s3⟩ := h_40
      refine rv_aload_n hX dX4_tell_43 rfl ?_
      refine rv_iload_n hX dX4_tell_44 rfl ?_
      refine rv_iload_n hX dX4_tell_45 rfl ?_
      first | refine zv_if_ne hX 53 dX4_tell_46 (by decide) (fun c_46 => ?_) (fun c_46 => ?_) | refine nv_if_ne hX 53 (by omega) dX4_tell_46 (by decide) (fun c_46 => ?_) (fun c_46 => ?_) | refine rv_if_ne hX 53 dX4_tell_46 (by decide) (fun c_46 => ?_) (fun c_46 => ?_)
      · skip
        refine rv_aload_n hX dX4_tell_53 rfl ?_
        refine mv_ga hX (k := 1) (j := 1) gX4_7_X4 (by decide) rfl (by decide) dX4_tell_54 ?_
        refine nv_bipush hX (m := 9) (by decide) dX4_tell_57 ?_
        refine mv_ld hX (j := 1) (by decide) (by decide) rfl (by decide) (show _ < 11 by omega) dX4_tell_59 ?_
        rw [s1.1.1.now]
        refine rv_iload_n hX dX4_tell_60 rfl ?_
        first | refine nv_iadd hX dX4_tell_61 ?_ | refine rv_iadd hX dX4_tell_61 ?_
        refine mv_callv hX iX4_278 rfl mdX4_tellFact (m_tellFact hG (d := d - 1) (by omega) s1.1.1.tl hb6.1 n8 (by omega)) (by omega) rfl rfl (Nat.le_of_ble_eq_true rfl) dX4_tell_62 (fun τ_62 h_62 => ?_)
        obtain ⟨t1, t2, T', t3, t4⟩ := h_62
        refine rv_aload_n hX dX4_tell_65 rfl ?_
        refine nv_iconst hX (m := 3) (by decide) dX4_tell_66 ?_
        refine mv_calli hX iX4_281 rfl mdX4_settledOr (m_settledOr hG (d := d - 1) (p := 3) (s := s) (w := s.w.setT T') (by omega) (by decide) (by decide) ⟨s1.1.1.chT t1 (by decide) t2 t4, s1.1.2.same t1 (by decide)⟩ hst (hwf.st hN) (by obtain ⟨dep, hdp⟩ := s1.2.2.2; exact ⟨dep, hdp.same t1 (by decide)⟩) (s1.2.1.same t1 (by decide) (by decide)) (s1.2.2.1.same t1 (by decide) (by decide)) (s2.same t1 (by decide)) rfl) (by omega) rfl rfl (Nat.le_of_ble_eq_true rfl) dX4_tell_67 (fun r_67 τ_67 h_67 => ?_)
        have hr := h_67
        refine mv_reti hX hE dX4_tell_70 ?_
        rw [hunf]
        first
          | (rw [if_pos (show m = 0 by omega), ← t3.fn hwf.T.1]
             exact hr)
          | (rw [if_neg (show ¬ m = 0 by omega), ← t3.fn hwf.T.1]
             exact hr)
      · skip
        refine nv_iconst hX (m := 0) (by decide) dX4_tell_49 ?_
        refine rv_goto hX 62 dX4_tell_50 (by decide) ?_
        refine mv_callv hX iX4_278 rfl mdX4_tellFact (m_tellFact hG (d := d - 1) (by omega) s1.1.1.tl hb6.1 n8 (by omega)) (by omega) rfl rfl (Nat.le_of_ble_eq_true rfl) dX4_tell_62 (fun τ_62 h_62 => ?_)
        obtain ⟨t1, t2, T', t3, t4⟩ := h_62
        refine rv_aload_n hX dX4_tell_65 rfl ?_
        refine nv_iconst hX (m := 3) (by decide) dX4_tell_66 ?_
        refine mv_calli hX iX4_281 rfl mdX4_settledOr (m_settledOr hG (d := d - 1) (p := 3) (s := s) (w := s.w.setT T') (by omega) (by decide) (by decide) ⟨s1.1.1.chT t1 (by decide) t2 t4, s1.1.2.same t1 (by decide)⟩ hst (hwf.st hN) (by obtain ⟨dep, hdp⟩ := s1.2.2.2; exact ⟨dep, hdp.same t1 (by decide)⟩) (s1.2.1.same t1 (by decide) (by decide)) (s1.2.2.1.same t1 (by decide) (by decide)) (s2.same t1 (by decide)) rfl) (by omega) rfl rfl (Nat.le_of_ble_eq_true rfl) dX4_tell_67 (fun r_67 τ_67 h_67 => ?_)
        have hr := h_67
        refine mv_reti hX hE dX4_tell_70 ?_
        rw [hunf]
        first
          | (rw [if_pos (show m = 0 by omega), ← t3.fn hwf.T.1]
             exact hr)
          | (rw [if_neg (show ¬ m = 0 by omega), ← t3.fn hwf.T.1]
             exact hr)
  · skip
    refine rv_iload_n hX dX4_tell_11 rfl ?_
    refine rv_goto hX 30 dX4_tell_12 (by decide) ?_
    refine mv_callz hX iX4_266 rfl mdX4_goesWell (m_goesWellN hG (by omega) (by omega) (d := d - 1)) (by omega) rfl rfl (Nat.le_of_ble_eq_true rfl) dX4_tell_30 (fun r_30 τ_30 h_30 => ?_)
    obtain ⟨rfl, rfl⟩ := h_30
    refine rv_if_ne hX 38 dX4_tell_33 (by decide) (fun q => absurd q (by decide)) (fun _ => ?_)
    refine nv_iconst hX (m := 0) (by decide) dX4_tell_36 ?_
    refine mv_reti hX hE dX4_tell_37 ?_
    unfold o_tell
    first
      | (rw [if_pos (show sp_fault s.w.S f ≠ 0 by omega)]
         exact h.th (by omega))
      | (rw [if_neg (show ¬ sp_fault s.w.S f ≠ 0 by omega), if_pos (fun q => by
           have := ht.mpr q
           rw [c_22] at this
           cases this)]
         exact h.th (by decide))
theorem m_take {G : rv_G} (hG : rv_GK G) {d : Nat} (hd : 10 ≤ d) {σ : rv_S} {s : wS} {N : Nat} (hN : N ≤ 24) (h : mSt σ s) (hwf : wfW N s.w) {f : Int32} : mC G d yX4_take wX4_take [.int f] σ (mPi (fun r τ => mRes τ r (o_take s f))) := by
  refine mv_start hG (by decide +kernel) (Nat.le_of_ble_eq_true rfl) (fun X Hb o hX1 hX hE => ?_)
  subst hX1
  show rv_V X (rv_mh Hb o _) 0 [some (.ref o), some (.int f), none] []
  have hle := sp_fault_le s.w.S f
  have hb6 := hwf.b6
  have hT61 := h.1.1.tl.2.1
  obtain ⟨st, hst, -⟩ := sp_set_spec hwf.set
  refine rv_aload_n hX dX4_take_0 rfl ?_
  refine rv_iload_n hX dX4_take_1 rfl ?_
  refine mv_calli hX iX4_272 rfl mdX4_faultOf (m_faultOf hG (d := d - 1) (by omega) h.1.1.rel) (by omega) rfl rfl (Nat.le_of_ble_eq_true rfl) dX4_take_2 (fun r_2 τ_2 h_2 => ?_)
  obtain ⟨rfl, rfl⟩ := h_2
  refine rv_istore_n hX dX4_take_5 (rv_st_2 rfl) ?_
  refine rv_aload_n hX dX4_take_6 rfl ?_
  refine rv_iload_n hX dX4_take_7 rfl ?_
  first | refine nv_if_le hX 15 (by omega) dX4_take_8 (by decide) (fun c_8 => ?_) (fun c_8 => ?_) | refine rv_if_le hX 15 dX4_take_8 (by decide) (fun c_8 => ?_) (fun c_8 => ?_)
  · skip
    have h0 : sp_fault s.w.S f = 0 := by omega
    obtain ⟨n, n8, rfl, n3, n4⟩ := sp_fault_0 h.1.1.rel.2.1 h0
    refine rv_aload_n hX dX4_take_15 rfl ?_
    refine rv_iload_n hX dX4_take_16 rfl ?_
    refine mv_calli hX iX4_269 rfl mdX4_toldAt (m_toldAt hG (d := d - 1) h.1.1.tl n8) (by omega) rfl rfl (Nat.le_of_ble_eq_true rfl) dX4_take_17 (fun r_17 τ_17 h_17 => ?_)
    obtain ⟨rfl, x, hx, rfl⟩ := h_17
    have hx' := hx.fn hwf.T.1
    have hxl := hx.mem.2
    have hm1 := rv_oi_m1 (x := x) (fun a e => by have := hxl a e; omega)
    refine rv_iconst hX (v := -1) dX4_take_20 (by decide) ?_
    first | refine nv_icmp_ne hX 28 (by omega) (by omega) dX4_take_21 (by decide) (fun c_21 => ?_) (fun c_21 => ?_) | refine rv_icmp_ne hX 28 dX4_take_21 (by decide) (fun c_21 => ?_) (fun c_21 => ?_)
    · skip
      refine nv_iconst hX (m := 0) (by decide) dX4_take_28 ?_
      refine mv_callz hX iX4_266 rfl mdX4_goesWell (m_goesWell0 hG (d := d - 1)) (by omega) rfl rfl (Nat.le_of_ble_eq_true rfl) dX4_take_29 (fun r_29 τ_29 h_29 => ?_)
      obtain ⟨rfl, rfl⟩ := h_29
      refine rv_if_ne hX 37 dX4_take_32 (by decide) (fun _ => ?_) (fun q => absurd q (by decide))
      obtain ⟨k, rfl⟩ : ∃ k, x = some k := by
        cases x with
        | none => exact absurd rfl c_21
        | some k => exact ⟨k, rfl⟩
      have hkl := hxl k rfl
      have hunf : o_take s (nI n) = s.step 3 (s.w.setT (s.w.T.eraseIdx k)) := by
        unfold o_take
        rw [if_neg (fun q => q h0), nI_clamp (by omega), ← hx']
      refine rv_aload_n hX dX4_take_37 rfl ?_
      refine nv_iconst hX (m := 3) (by decide) dX4_take_38 ?_
      refine mv_callv hX iX4_275 rfl mdX4_save (m_saveW hG (d := d - 1) (by omega) (h.thrown _) hb6) (by omega) rfl rfl (Nat.le_of_ble_eq_true rfl) dX4_take_39 (fun τ_39 h_39 => ?_)
      obtain ⟨s1, s2, s3⟩ := h_39
      refine rv_aload_n hX dX4_take_42 rfl ?_
      refine rv_aload_n hX dX4_take_43 rfl ?_
      refine rv_iload_n hX dX4_take_44 rfl ?_
      refine mv_calli hX iX4_269 rfl mdX4_toldAt (m_toldAt hG (d := d - 1) s1.1.1.tl n8) (by omega) rfl rfl (Nat.le_of_ble_eq_true rfl) dX4_take_45 (fun r_45 τ_45 h_45 => ?_)
      obtain ⟨rfl, x2, hx2, rfl⟩ := h_45
      have hx2' := hx2.fn hwf.T.1
      rw [← hx'] at hx2'
      subst hx2'
      rw [show rv_oi (some k) = nI k from rfl]
      refine mv_callv hX iX4_290 rfl mdX4_takeFact (m_takeFact hG (d := d - 1) s1.1.1.tl hkl) (by omega) rfl rfl (Nat.le_of_ble_eq_true rfl) dX4_take_48 (fun τ_48 h_48 => ?_)
      obtain ⟨t1, t2, t4⟩ := h_48
      refine rv_aload_n hX dX4_take_51 rfl ?_
      refine nv_iconst hX (m := 3) (by decide) dX4_take_52 ?_
      refine mv_calli hX iX4_281 rfl mdX4_settledOr (m_settledOr hG (d := d - 1) (p := 3) (s := s) (w := s.w.setT (s.w.T.eraseIdx k)) (by omega) (by decide) (by decide) ⟨s1.1.1.chT t1 (by decide) t2 t4, s1.1.2.same t1 (by decide)⟩ hst (hwf.st hN) (by obtain ⟨dep, hdp⟩ := s1.2.2.2; exact ⟨dep, hdp.same t1 (by decide)⟩) (s1.2.1.same t1 (by decide) (by decide)) (s1.2.2.1.same t1 (by decide) (by decide)) (s2.same t1 (by decide)) rfl) (by omega) rfl rfl (Nat.le_of_ble_eq_true rfl) dX4_take_53 (fun r_53 τ_53 h_53 => ?_)
      have hr := h_53
      refine mv_reti hX hE dX4_take_56 ?_
      rw [hunf]
      exact hr
    · skip
      refine nv_iconst hX (m := 3) (by decide) dX4_take_24 ?_
      refine rv_goto hX 29 dX4_take_25 (by decide) ?_
      refine mv_callz hX iX4_266 rfl mdX4_goesWell (m_goesWellN hG (by decide) (by decide) (d := d - 1)) (by omega) rfl rfl (Nat.le_of_ble_eq_true rfl) dX4_take_29 (fun r_29 τ_29 h_29 => ?_)
      obtain ⟨rfl, rfl⟩ := h_29
      refine rv_if_ne hX 37 dX4_take_32 (by decide) (fun q => absurd q (by decide)) (fun _ => ?_)
      refine nv_iconst hX (m := 0) (by decide) dX4_take_35 ?_
      refine mv_reti hX hE dX4_take_36 ?_
      unfold o_take
      first
        | (rw [if_pos (show sp_fault s.w.S f ≠ 0 by omega)]
           exact h.th (by omega))
        | (rw [if_neg (show ¬ sp_fault s.w.S (nI n) ≠ 0 by omega), nI_clamp (by omega), ← hx', hm1.mp c_21]
           exact h.th (by decide))
  · skip
    refine rv_iload_n hX dX4_take_11 rfl ?_
    refine rv_goto hX 29 dX4_take_12 (by decide) ?_
    refine mv_callz hX iX4_266 rfl mdX4_goesWell (m_goesWellN hG (by omega) (by omega) (d := d - 1)) (by omega) rfl rfl (Nat.le_of_ble_eq_true rfl) dX4_take_29 (fun r_29 τ_29 h_29 => ?_)
    obtain ⟨rfl, rfl⟩ := h_29
    refine rv_if_ne hX 37 dX4_take_32 (by decide) (fun q => absurd q (by decide)) (fun _ => ?_)
    refine nv_iconst hX (m := 0) (by decide) dX4_take_35 ?_
    refine mv_reti hX hE dX4_take_36 ?_
    unfold o_take
    first
      | (rw [if_pos (show sp_fault s.w.S f ≠ 0 by omega)]
         exact h.th (by omega))
      | (rw [if_neg (show ¬ sp_fault s.w.S (nI n) ≠ 0 by omega), nI_clamp (by omega), ← hx', hm1.mp c_21]
         exact h.th (by decide))
