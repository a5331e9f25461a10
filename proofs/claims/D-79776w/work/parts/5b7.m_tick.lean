/-! THE REFERENCE: fire, run, time -/
set_option maxRecDepth 100000
theorem m_fire {G : rv_G} (hG : rv_GK G) {d : Nat} (hd : 10 ≤ d) {σ : rv_S} {s : wS} {n ng ne nn : Nat} (hn : n ≤ 24) (hng : ng ≤ 1000000) (hne : ne < 5000) (h : mSt σ s) (hwf : wfX n ng ne nn s.w) (hB : ∀ w, w ∈ s.b → w.E.length ≤ s.w.E.length) : mC G d yX4_fire wX4_fire [] σ (mPi (fun r τ => mRes τ r (o_fire s))) := by
  refine mv_start hG (by decide +kernel) (Nat.le_of_ble_eq_true rfl) (fun X Hb o hX1 hX hE => ?_)
  subst hX1
  show rv_V X (rv_mh Hb o _) 0 [some (.ref o), none] []
  have h100 : (-2 : Int32) < 0 := by decide
  obtain ⟨-, -, -, hf4⟩ := hwf.fire1
  refine rv_aload_n hX dX4_fire_0 rfl ?_
  refine mv_calli hX iX4_435 rfl mdX4_fireOnce (m_fireOnce hG (d := d - 1) (by omega) hn hng hne h hwf hB) (by omega) rfl rfl (Nat.le_of_ble_eq_true rfl) dX4_fire_1 (fun r_1 τ_1 h_1 => ?_)
  obtain ⟨e1, e2, e3⟩ := h_1
  subst e1
  refine rv_istore_n hX dX4_fire_4 (rv_st_1 rfl) ?_
  refine rv_aload_n hX dX4_fire_5 rfl ?_
  refine rv_iload_n hX dX4_fire_6 rfl ?_
  refine rv_bipush hX (v := -2) dX4_fire_7 (by decide) ?_
  first | refine nv_icmp_ne hX 16 (by omega) (by omega) dX4_fire_9 (by decide) (fun c_9 => ?_) (fun c_9 => ?_) | refine rv_icmp_ne hX 16 dX4_fire_9 (by decide) (fun c_9 => ?_) (fun c_9 => ?_)
  · skip
    refine nv_iconst hX (m := 0) (by decide) dX4_fire_16 ?_
    refine mv_callz hX iX4_266 rfl mdX4_goesWell (m_goesWell0 hG (d := d - 1)) (by omega) rfl rfl (Nat.le_of_ble_eq_true rfl) dX4_fire_17 (fun r_17 τ_17 h_17 => ?_)
    obtain ⟨rfl, rfl⟩ := h_17
    refine rv_if_eq hX 27 dX4_fire_20 (by decide) (fun q => absurd q (by decide)) (fun _ => ?_)
    refine rv_iload_n hX dX4_fire_23 rfl ?_
    refine rv_goto hX 28 dX4_fire_24 (by decide) ?_
    refine mv_reti hX hE dX4_fire_28 ?_
    unfold o_fire
    first
      | (rw [if_pos c_9]
         have hw : s.w.fire1.2 = s.w := wW.fire1_same (fun C hC => (hwf.1.2.2.1.2.1 C hC).1.num) c_9
         rw [hw] at e2
         exact e2.th (by decide))
      | (rw [if_neg c_9]
         exact ⟨rfl, fun _ => rfl, e2.thrown _⟩)
  · skip
    refine nv_iconst hX (m := 1) (by decide) dX4_fire_12 ?_
    refine rv_goto hX 17 dX4_fire_13 (by decide) ?_
    refine mv_callz hX iX4_266 rfl mdX4_goesWell (m_goesWellN hG (by decide) (by decide) (d := d - 1)) (by omega) rfl rfl (Nat.le_of_ble_eq_true rfl) dX4_fire_17 (fun r_17 τ_17 h_17 => ?_)
    obtain ⟨rfl, rfl⟩ := h_17
    refine rv_if_eq hX 27 dX4_fire_20 (by decide) (fun _ => ?_) (fun q => absurd q (by decide))
    refine nv_iconst hX (m := 0) (by decide) dX4_fire_27 ?_
    refine mv_reti hX hE dX4_fire_28 ?_
    unfold o_fire
    first
      | (rw [if_pos c_9]
         have hw : s.w.fire1.2 = s.w := wW.fire1_same (fun C hC => (hwf.1.2.2.1.2.1 C hC).1.num) c_9
         rw [hw] at e2
         exact e2.th (by decide))
      | (rw [if_neg c_9]
         exact ⟨rfl, fun _ => rfl, e2.thrown _⟩)
theorem m_run {G : rv_G} (hG : rv_GK G) {d : Nat} (hd : 10 ≤ d) {σ : rv_S} {s : wS} {n ng ne nn : Nat} (hn : n ≤ 24) (hng : ng + 600 ≤ 1000000) (hne : ne + 10 < 5000) (h : mSt σ s) (hwf : wfX n ng ne nn s.w) (hB : ∀ w, w ∈ s.b → w.E.length ≤ s.w.E.length) {most : Int32} : mC G d yX4_run wX4_run [.int most] σ (mPi (fun r τ => mRes τ r (o_run s most))) := by
  refine mv_start hG (by decide +kernel) (Nat.le_of_ble_eq_true rfl) (fun X Hb o hX1 hX hE => ?_)
  subst hX1
  show rv_V X (rv_mh Hb o _) 0 [some (.ref o), some (.int most), none] []
  refine rv_aload_n hX dX4_run_0 rfl ?_
  refine rv_iload_n hX dX4_run_1 rfl ?_
  refine nv_iconst hX (m := 1) (by decide) dX4_run_2 ?_
  refine nv_bipush hX (m := 10) (by decide) dX4_run_3 ?_
  refine sv_callz hX iX4_135 mdX4_in (m_in hG (d := d - 1) (v := most)) (by omega) rfl rfl (Nat.le_of_ble_eq_true rfl) dX4_run_5 (fun r_5 h_5 => ?_)
  have hm := h_5
  first | refine zv_if_eq hX 15 dX4_run_8 (by decide) (fun c_8 => ?_) (fun c_8 => ?_) | refine nv_if_eq hX 15 (by omega) dX4_run_8 (by decide) (fun c_8 => ?_) (fun c_8 => ?_) | refine rv_if_eq hX 15 dX4_run_8 (by decide) (fun c_8 => ?_) (fun c_8 => ?_)
  · skip
    refine nv_iconst hX (m := 1) (by decide) dX4_run_15 ?_
    refine mv_callz hX iX4_266 rfl mdX4_goesWell (m_goesWellN hG (by decide) (by decide) (d := d - 1)) (by omega) rfl rfl (Nat.le_of_ble_eq_true rfl) dX4_run_16 (fun r_16 τ_16 h_16 => ?_)
    obtain ⟨rfl, rfl⟩ := h_16
    refine rv_if_ne hX 24 dX4_run_19 (by decide) (fun q => absurd q (by decide)) (fun _ => ?_)
    refine nv_iconst hX (m := 0) (by decide) dX4_run_22 ?_
    refine mv_reti hX hE dX4_run_23 ?_
    unfold o_run
    rw [if_pos (fun q => absurd ((hm.mpr q).symm.trans c_8) (by decide))]
    exact h.th (by decide)
  · skip
    refine nv_iconst hX (m := 0) (by decide) dX4_run_11 ?_
    refine rv_goto hX 16 dX4_run_12 (by decide) ?_
    refine mv_callz hX iX4_266 rfl mdX4_goesWell (m_goesWell0 hG (d := d - 1)) (by omega) rfl rfl (Nat.le_of_ble_eq_true rfl) dX4_run_16 (fun r_16 τ_16 h_16 => ?_)
    obtain ⟨rfl, rfl⟩ := h_16
    refine rv_if_ne hX 24 dX4_run_19 (by decide) (fun _ => ?_) (fun q => absurd q (by decide))
    refine nv_iconst hX (m := 0) (by decide) dX4_run_24 ?_
    refine rv_istore_n hX dX4_run_25 (rv_st_2 rfl) ?_
    obtain ⟨c, c1, c2, rfl, c3⟩ := w_rng_nat (by decide) (by decide) (hm.mp c_8)
    have hunf : o_run s (nI c) = (0, nI (wW.runs c 0 s.w).1, s.setw (wW.runs c 0 s.w).2) := by
      unfold o_run
      rw [if_neg (fun q => q (hm.mp c_8)), c3]
    have loop : ∀ (k m ng' ne' : Nat) (w : wW) (τ : rv_S), k + m = c → ng' + 60 * k ≤ ng + 600 → ne' + k ≤ ne + 10 → wfX n ng' ne' nn w → s.w.E.length ≤ w.E.length → mSt τ (s.setw w) → τ.1 0 = nI 0 → wW.runs c 0 s.w = wW.runs k m w → rv_V X (rv_mh Hb o τ) 26 [some (.ref o), some (.int (nI c)), some (.int (nI m))] [] := by
      intro k
      induction k with
      | zero =>
        intro m ng' ne' w τ h1 h2 h3 h4 h5 h6 h7 h8
        refine rv_iload_n hX dX4_run_26 rfl ?_
        refine rv_iload_n hX dX4_run_27 rfl ?_
        first | refine nv_icmp_ge hX 44 (by omega) (by omega) dX4_run_28 (by decide) (fun c_28 => ?_) (fun c_28 => ?_) | refine rv_icmp_ge hX 44 dX4_run_28 (by decide) (fun c_28 => ?_) (fun c_28 => ?_)
        · skip
          refine rv_iload_n hX dX4_run_44 rfl ?_
          refine mv_reti hX hE dX4_run_45 ?_
          rw [hunf, h8]
          exact ⟨h7, fun _ => rfl, h6⟩
        · skip
          exact absurd h1 (by omega)
          --done
      | succ k ih =>
        intro m ng' ne' w τ h1 h2 h3 h4 h5 h6 h7 h8
        have e9 : wW.runs (k + 1) m w = if 0 ≤ w.fire1.1 then wW.runs k (m + 1) w.fire1.2 else (m, w.fire1.2) := rfl
        rw [e9] at h8
        obtain ⟨f1, f2, f3, f4⟩ := h4.fire1
        refine rv_iload_n hX dX4_run_26 rfl ?_
        refine rv_iload_n hX dX4_run_27 rfl ?_
        first | refine nv_icmp_ge hX 44 (by omega) (by omega) dX4_run_28 (by decide) (fun c_28 => ?_) (fun c_28 => ?_) | refine rv_icmp_ge hX 44 dX4_run_28 (by decide) (fun c_28 => ?_) (fun c_28 => ?_)
        · skip
          exact absurd h1 (by omega)
          --done
        · skip
          refine rv_aload_n hX dX4_run_31 rfl ?_
          refine mv_calli hX iX4_435 rfl mdX4_fireOnce (m_fireOnce hG (d := d - 1) (by omega) (s := s.setw w) hn (by omega) (by omega) h6 h4 (fun w' hw' => Nat.le_trans (hB w' hw') h5)) (by omega) rfl rfl (Nat.le_of_ble_eq_true rfl) dX4_run_32 (fun r_32 τ_32 h_32 => ?_)
          obtain ⟨e1, e2, e3⟩ := h_32
          subst e1
          refine rv_if_lt hX 44 dX4_run_35 (by decide) (fun c_35 => ?_) (fun c_35 => ?_)
          · skip
            refine rv_iload_n hX dX4_run_44 rfl ?_
            refine mv_reti hX hE dX4_run_45 ?_
            rw [if_neg (Int32.not_le.mpr (show w.fire1.1 < 0 from c_35))] at h8
            rw [hunf, h8]
            exact ⟨e3.trans h7, fun _ => rfl, e2⟩
          · skip
            first | refine nv_iinc hX (m := 1) dX4_run_38 rfl (by decide) (rv_st_2 rfl) ?_ | refine rv_iinc hX dX4_run_38 rfl rfl (rv_st_2 rfl) ?_
            refine rv_goto hX 26 dX4_run_41 (by decide) ?_
            rw [if_pos (Int32.not_lt.mp (show ¬ w.fire1.1 < 0 from c_35))] at h8
            exact ih (m + 1) (ng' + 60) (ne' + 1) _ _ (by omega) (by omega) (by omega) f1 (Nat.le_trans h5 f3) e2 (e3.trans h7) h8
    exact loop c 0 ng ne s.w _ (by omega) (by omega) (by omega) hwf (Nat.le_refl _) (h.thrown _) rfl rfl
/-! time -/
def rv_pd (j : Nat) : Int32 := match j with
  | 0 => -1
  | j + 1 => nI j
theorem rv_pd_dec (j : Nat) : nI j + Int32.ofInt (-1) = rv_pd j := by
  cases j with
  | zero => decide
  | succ j =>
    show nI (j + 1) + Int32.ofInt (-1) = nI j
    exact nI_dec (Nat.succ_pos j)
theorem rv_pd_sub (j : Nat) : nI j - nI 1 = rv_pd j := by
  rw [← rv_pd_dec, Int32.sub_eq_add_neg]
  rfl
theorem sp_erase_mid {α : Type} {T R : List α} {j : Nat} {p : α} (h : T[j]? = some p) : (T.take (j + 1) ++ R).eraseIdx j = T.take j ++ R := by
  have hj := (List.getElem?_eq_some_iff.mp h).1
  rw [List.eraseIdx_append_of_lt_length (by rw [List.length_take]; omega)]
  congr 1
  rw [List.take_succ, h, List.eraseIdx_append_of_length_le (by rw [List.length_take]; omega), List.length_take, show j - min j T.length = 0 by omega]
  simp
def wW.tkF (w : wW) : List (Nat × Nat) := w.T.filter (fun p => decide (p.2 ≠ w.now + 1))
def wW.tk (w : wW) : wW := (w.setN (w.now + 1)).setT w.tkF
theorem m_beginTick {G : rv_G} (hG : rv_GK G) {d : Nat} (hd : 1 ≤ d) {σ : rv_S} {w : wW} (h : mW0 σ w) (hn : w.now < 1000000) : mC G d yX4_beginTick wX4_beginTick [] σ (mPi (fun r τ => r = nI (w.T.length - w.tkF.length) ∧ mW0 τ w.tk ∧ rv_same [] [1, 13, 14] σ τ)) := by
  refine mv_start hG (by decide +kernel) (Nat.le_of_ble_eq_true rfl) (fun X Hb o hX1 hX hE => ?_)
  subst hX1
  show rv_V X (rv_mh Hb o _) 0 [some (.ref o), none, none] []
  have hT61 := h.tl.2.1
  have hN9 := h.now
  have loop : ∀ (j : Nat) (R : List (Nat × Nat)) (τ : rv_S), j ≤ w.T.length → R = (w.T.drop j).filter (fun p => decide (p.2 ≠ w.now + 1)) → mTl τ (w.T.take j ++ R) → rv_same [] [1, 13, 14] σ τ → (∀ i, i ≠ 5 → τ.2.1 1 i = if i = 9 then nI (w.now + 1) else σ.2.1 1 i) → rv_V X (rv_mh Hb o τ) 22 [some (.ref o), some (.int (nI (w.T.length - (w.T.take j ++ R).length))), some (.int (rv_pd j))] [] := by
    intro j
    induction j with
    | zero =>
      intro R τ h1 h2 h3 h4 h5
      show rv_V X (rv_mh Hb o τ) 22 [some (.ref o), some (.int (nI (w.T.length - ([] ++ R).length))), some (.int (-1))] []
      rw [List.take_zero] at h3
      have hR : R = w.tkF := by rw [h2]; rfl
      subst hR
      refine rv_iload_n hX dX4_beginTick_22 rfl ?_
      refine rv_if_lt hX 56 dX4_beginTick_23 (by decide) (fun c_23 => ?_) (fun c_23 => ?_)
      · skip
        refine rv_iload_n hX dX4_beginTick_56 rfl ?_
        refine mv_reti hX hE dX4_beginTick_57 ?_
        refine ⟨rfl, ?_, h4⟩
        have hs2 : rv_same [] [1, 13, 14] σ τ := h4
        refine ⟨h.rules.same2 h4 (by rw [h5 0 (by decide)]; rfl) (by rw [h5 1 (by decide)]; rfl) (by decide), h.deeds.same2 h4 (by rw [h5 0 (by decide)]; rfl) (by rw [h5 2 (by decide)]; rfl) (by decide), by rw [h5 3 (by decide)]; exact h.nr, by rw [h5 4 (by decide)]; exact h.nd, h3, ⟨by rw [h5 6 (by decide)]; exact h.facts.1, h.facts.2.1, h.facts.2.2.1, fun k f e => by rw [h4.2.1 15 (by decide)]; exact h.facts.2.2.2 k f e⟩, h.tags.same h4 (by decide), by rw [h5 7 (by decide)]; exact h.g, h.stk.same2 h4 (by rw [h5 8 (by decide)]; rfl) (by decide), by rw [h5 9 (by decide)]; rfl, by rw [h5 10 (by decide)]; exact h.fd.1, h.fd.2⟩
      · skip
        exact absurd (by decide : (-1 : Int32) < 0) c_23
        --done
    | succ j ih =>
      intro R τ h1 h2 h3 h4 h5
      show rv_V X (rv_mh Hb o τ) 22 [some (.ref o), some (.int (nI (w.T.length - (w.T.take (j + 1) ++ R).length))), some (.int (nI j))] []
      obtain ⟨p, hp⟩ : ∃ p, w.T[j]? = some p := ⟨w.T[j]'(by omega), List.getElem?_eq_getElem (by omega)⟩
      have hg : (w.T.take (j + 1) ++ R)[j]? = some p := by
        rw [List.getElem?_append_left (by rw [List.length_take]; omega), List.getElem?_take, if_pos (Nat.lt_succ_self j)]
        exact hp
      obtain ⟨p1, p2, p3, p4⟩ := h3.2.2 j p hg
      have hl : (w.T.take (j + 1) ++ R).length = j + 1 + R.length := by rw [List.length_append, List.length_take]; omega
      have hl2 : (w.T.take j ++ R).length = j + R.length := by rw [List.length_append, List.length_take]; omega
      have hl61 := h3.2.1
      have hRl : R.length ≤ w.T.length - (j + 1) := by
        rw [h2]
        exact Nat.le_trans (List.length_filter_le _ _) (by rw [List.length_drop]; exact Nat.le_refl _)
      have hdr : w.T.drop j = p :: w.T.drop (j + 1) := by
        rw [List.drop_eq_getElem_cons (by omega)]
        congr 1
        exact Option.some.inj ((List.getElem?_eq_getElem (by omega)).symm.trans hp)
      rw [hl] at hl61
      refine rv_iload_n hX dX4_beginTick_22 rfl ?_
      refine rv_if_lt hX 56 dX4_beginTick_23 (by decide) (fun c_23 => ?_) (fun c_23 => ?_)
      · skip
        exact absurd c_23 (Int32.not_lt.mpr (nI_pos' (by omega)))
        --done
      · skip
        refine rv_aload_n hX dX4_beginTick_26 rfl ?_
        refine mv_ga hX (k := 14) (j := 14) gX4_49_X4 (by decide) rfl (by decide) dX4_beginTick_27 ?_
        refine rv_iload_n hX dX4_beginTick_30 rfl ?_
        refine mv_ld hX (j := 14) (by decide) (by decide) rfl (by decide) (show _ < 62 by omega) dX4_beginTick_31 ?_
        rw [p2]
        refine rv_aload_n hX dX4_beginTick_32 rfl ?_
        refine mv_ga hX (k := 1) (j := 1) gX4_7_X4 (by decide) rfl (by decide) dX4_beginTick_33 ?_
        refine nv_bipush hX (m := 9) (by decide) dX4_beginTick_36 ?_
        refine mv_ld hX (j := 1) (by decide) (by decide) rfl (by decide) (show _ < 11 by omega) dX4_beginTick_38 ?_
        rw [h5 9 (by decide), if_pos rfl]
        first | refine nv_icmp_ne hX 50 (by omega) (by omega) dX4_beginTick_39 (by decide) (fun c_39 => ?_) (fun c_39 => ?_) | refine rv_icmp_ne hX 50 dX4_beginTick_39 (by decide) (fun c_39 => ?_) (fun c_39 => ?_)
        · skip
          refine rv_iinc hX dX4_beginTick_50 rfl (rv_pd_dec j) (rv_st_2 rfl) ?_
          refine rv_goto hX 22 dX4_beginTick_53 (by decide) ?_
          first
          | (rw [sp_erase_mid hp] at t3
             rw [hl, show w.T.length - (j + 1 + R.length) + 1 = w.T.length - (w.T.take j ++ R).length by omega]
             refine ih R _ (by omega) ?_ t3 ((h4.tr t1).mn (by decide) (by decide)) (fun i hi => by rw [t2 i hi]; exact h5 i hi)
             rw [hdr, List.filter_cons_of_neg (by simpa using c_39), ← h2])
          | (have e3 : w.T.take (j + 1) ++ R = w.T.take j ++ (p :: R) := by
               rw [List.take_succ, hp]
               simp
             rw [e3] at h3 ⊢
             refine ih (p :: R) _ (by omega) ?_ h3 h4 h5
             rw [hdr, List.filter_cons_of_pos (by simpa using c_39), ← h2])
        · skip
          refine rv_aload_n hX dX4_beginTick_42 rfl ?_
          refine rv_iload_n hX dX4_beginTick_43 rfl ?_
          refine mv_callv hX iX4_290 rfl mdX4_takeFact (m_takeFact hG (d := d - 1) h3 (by omega)) (by omega) rfl rfl (Nat.le_of_ble_eq_true rfl) dX4_beginTick_44 (fun τ_44 h_44 => ?_)
          obtain ⟨t1, t2, t3⟩ := h_44
          first | refine nv_iinc hX (m := 1) dX4_beginTick_47 rfl (by decide) (rv_st_1 rfl) ?_ | refine rv_iinc hX dX4_beginTick_47 rfl rfl (rv_st_1 rfl) ?_
          refine rv_iinc hX dX4_beginTick_50 rfl (rv_pd_dec j) (rv_st_2 rfl) ?_
          refine rv_goto hX 22 dX4_beginTick_53 (by decide) ?_
          first
          | (rw [sp_erase_mid hp] at t3
             rw [hl, show w.T.length - (j + 1 + R.length) + 1 = w.T.length - (w.T.take j ++ R).length by omega]
             refine ih R _ (by omega) ?_ t3 ((h4.tr t1).mn (by decide) (by decide)) (fun i hi => by rw [t2 i hi]; exact h5 i hi)
             rw [hdr, List.filter_cons_of_neg (by simpa using c_39), ← h2])
          | (have e3 : w.T.take (j + 1) ++ R = w.T.take j ++ (p :: R) := by
               rw [List.take_succ, hp]
               simp
             rw [e3] at h3 ⊢
             refine ih (p :: R) _ (by omega) ?_ h3 h4 h5
             rw [hdr, List.filter_cons_of_pos (by simpa using c_39), ← h2])
  refine rv_aload_n hX dX4_beginTick_0 rfl ?_
  refine mv_ga hX (k := 1) (j := 1) gX4_7_X4 (by decide) rfl (by decide) dX4_beginTick_1 ?_
  refine nv_bipush hX (m := 9) (by decide) dX4_beginTick_4 ?_
  refine rv_dup2 hX dX4_beginTick_6 rfl rfl ?_
  refine mv_ld hX (j := 1) (by decide) (by decide) rfl (by decide) (show _ < 11 by omega) dX4_beginTick_7 ?_
  rw [h.now]
  refine nv_iconst hX (m := 1) (by decide) dX4_beginTick_8 ?_
  first | refine nv_iadd hX dX4_beginTick_9 ?_ | refine rv_iadd hX dX4_beginTick_9 ?_
  refine mv_st hX (j := 1) (by decide) (by decide) rfl (by decide) (show _ < 11 by omega) dX4_beginTick_10 ?_
  refine nv_iconst hX (m := 0) (by decide) dX4_beginTick_11 ?_
  refine rv_istore_n hX dX4_beginTick_12 (rv_st_1 rfl) ?_
  refine rv_aload_n hX dX4_beginTick_13 rfl ?_
  refine mv_ga hX (k := 1) (j := 1) gX4_7_X4 (by decide) rfl (by decide) dX4_beginTick_14 ?_
  refine nv_iconst hX (m := 5) (by decide) dX4_beginTick_17 ?_
  refine mv_ld hX (j := 1) (by decide) (by decide) rfl (by decide) (show _ < 11 by omega) dX4_beginTick_18 ?_
  rw [rv_sU_2, if_neg (fun q => absurd q.2 (by decide)), h.tl.1]
  refine nv_iconst hX (m := 1) (by decide) dX4_beginTick_19 ?_
  first | refine nv_isub hX (by omega) dX4_beginTick_20 ?_ | refine rv_isub hX dX4_beginTick_20 ?_
  refine rv_istore_n hX dX4_beginTick_21 (rv_st_2 rfl) ?_
  have e9 : w.T.take w.T.length ++ ([] : List (Nat × Nat)) = w.T := by rw [List.take_length, List.append_nil]
  have hsu : rv_same [] [1] σ (rv_sU σ 1 9 (nI (w.now + 1))) := .u (by decide)
  rw [rv_pd_sub]
  have hh := loop w.T.length [] (rv_sU σ 1 9 (nI (w.now + 1))) (Nat.le_refl _) (by rw [List.drop_length]; rfl) (by rw [e9]; exact h.tl.same2 hsu (by rw [rv_sU_2, if_neg (fun q => absurd q.2 (by decide))]) (by decide)) (hsu.mn (by decide) (by decide)) (fun i hi => by
    rw [rv_sU_2]
    by_cases q : i = 9
    · rw [if_pos ⟨rfl, q⟩, if_pos q]
    · rw [if_neg (fun a => q a.2), if_neg q])
  rw [e9, Nat.sub_self] at hh
  exact hh
