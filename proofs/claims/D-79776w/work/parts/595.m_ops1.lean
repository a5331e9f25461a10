/-! THE REFERENCE: relations and facts -/
set_option maxRecDepth 100000
theorem mSt.th {σ : rv_S} {s : wS} {n : Nat} (h : mSt σ s) {r : Int32} (hn : n ≠ 0) : mRes (rv_sF σ 0 (nI n)) r (n, 0, s) := ⟨rfl, fun e => absurd e hn, h.thrown _⟩
theorem mSt.ok {σ : rv_S} {s : wS} {r : Int32} (h : mSt σ s) : mRes (rv_sF σ 0 (nI 0)) r (0, r, s) := ⟨rfl, fun _ => rfl, h.thrown _⟩
theorem m_goesWell0 {G : rv_G} (hG : rv_GK G) {d : Nat} {σ : rv_S} : mC G d yX4_goesWell wX4_goesWell [.int (nI 0)] σ (mPz (fun r τ => τ = rv_sF σ 0 (nI 0) ∧ r = true)) := mC_mono (m_goesWell hG (n := 0) (by decide)) (mPz_mono fun r τ h => ⟨h.1, h.2.trans (decide_eq_true rfl)⟩)
theorem m_goesWellN {G : rv_G} (hG : rv_GK G) {d : Nat} {σ : rv_S} {n : Nat} (hn : n < 10) (h0 : n ≠ 0) : mC G d yX4_goesWell wX4_goesWell [.int (nI n)] σ (mPz (fun r τ => τ = rv_sF σ 0 (nI n) ∧ r = false)) := mC_mono (m_goesWell hG hn) (mPz_mono fun r τ h => ⟨h.1, h.2.trans (decide_eq_false h0)⟩)
theorem m_relation {G : rv_G} (hG : rv_GK G) {d : Nat} (hd : 2 ≤ d) {σ : rv_S} {s : wS} (h : mSt σ s) {k : Int32} : mC G d yX4_relation wX4_relation [.int k] σ (mPi (fun r τ => mRes τ r (o_relation s k))) := by
  refine mv_start hG (by decide +kernel) (Nat.le_of_ble_eq_true rfl) (fun X Hb o hX1 hX hE => ?_)
  subst hX1
  show rv_V X (rv_mh Hb o _) 0 [some (.ref o), some (.int k)] []
  have hS := h.1.1.rel
  have hS8 := hS.2.1
  refine rv_aload_n hX dX4_relation_0 rfl ?_
  refine rv_iload_n hX dX4_relation_1 rfl ?_
  refine nv_iconst hX (m := 1) (by decide) dX4_relation_2 ?_
  refine nv_iconst hX (m := 3) (by decide) dX4_relation_3 ?_
  refine sv_callz hX iX4_135 mdX4_in (m_in hG (d := d - 1) (v := k)) (by omega) rfl rfl (Nat.le_of_ble_eq_true rfl) dX4_relation_4 (fun r_4 h_4 => ?_)
  have hk := h_4
  first | refine zv_if_ne hX 14 dX4_relation_7 (by decide) (fun c_7 => ?_) (fun c_7 => ?_) | refine nv_if_ne hX 14 (by omega) dX4_relation_7 (by decide) (fun c_7 => ?_) (fun c_7 => ?_) | refine rv_if_ne hX 14 dX4_relation_7 (by decide) (fun c_7 => ?_) (fun c_7 => ?_)
  · skip
    refine rv_aload_n hX dX4_relation_14 rfl ?_
    refine mv_ga hX (k := 1) (j := 1) gX4_7_X4 (by decide) rfl (by decide) dX4_relation_15 ?_
    refine nv_iconst hX (m := 0) (by decide) dX4_relation_18 ?_
    refine mv_ld hX (j := 1) (by decide) (by decide) rfl (by decide) (show _ < 11 by omega) dX4_relation_19 ?_
    rw [hS.1]
    refine nv_bipush hX (m := 8) (by decide) dX4_relation_20 ?_
    first | refine nv_icmp_ne hX 29 (by omega) (by omega) dX4_relation_22 (by decide) (fun c_22 => ?_) (fun c_22 => ?_) | refine rv_icmp_ne hX 29 dX4_relation_22 (by decide) (fun c_22 => ?_) (fun c_22 => ?_)
    · skip
      refine nv_iconst hX (m := 0) (by decide) dX4_relation_29 ?_
      refine mv_callz hX iX4_266 rfl mdX4_goesWell (m_goesWell0 hG (d := d - 1)) (by omega) rfl rfl (Nat.le_of_ble_eq_true rfl) dX4_relation_30 (fun r_30 τ_30 h_30 => ?_)
      obtain ⟨rfl, rfl⟩ := h_30
      refine rv_if_ne hX 38 dX4_relation_33 (by decide) (fun _ => ?_) (fun q => absurd q (by decide))
      have hlt : s.w.S.length < 8 := by omega
      obtain ⟨n, n1, n2, rfl, n3⟩ := w_rng_nat (by decide) (by decide) (hk.mp c_7)
      refine rv_aload_n hX dX4_relation_38 rfl ?_
      refine mv_ga hX (k := 2) (j := 2) gX4_13_X4 (by decide) rfl (by decide) dX4_relation_39 ?_
      refine rv_aload_n hX dX4_relation_42 rfl ?_
      refine mv_ga hX (k := 1) (j := 1) gX4_7_X4 (by decide) rfl (by decide) dX4_relation_43 ?_
      refine nv_iconst hX (m := 0) (by decide) dX4_relation_46 ?_
      refine mv_ld hX (j := 1) (by decide) (by decide) rfl (by decide) (show _ < 11 by omega) dX4_relation_47 ?_
      rw [show (rv_sF σ 0 (nI 0)).2.1 1 0 = nI s.w.S.length from hS.1]
      refine rv_iload_n hX dX4_relation_48 rfl ?_
      refine mv_st hX (j := 2) (by decide) (by decide) rfl (by decide) (show _ < 8 by omega) dX4_relation_49 ?_
      refine rv_aload_n hX dX4_relation_50 rfl ?_
      refine mv_ga hX (k := 1) (j := 1) gX4_7_X4 (by decide) rfl (by decide) dX4_relation_51 ?_
      refine nv_iconst hX (m := 0) (by decide) dX4_relation_54 ?_
      refine rv_dup2 hX dX4_relation_55 rfl rfl ?_
      refine mv_ld hX (j := 1) (by decide) (by decide) rfl (by decide) (show _ < 11 by omega) dX4_relation_56 ?_
      rw [show (rv_sU (rv_sF σ 0 (nI 0)) 2 s.w.S.length (nI n)).2.1 1 0 = nI s.w.S.length from by rw [rv_sU_2, if_neg (fun q => absurd q.1 (by decide))]; exact hS.1]
      refine nv_iconst hX (m := 1) (by decide) dX4_relation_57 ?_
      first | refine nv_iadd hX dX4_relation_58 ?_ | refine rv_iadd hX dX4_relation_58 ?_
      refine mv_st hX (j := 1) (by decide) (by decide) rfl (by decide) (show _ < 11 by omega) dX4_relation_59 ?_
      refine rv_aload_n hX dX4_relation_60 rfl ?_
      refine mv_ga hX (k := 1) (j := 1) gX4_7_X4 (by decide) rfl (by decide) dX4_relation_61 ?_
      refine nv_iconst hX (m := 0) (by decide) dX4_relation_64 ?_
      refine mv_ld hX (j := 1) (by decide) (by decide) rfl (by decide) (show _ < 11 by omega) dX4_relation_65 ?_
      rw [rv_sU_2, if_pos ⟨rfl, rfl⟩]
      refine nv_iconst hX (m := 1) (by decide) dX4_relation_66 ?_
      first | refine nv_isub hX (by omega) dX4_relation_67 ?_ | refine rv_isub hX dX4_relation_67 ?_
      refine mv_reti hX hE dX4_relation_68 ?_
      unfold o_relation
      rw [if_neg (fun q => q (hk.mp c_7)), if_neg (by omega), n3]
      refine ⟨rfl, fun _ => by rw [Nat.add_sub_cancel], ?_⟩
      have hs : rv_same [0] [1, 2] σ (rv_sU (rv_sU (rv_sF σ 0 (nI 0)) 2 s.w.S.length (nI n)) 1 0 (nI (s.w.S.length + 1))) := ((rv_same.f (by decide)).tr (.u (by decide))).tr (.u (by decide))
      have h1 : ∀ i, i ≠ 0 → (rv_sU (rv_sU (rv_sF σ 0 (nI 0)) 2 s.w.S.length (nI n)) 1 0 (nI (s.w.S.length + 1))).2.1 1 i = σ.2.1 1 i := fun i hi => by rw [rv_sU_2, if_neg (fun q => hi q.2), rv_sU_2, if_neg (fun q => absurd q.1 (by decide))]; rfl
      have h10 : (rv_sU (rv_sU (rv_sF σ 0 (nI 0)) 2 s.w.S.length (nI n)) 1 0 (nI (s.w.S.length + 1))).2.1 1 0 = nI (s.w.S.length + 1) := by rw [rv_sU_2, if_pos ⟨rfl, rfl⟩]
      have h2 : ∀ i, (rv_sU (rv_sU (rv_sF σ 0 (nI 0)) 2 s.w.S.length (nI n)) 1 0 (nI (s.w.S.length + 1))).2.1 2 i = if i = s.w.S.length then nI n else σ.2.1 2 i := fun i => by
        rw [rv_sU_2, if_neg (fun q => absurd q.1 (by decide)), rv_sU_2]
        by_cases q : i = s.w.S.length
        · rw [if_pos ⟨rfl, q⟩, if_pos q]
        · rw [if_neg (fun q2 => q q2.2), if_neg q]
          rfl
      generalize rv_sU (rv_sU (rv_sF σ 0 (nI 0)) 2 s.w.S.length (nI n)) 1 0 (nI (s.w.S.length + 1)) = τ at hs h1 h10 h2
      have hrel : mRel τ (s.w.S ++ [n]) := by
        refine ⟨by rw [h10, List.length_append]; rfl, by rw [List.length_append]; show s.w.S.length + 1 ≤ 8; omega, fun x hx => ?_, fun i x e => ?_⟩
        · rcases List.mem_append.mp hx with hx | hx
          · exact hS.2.2.1 x hx
          · rw [List.mem_singleton.mp hx]
            exact ⟨n1, n2⟩
        · rw [h2]
          by_cases q : i = s.w.S.length
          · rw [q, List.getElem?_append_right (Nat.le_refl _), Nat.sub_self] at e
            cases e
            rw [if_pos q]
          · have hi : i < s.w.S.length := by
              have := (List.getElem?_eq_some_iff.mp e).1
              rw [List.length_append] at this
              have : i < s.w.S.length + 1 := this
              omega
            rw [List.getElem?_append_left hi] at e
            rw [if_neg q]
            exact hS.2.2.2 i x e
      have hR := h.1.1.rules
      have hD := h.1.1.deeds
      obtain ⟨dep, hdp⟩ := h.2.2.2
      refine ⟨⟨⟨⟨hrel, by rw [h1 1 (by decide)]; exact hR.2.1, hR.2.2.1, fun i C e => ⟨(hR.2.2.2 i C e).1.same hs (by decide), (hR.2.2.2 i C e).2.app n⟩⟩, ⟨hrel, by rw [h1 2 (by decide)]; exact hD.2.1, hD.2.2.1, fun i C e => ⟨(hD.2.2.2 i C e).1.same hs (by decide), (hD.2.2.2 i C e).2.app n⟩⟩, by rw [h1 3 (by decide)]; exact h.1.1.nr, by rw [h1 4 (by decide)]; exact h.1.1.nd, h.1.1.tl.same2 hs (h1 5 (by decide)) (by decide), ⟨by rw [h1 6 (by decide)]; exact h.1.1.facts.1, h.1.1.facts.2.1, h.1.1.facts.2.2.1, fun k f e => by rw [hs.2.1 15 (by decide)]; exact h.1.1.facts.2.2.2 k f e⟩, h.1.1.tags.same hs (by decide), by rw [h1 7 (by decide)]; exact h.1.1.g, h.1.1.stk.same2 hs (h1 8 (by decide)) (by decide), by rw [h1 9 (by decide)]; exact h.1.1.now, by rw [h1 10 (by decide)]; exact h.1.1.fd⟩, h.1.2.same hs (by decide)⟩, ?_, h.2.2.1.same hs (by decide) (by decide), dep, hdp.same hs (by decide)⟩
      obtain ⟨a, b, c1, c2, c3, c4⟩ := h.2.1.same hs (by decide) (by decide)
      refine ⟨a, b, c1, c2, c3, fun hk => ?_⟩
      obtain ⟨d1, d2, d3⟩ := c4 hk
      exact ⟨d1, by show s.d.rel < (s.w.S ++ [n]).length; rw [List.length_append]; omega, d3⟩
    · skip
      refine nv_iconst hX (m := 2) (by decide) dX4_relation_25 ?_
      refine rv_goto hX 30 dX4_relation_26 (by decide) ?_
      refine mv_callz hX iX4_266 rfl mdX4_goesWell (m_goesWellN hG (by decide) (by decide) (d := d - 1)) (by omega) rfl rfl (Nat.le_of_ble_eq_true rfl) dX4_relation_30 (fun r_30 τ_30 h_30 => ?_)
      obtain ⟨rfl, rfl⟩ := h_30
      refine rv_if_ne hX 38 dX4_relation_33 (by decide) (fun q => absurd q (by decide)) (fun _ => ?_)
      refine nv_iconst hX (m := 0) (by decide) dX4_relation_36 ?_
      refine mv_reti hX hE dX4_relation_37 ?_
      unfold o_relation
      first
        | (have hkn : ¬ w_rng 1 3 k := fun q => by
             have := hk.mpr q
             rw [c_7] at this
             cases this
           rw [if_pos hkn]
           exact h.th (by decide))
        | (rw [if_neg (fun q => q (hk.mp c_7)), if_pos (by omega)]
           exact h.th (by decide))
  · skip
    refine nv_iconst hX (m := 1) (by decide) dX4_relation_10 ?_
    refine rv_goto hX 30 dX4_relation_11 (by decide) ?_
    refine mv_callz hX iX4_266 rfl mdX4_goesWell (m_goesWellN hG (by decide) (by decide) (d := d - 1)) (by omega) rfl rfl (Nat.le_of_ble_eq_true rfl) dX4_relation_30 (fun r_30 τ_30 h_30 => ?_)
    obtain ⟨rfl, rfl⟩ := h_30
    refine rv_if_ne hX 38 dX4_relation_33 (by decide) (fun q => absurd q (by decide)) (fun _ => ?_)
    refine nv_iconst hX (m := 0) (by decide) dX4_relation_36 ?_
    refine mv_reti hX hE dX4_relation_37 ?_
    unfold o_relation
    first
      | (have hkn : ¬ w_rng 1 3 k := fun q => by
           have := hk.mpr q
           rw [c_7] at this
           cases this
         rw [if_pos hkn]
         exact h.th (by decide))
      | (rw [if_neg (fun q => q (hk.mp c_7)), if_pos (by omega)]
         exact h.th (by decide))
theorem m_standing {G : rv_G} (hG : rv_GK G) {d : Nat} {σ : rv_S} {s : wS} (h : mSt σ s) : mC G d yX4_standing wX4_standing [] σ (mPi (fun r τ => mRes τ r (o_standing s))) := by
  refine mv_start hG (by decide +kernel) (Nat.le_of_ble_eq_true rfl) (fun X Hb o hX1 hX hE => ?_)
  subst hX1
  show rv_V X (rv_mh Hb o _) 0 [some (.ref o)] []
  refine rv_aload_n hX dX4_standing_0 rfl ?_
  refine nv_iconst hX (m := 0) (by decide) dX4_standing_1 ?_
  refine mv_pi hX (k := 0) pX4_131_X4 (by decide) rfl rfl rfl dX4_standing_2 ?_
  refine rv_aload_n hX dX4_standing_5 rfl ?_
  refine mv_ga hX (k := 1) (j := 1) gX4_7_X4 (by decide) rfl (by decide) dX4_standing_6 ?_
  refine nv_bipush hX (m := 6) (by decide) dX4_standing_9 ?_
  refine mv_ld hX (j := 1) (by decide) (by decide) rfl (by decide) (show _ < 11 by omega) dX4_standing_11 ?_
  refine mv_reti hX hE dX4_standing_12 ?_
  exact ⟨rfl, fun _ => h.1.1.facts.1, h.thrown _⟩
theorem m_standingAt {G : rv_G} (hG : rv_GK G) {d : Nat} (hd : 2 ≤ d) {σ : rv_S} {s : wS} (h : mSt σ s) {p : Int32} : mC G d yX4_standingAt wX4_standingAt [.int p] σ (mPi (fun r τ => mRes τ r (o_standingAt s p))) := by
  refine mv_start hG (by decide +kernel) (Nat.le_of_ble_eq_true rfl) (fun X Hb o hX1 hX hE => ?_)
  subst hX1
  show rv_V X (rv_mh Hb o _) 0 [some (.ref o), some (.int p)] []
  have hF := h.1.1.facts
  have hF6 := hF.2.1
  refine rv_aload_n hX dX4_standingAt_0 rfl ?_
  refine rv_iload_n hX dX4_standingAt_1 rfl ?_
  refine nv_iconst hX (m := 0) (by decide) dX4_standingAt_2 ?_
  refine rv_aload_n hX dX4_standingAt_3 rfl ?_
  refine mv_ga hX (k := 1) (j := 1) gX4_7_X4 (by decide) rfl (by decide) dX4_standingAt_4 ?_
  refine nv_bipush hX (m := 6) (by decide) dX4_standingAt_7 ?_
  refine mv_ld hX (j := 1) (by decide) (by decide) rfl (by decide) (show _ < 11 by omega) dX4_standingAt_9 ?_
  rw [hF.1]
  refine nv_iconst hX (m := 1) (by decide) dX4_standingAt_10 ?_
  refine rv_isub hX dX4_standingAt_11 ?_
  refine sv_callz hX iX4_135 mdX4_in (m_in hG (d := d - 1) (v := p)) (by omega) rfl rfl (Nat.le_of_ble_eq_true rfl) dX4_standingAt_12 (fun r_12 h_12 => ?_)
  have hk := h_12
  first | refine zv_if_eq hX 22 dX4_standingAt_15 (by decide) (fun c_15 => ?_) (fun c_15 => ?_) | refine nv_if_eq hX 22 (by omega) dX4_standingAt_15 (by decide) (fun c_15 => ?_) (fun c_15 => ?_) | refine rv_if_eq hX 22 dX4_standingAt_15 (by decide) (fun c_15 => ?_) (fun c_15 => ?_)
  · skip
    have hno : w_idx p s.w.F.length = none := w_idx_no (by omega) (fun q => by
      have := hk.mpr ((w_in_iff (by omega)).mpr q)
      rw [c_15] at this
      cases this)
    refine nv_iconst hX (m := 1) (by decide) dX4_standingAt_22 ?_
    refine mv_callz hX iX4_266 rfl mdX4_goesWell (m_goesWellN hG (by decide) (by decide) (d := d - 1)) (by omega) rfl rfl (Nat.le_of_ble_eq_true rfl) dX4_standingAt_23 (fun r_23 τ_23 h_23 => ?_)
    obtain ⟨rfl, rfl⟩ := h_23
    refine rv_if_eq hX 38 dX4_standingAt_26 (by decide) (fun _ => ?_) (fun q => absurd q (by decide))
    refine nv_iconst hX (m := 0) (by decide) dX4_standingAt_38 ?_
    refine mv_reti hX hE dX4_standingAt_39 ?_
    first
    | (unfold o_standingAt
       rw [hno]
       exact h.th (by decide))
    | (unfold o_standingAt
       rw [hyes]
       refine ⟨rfl, fun _ => ?_, h.thrown _⟩
       show (rv_sF σ 0 (nI 0)).2.1 15 k = nI (s.w.F.getD k 0)
       rw [sp_getD hf]
       exact hF.2.2.2 k f hf)
  · skip
    obtain ⟨k, hk1, rfl⟩ := (w_in_iff (by omega)).mp (hk.mp c_15)
    have hyes := w_idx_nI hk1 (by omega)
    obtain ⟨f, hf⟩ : ∃ f, s.w.F[k]? = some f := ⟨s.w.F[k], List.getElem?_eq_getElem hk1⟩
    refine nv_iconst hX (m := 0) (by decide) dX4_standingAt_18 ?_
    refine rv_goto hX 23 dX4_standingAt_19 (by decide) ?_
    refine mv_callz hX iX4_266 rfl mdX4_goesWell (m_goesWell0 hG (d := d - 1)) (by omega) rfl rfl (Nat.le_of_ble_eq_true rfl) dX4_standingAt_23 (fun r_23 τ_23 h_23 => ?_)
    obtain ⟨rfl, rfl⟩ := h_23
    refine rv_if_eq hX 38 dX4_standingAt_26 (by decide) (fun q => absurd q (by decide)) (fun _ => ?_)
    refine rv_aload_n hX dX4_standingAt_29 rfl ?_
    refine mv_ga hX (k := 15) (j := 15) gX4_52_X4 (by decide) rfl (by decide) dX4_standingAt_30 ?_
    refine rv_iload_n hX dX4_standingAt_33 rfl ?_
    refine mv_ld hX (j := 15) (by decide) (by decide) rfl (by decide) (show _ < 62 by omega) dX4_standingAt_34 ?_
    refine rv_goto hX 39 dX4_standingAt_35 (by decide) ?_
    refine mv_reti hX hE dX4_standingAt_39 ?_
    first
    | (unfold o_standingAt
       rw [hno]
       exact h.th (by decide))
    | (unfold o_standingAt
       rw [hyes]
       refine ⟨rfl, fun _ => ?_, h.thrown _⟩
       show (rv_sF σ 0 (nI 0)).2.1 15 k = nI (s.w.F.getD k 0)
       rw [sp_getD hf]
       exact hF.2.2.2 k f hf)
theorem m_standsByRounds {G : rv_G} (hG : rv_GK G) {d : Nat} (hd : 3 ≤ d) {σ : rv_S} {s : wS} (h : mSt σ s) {f : Int32} : mC G d yX4_standsByRounds wX4_standsByRounds [.int f] σ (mPz (fun r τ => mRes τ (rv_z r) (o_stands s f))) := by
  refine mv_start hG (by decide +kernel) (Nat.le_of_ble_eq_true rfl) (fun X Hb o hX1 hX hE => ?_)
  subst hX1
  show rv_V X (rv_mh Hb o _) 0 [some (.ref o), some (.int f)] []
  have hle := sp_fault_le s.w.S f
  refine rv_aload_n hX dX4_standsByRounds_0 rfl ?_
  refine rv_aload_n hX dX4_standsByRounds_1 rfl ?_
  refine rv_iload_n hX dX4_standsByRounds_2 rfl ?_
  refine mv_calli hX iX4_272 rfl mdX4_faultOf (m_faultOf hG (d := d - 1) (by omega) h.1.1.rel) (by omega) rfl rfl (Nat.le_of_ble_eq_true rfl) dX4_standsByRounds_3 (fun r_3 τ_3 h_3 => ?_)
  obtain ⟨rfl, rfl⟩ := h_3
  refine mv_callz hX iX4_266 rfl mdX4_goesWell (m_goesWell hG (d := d - 1) (n := sp_fault s.w.S f) (by omega)) (by omega) rfl rfl (Nat.le_of_ble_eq_true rfl) dX4_standsByRounds_6 (fun r_6 τ_6 h_6 => ?_)
  obtain ⟨rfl, hw⟩ := h_6
  first | refine zv_if_eq hX 25 dX4_standsByRounds_9 (by decide) (fun c_9 => ?_) (fun c_9 => ?_) | refine nv_if_eq hX 25 (by omega) dX4_standsByRounds_9 (by decide) (fun c_9 => ?_) (fun c_9 => ?_) | refine rv_if_eq hX 25 dX4_standsByRounds_9 (by decide) (fun c_9 => ?_) (fun c_9 => ?_)
  · skip
    have hne : sp_fault s.w.S f ≠ 0 := fun q => by rw [hw, q] at c_9; exact absurd c_9 (by decide)
    refine nv_iconst hX (m := 0) (by decide) dX4_standsByRounds_25 ?_
    refine mv_retz hX hE (b := false) rfl dX4_standsByRounds_26 ?_
    unfold o_stands
    first
      | (rw [if_pos hne]
         exact h.th hne)
      | (rw [if_neg (fun q => q h0), h0, nI_clamp (by omega)]
         rcases hix with ⟨i1, i2⟩ | ⟨k, i1, i2⟩
         · rw [decide_eq_false i1]
           first
             | exact h.ok
             | exact absurd i2 c_18
         · rw [decide_eq_true (List.mem_of_getElem? i1)]
           have hkl := (List.getElem?_eq_some_iff.mp i1).1
           have := hth.facts.2.1
           first
             | exact h.ok
             | (rw [i2] at c_18; exact absurd c_18 (nI_m1 (by omega))))
  · skip
    have h0 : sp_fault s.w.S f = 0 := by
      rw [hw] at c_9
      exact of_decide_eq_true c_9
    obtain ⟨n, n8, rfl, n3, n4⟩ := sp_fault_0 h.1.1.rel.2.1 h0
    have hth := (h.thrown (nI (sp_fault s.w.S (nI n)))).1.1
    refine rv_aload_n hX dX4_standsByRounds_12 rfl ?_
    refine rv_iload_n hX dX4_standsByRounds_13 rfl ?_
    refine mv_calli hX iX4_192 rfl mdX4_indexOf (m_indexOf hG (d := d - 1) hth.facts n8) (by omega) rfl rfl (Nat.le_of_ble_eq_true rfl) dX4_standsByRounds_14 (fun r_14 τ_14 h_14 => ?_)
    obtain ⟨rfl, hix⟩ := h_14
    refine rv_iconst hX (v := -1) dX4_standsByRounds_17 (by decide) ?_
    first | refine nv_icmp_eq hX 25 (by omega) (by omega) dX4_standsByRounds_18 (by decide) (fun c_18 => ?_) (fun c_18 => ?_) | refine rv_icmp_eq hX 25 dX4_standsByRounds_18 (by decide) (fun c_18 => ?_) (fun c_18 => ?_)
    · skip
      refine nv_iconst hX (m := 0) (by decide) dX4_standsByRounds_25 ?_
      refine mv_retz hX hE (b := false) rfl dX4_standsByRounds_26 ?_
      unfold o_stands
      first
        | (rw [if_pos hne]
           exact h.th hne)
        | (rw [if_neg (fun q => q h0), h0, nI_clamp (by omega)]
           rcases hix with ⟨i1, i2⟩ | ⟨k, i1, i2⟩
           · rw [decide_eq_false i1]
             first
               | exact h.ok
               | exact absurd i2 c_18
           · rw [decide_eq_true (List.mem_of_getElem? i1)]
             have hkl := (List.getElem?_eq_some_iff.mp i1).1
             have := hth.facts.2.1
             first
               | exact h.ok
               | (rw [i2] at c_18; exact absurd c_18 (nI_m1 (by omega))))
    · skip
      refine nv_iconst hX (m := 1) (by decide) dX4_standsByRounds_21 ?_
      refine rv_goto hX 26 dX4_standsByRounds_22 (by decide) ?_
      refine mv_retz hX hE (b := true) rfl dX4_standsByRounds_26 ?_
      unfold o_stands
      first
        | (rw [if_pos hne]
           exact h.th hne)
        | (rw [if_neg (fun q => q h0), h0, nI_clamp (by omega)]
           rcases hix with ⟨i1, i2⟩ | ⟨k, i1, i2⟩
           · rw [decide_eq_false i1]
             first
               | exact h.ok
               | exact absurd i2 c_18
           · rw [decide_eq_true (List.mem_of_getElem? i1)]
             have hkl := (List.getElem?_eq_some_iff.mp i1).1
             have := hth.facts.2.1
             first
               | exact h.ok
               | (rw [i2] at c_18; exact absurd c_18 (nI_m1 (by omega))))
theorem m_stands {G : rv_G} (hG : rv_GK G) {d : Nat} (hd : 4 ≤ d) {σ : rv_S} {s : wS} (h : mSt σ s) {f : Int32} : mC G d yX4_stands wX4_stands [.int f] σ (mPz (fun r τ => mRes τ (rv_z r) (o_stands s f))) := by
  refine mv_start hG (by decide +kernel) (Nat.le_of_ble_eq_true rfl) (fun X Hb o hX1 hX hE => ?_)
  subst hX1
  show rv_V X (rv_mh Hb o _) 0 [some (.ref o), some (.int f)] []
  refine rv_aload_n hX dX4_stands_0 rfl ?_
  refine rv_iload_n hX dX4_stands_1 rfl ?_
  refine mv_callz hX iX4_293 rfl mdX4_standsByRounds (m_standsByRounds hG (d := d - 1) (by omega) h) (by omega) rfl rfl (Nat.le_of_ble_eq_true rfl) dX4_stands_2 (fun r_2 τ_2 h_2 => ?_)
  have hr := h_2
  refine mv_retz hX hE rfl dX4_stands_5 ?_
  exact hr
theorem m_endOf {G : rv_G} (hG : rv_GK G) {d : Nat} (hd : 3 ≤ d) {σ : rv_S} {s : wS} (h : mSt σ s) (hnd : s.w.kT.Nodup) {f : Int32} : mC G d yX4_endOf wX4_endOf [.int f] σ (mPi (fun r τ => mRes τ r (o_endOf s f))) := by
  refine mv_start hG (by decide +kernel) (Nat.le_of_ble_eq_true rfl) (fun X Hb o hX1 hX hE => ?_)
  subst hX1
  show rv_V X (rv_mh Hb o _) 0 [some (.ref o), some (.int f), none] []
  have hle := sp_fault_le s.w.S f
  refine rv_aload_n hX dX4_endOf_0 rfl ?_
  refine rv_aload_n hX dX4_endOf_1 rfl ?_
  refine rv_iload_n hX dX4_endOf_2 rfl ?_
  refine mv_calli hX iX4_272 rfl mdX4_faultOf (m_faultOf hG (d := d - 1) (by omega) h.1.1.rel) (by omega) rfl rfl (Nat.le_of_ble_eq_true rfl) dX4_endOf_3 (fun r_3 τ_3 h_3 => ?_)
  obtain ⟨rfl, rfl⟩ := h_3
  refine mv_callz hX iX4_266 rfl mdX4_goesWell (m_goesWell hG (d := d - 1) (n := sp_fault s.w.S f) (by omega)) (by omega) rfl rfl (Nat.le_of_ble_eq_true rfl) dX4_endOf_6 (fun r_6 τ_6 h_6 => ?_)
  obtain ⟨rfl, hw⟩ := h_6
  first | refine zv_if_ne hX 14 dX4_endOf_9 (by decide) (fun c_9 => ?_) (fun c_9 => ?_) | refine nv_if_ne hX 14 (by omega) dX4_endOf_9 (by decide) (fun c_9 => ?_) (fun c_9 => ?_) | refine rv_if_ne hX 14 dX4_endOf_9 (by decide) (fun c_9 => ?_) (fun c_9 => ?_)
  · skip
    have h0 : sp_fault s.w.S f = 0 := by
      rw [hw] at c_9
      exact of_decide_eq_true c_9
    obtain ⟨n, n8, rfl, n3, n4⟩ := sp_fault_0 h.1.1.rel.2.1 h0
    have hth := (h.thrown (nI (sp_fault s.w.S (nI n)))).1.1
    refine rv_aload_n hX dX4_endOf_14 rfl ?_
    refine rv_iload_n hX dX4_endOf_15 rfl ?_
    refine mv_calli hX iX4_269 rfl mdX4_toldAt (m_toldAt hG (d := d - 1) hth.tl n8) (by omega) rfl rfl (Nat.le_of_ble_eq_true rfl) dX4_endOf_16 (fun r_16 τ_16 h_16 => ?_)
    obtain ⟨rfl, x, hx, rfl⟩ := h_16
    have hx' := hx.fn hnd
    have hxl := hx.mem.2
    have hT61 := hth.tl.2.1
    have hm1 := rv_oi_m1 (x := x) (fun a e => by have := hxl a e; omega)
    refine rv_istore_n hX dX4_endOf_19 (rv_st_2 rfl) ?_
    refine rv_iload_n hX dX4_endOf_20 rfl ?_
    refine rv_iconst hX (v := -1) dX4_endOf_21 (by decide) ?_
    first | refine nv_icmp_ne hX 29 (by omega) (by omega) dX4_endOf_22 (by decide) (fun c_22 => ?_) (fun c_22 => ?_) | refine rv_icmp_ne hX 29 dX4_endOf_22 (by decide) (fun c_22 => ?_) (fun c_22 => ?_)
    · skip
      obtain ⟨k, rfl⟩ : ∃ k, x = some k := by
        cases x with
        | none => exact absurd rfl c_22
        | some k => exact ⟨k, rfl⟩
      have hkl := hxl k rfl
      rw [show rv_oi (some k) = nI k from rfl]
      refine rv_aload_n hX dX4_endOf_29 rfl ?_
      refine mv_ga hX (k := 14) (j := 14) gX4_49_X4 (by decide) rfl (by decide) dX4_endOf_30 ?_
      refine rv_iload_n hX dX4_endOf_33 rfl ?_
      refine mv_ld hX (j := 14) (by decide) (by decide) rfl (by decide) (show _ < 62 by omega) dX4_endOf_34 ?_
      refine mv_reti hX hE dX4_endOf_35 ?_
      unfold o_endOf
      rw [if_neg (fun q => q h0), nI_clamp (by omega), ← hx', h0]
      first
        | (subst hxn
           exact h.ok)
        | (refine ⟨rfl, fun _ => ?_, h.thrown _⟩
           obtain ⟨p, hp⟩ : ∃ p, s.w.T[k]? = some p := ⟨s.w.T[k], List.getElem?_eq_getElem hkl⟩
           show _ = nI (s.w.T.getD k (0, 0)).2
           rw [show s.w.T.getD k (0, 0) = p from by rw [List.getD_eq_getElem?_getD, hp]; rfl]
           exact (hth.tl.2.2 k p hp).2.1)
    · skip
      have hxn := hm1.mp c_22
      refine rv_iconst hX (v := -1) dX4_endOf_25 (by decide) ?_
      refine rv_goto hX 35 dX4_endOf_26 (by decide) ?_
      refine mv_reti hX hE dX4_endOf_35 ?_
      unfold o_endOf
      rw [if_neg (fun q => q h0), nI_clamp (by omega), ← hx', h0]
      first
        | (subst hxn
           exact h.ok)
        | (refine ⟨rfl, fun _ => ?_, h.thrown _⟩
           obtain ⟨p, hp⟩ : ∃ p, s.w.T[k]? = some p := ⟨s.w.T[k], List.getElem?_eq_getElem hkl⟩
           show _ = nI (s.w.T.getD k (0, 0)).2
           rw [show s.w.T.getD k (0, 0) = p from by rw [List.getD_eq_getElem?_getD, hp]; rfl]
           exact (hth.tl.2.2 k p hp).2.1)
  · skip
    have hne : sp_fault s.w.S f ≠ 0 := fun q => by rw [hw, q] at c_9; exact absurd c_9 (by decide)
    refine nv_iconst hX (m := 0) (by decide) dX4_endOf_12 ?_
    refine mv_reti hX hE dX4_endOf_13 ?_
    unfold o_endOf
    rw [if_pos hne]
    exact h.th hne
theorem m_tag {G : rv_G} (hG : rv_GK G) {d : Nat} (hd : 3 ≤ d) {σ : rv_S} {s : wS} (h : mSt σ s) (hsr : sp_srt s.w.F) (hA : s.w.A.length = s.w.F.length) {f : Int32} : mC G d yX4_tag wX4_tag [.int f] σ (mPi (fun r τ => mRes τ r (o_tag s f))) := by
  refine mv_start hG (by decide +kernel) (Nat.le_of_ble_eq_true rfl) (fun X Hb o hX1 hX hE => ?_)
  subst hX1
  show rv_V X (rv_mh Hb o _) 0 [some (.ref o), some (.int f), none] []
  have hle := sp_fault_le s.w.S f
  refine rv_aload_n hX dX4_tag_0 rfl ?_
  refine rv_aload_n hX dX4_tag_1 rfl ?_
  refine rv_iload_n hX dX4_tag_2 rfl ?_
  refine mv_calli hX iX4_272 rfl mdX4_faultOf (m_faultOf hG (d := d - 1) (by omega) h.1.1.rel) (by omega) rfl rfl (Nat.le_of_ble_eq_true rfl) dX4_tag_3 (fun r_3 τ_3 h_3 => ?_)
  obtain ⟨rfl, rfl⟩ := h_3
  refine mv_callz hX iX4_266 rfl mdX4_goesWell (m_goesWell hG (d := d - 1) (n := sp_fault s.w.S f) (by omega)) (by omega) rfl rfl (Nat.le_of_ble_eq_true rfl) dX4_tag_6 (fun r_6 τ_6 h_6 => ?_)
  obtain ⟨rfl, hw⟩ := h_6
  first | refine zv_if_ne hX 14 dX4_tag_9 (by decide) (fun c_9 => ?_) (fun c_9 => ?_) | refine nv_if_ne hX 14 (by omega) dX4_tag_9 (by decide) (fun c_9 => ?_) (fun c_9 => ?_) | refine rv_if_ne hX 14 dX4_tag_9 (by decide) (fun c_9 => ?_) (fun c_9 => ?_)
  · skip
    have h0 : sp_fault s.w.S f = 0 := by
      rw [hw] at c_9
      exact of_decide_eq_true c_9
    obtain ⟨n, n8, rfl, n3, n4⟩ := sp_fault_0 h.1.1.rel.2.1 h0
    have hth := (h.thrown (nI (sp_fault s.w.S (nI n)))).1.1
    refine rv_aload_n hX dX4_tag_14 rfl ?_
    refine rv_iload_n hX dX4_tag_15 rfl ?_
    refine mv_calli hX iX4_192 rfl mdX4_indexOf (m_indexOf hG (d := d - 1) hth.facts n8) (by omega) rfl rfl (Nat.le_of_ble_eq_true rfl) dX4_tag_16 (fun r_16 τ_16 h_16 => ?_)
    obtain ⟨rfl, hix⟩ := h_16
    obtain ⟨x, hx1, hx2, hx3⟩ : ∃ x, sp_ix s.w.F n = x ∧ r_16 = rv_oi x ∧ ∀ a, x = some a → a < s.w.F.length := by
      rcases hix with ⟨i1, i2⟩ | ⟨k, i1, i2⟩
      · exact ⟨none, sp_ix_none i1, i2, fun a e => by cases e⟩
      · exact ⟨some k, sp_ix_some hsr i1, i2, fun a e => by cases e; exact (List.getElem?_eq_some_iff.mp i1).1⟩
    subst hx2
    have hF61 := hth.facts.2.1
    have hm1 := rv_oi_m1 (x := x) (fun a e => by have := hx3 a e; omega)
    refine rv_istore_n hX dX4_tag_19 (rv_st_2 rfl) ?_
    refine rv_iload_n hX dX4_tag_20 rfl ?_
    refine rv_iconst hX (v := -1) dX4_tag_21 (by decide) ?_
    first | refine nv_icmp_ne hX 29 (by omega) (by omega) dX4_tag_22 (by decide) (fun c_22 => ?_) (fun c_22 => ?_) | refine rv_icmp_ne hX 29 dX4_tag_22 (by decide) (fun c_22 => ?_) (fun c_22 => ?_)
    · skip
      obtain ⟨k, rfl⟩ : ∃ k, x = some k := by
        cases x with
        | none => exact absurd rfl c_22
        | some k => exact ⟨k, rfl⟩
      have hkl := hx3 k rfl
      rw [show rv_oi (some k) = nI k from rfl]
      refine rv_aload_n hX dX4_tag_29 rfl ?_
      refine mv_ga hX (k := 16) (j := 16) gX4_55_X4 (by decide) rfl (by decide) dX4_tag_30 ?_
      refine rv_iload_n hX dX4_tag_33 rfl ?_
      refine mv_ld hX (j := 16) (by decide) (by decide) rfl (by decide) (show _ < 62 by omega) dX4_tag_34 ?_
      refine mv_reti hX hE dX4_tag_35 ?_
      unfold o_tag
      rw [if_neg (fun q => q h0), nI_clamp (by omega), hx1, h0]
      first
        | (subst hxn
           exact h.ok)
        | (refine ⟨rfl, fun _ => ?_, h.thrown _⟩
           obtain ⟨p, hp⟩ : ∃ p, s.w.A[k]? = some p := ⟨s.w.A[k]'(by omega), List.getElem?_eq_getElem (by omega)⟩
           show _ = nI (s.w.A.getD k 0)
           rw [sp_getD hp]
           exact hth.tags k p hp)
    · skip
      have hxn := hm1.mp c_22
      refine rv_iconst hX (v := -1) dX4_tag_25 (by decide) ?_
      refine rv_goto hX 35 dX4_tag_26 (by decide) ?_
      refine mv_reti hX hE dX4_tag_35 ?_
      unfold o_tag
      rw [if_neg (fun q => q h0), nI_clamp (by omega), hx1, h0]
      first
        | (subst hxn
           exact h.ok)
        | (refine ⟨rfl, fun _ => ?_, h.thrown _⟩
           obtain ⟨p, hp⟩ : ∃ p, s.w.A[k]? = some p := ⟨s.w.A[k]'(by omega), List.getElem?_eq_getElem (by omega)⟩
           show _ = nI (s.w.A.getD k 0)
           rw [sp_getD hp]
           exact hth.tags k p hp)
  · skip
    have hne : sp_fault s.w.S f ≠ 0 := fun q => by rw [hw, q] at c_9; exact absurd c_9 (by decide)
    refine nv_iconst hX (m := 0) (by decide) dX4_tag_12 ?_
    refine mv_reti hX hE dX4_tag_13 ?_
    unfold o_tag
    rw [if_pos hne]
    exact h.th hne
