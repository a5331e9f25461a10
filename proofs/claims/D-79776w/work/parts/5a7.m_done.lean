/-! THE REFERENCE: a draft is done -/
set_option maxRecDepth 100000
theorem wDr.ready_spec {s : wS} : wDr.ready s = true ↔ s.d.k ≠ 0 ∧ s.d.its ≠ [] ∧ s.d.lacks s.w.S = false ∧ (s.d.k = 1 ∨ 0 < s.d.nat) ∧ s.d.sound = true ∧ (s.d.k = 1 → s.w.R.length < 10) ∧ (s.d.k ≠ 1 → s.w.D.length < 6) := by
  unfold wDr.ready
  by_cases q : s.d.k = 1
  · rw [if_pos q]
    simp [q]
  · rw [if_neg q]
    simp [q]
theorem m_done {G : rv_G} (hG : rv_GK G) {d : Nat} (hd : 10 ≤ d) {σ : rv_S} {s : wS} {N : Nat} (hN : N < 24) (h : mSt σ s) (hwf : wfW N s.w) (hw : wfD s.w.S s.d) : mC G d yX4_done wX4_done [] σ (mPi (fun r τ => mRes τ r (o_done s))) := by
  refine mv_start hG (by decide +kernel) (Nat.le_of_ble_eq_true rfl) (fun X Hb o hX1 hX hE => ?_)
  subst hX1
  show rv_V X (rv_mh Hb o _) 0 [some (.ref o), none, none] []
  have hk2 := h.2.1.2.1
  have hb6 := hwf.b6
  have hS3 := hwf.S.2
  have hR10 := hwf.R.1
  have hD6 := hwf.D.1
  have hnr := hwf.R.2.2.2
  have hnd := hwf.D.2.2.2
  have hnat : s.d.nat = (s.d.its.filter (fun it => it.1 == 0)).length := rfl
  refine rv_aload_n hX dX4_done_0 rfl ?_
  refine mv_gi hX (k := 23) gX4_302_X4 (by decide) rfl dX4_done_1 ?_
  rw [h.2.1.1]
  first | refine nv_if_le hX 52 (by omega) dX4_done_4 (by decide) (fun c_4 => ?_) (fun c_4 => ?_) | refine rv_if_le hX 52 dX4_done_4 (by decide) (fun c_4 => ?_) (fun c_4 => ?_)
  · skip
    refine nv_iconst hX (m := 0) (by decide) dX4_done_52 ?_
    refine rv_istore_n hX dX4_done_53 (rv_st_1 rfl) ?_
    refine rv_aload_n hX dX4_done_54 rfl ?_
    refine mv_gi hX (k := 23) gX4_302_X4 (by decide) rfl dX4_done_55 ?_
    rw [h.2.1.1]
    refine nv_iconst hX (m := 1) (by decide) dX4_done_58 ?_
    first | refine nv_icmp_ne hX 81 (by omega) (by omega) dX4_done_59 (by decide) (fun c_59 => ?_) (fun c_59 => ?_) | refine rv_icmp_ne hX 81 dX4_done_59 (by decide) (fun c_59 => ?_) (fun c_59 => ?_)
    · skip
      refine rv_aload_n hX dX4_done_81 rfl ?_
      refine mv_ga hX (k := 1) (j := 1) gX4_7_X4 (by decide) rfl (by decide) dX4_done_82 ?_
      refine nv_iconst hX (m := 2) (by decide) dX4_done_85 ?_
      refine mv_ld hX (j := 1) (by decide) (by decide) rfl (by decide) (show _ < 11 by omega) dX4_done_86 ?_
      rw [h.1.1.deeds.2.1]
      refine nv_bipush hX (m := 6) (by decide) dX4_done_87 ?_
      first | refine nv_icmp_ge hX 96 (by omega) (by omega) dX4_done_89 (by decide) (fun c_89 => ?_) (fun c_89 => ?_) | refine rv_icmp_ge hX 96 dX4_done_89 (by decide) (fun c_89 => ?_) (fun c_89 => ?_)
      · skip
        refine nv_iconst hX (m := 0) (by decide) dX4_done_96 ?_
        refine rv_istore_n hX dX4_done_97 (rv_st_2 rfl) ?_
        refine rv_aload_n hX dX4_done_98 rfl ?_
        refine rv_iload_n hX dX4_done_99 rfl ?_
        refine rv_if_eq hX 111 dX4_done_100 (by decide) (fun _ => ?_) (fun q => absurd q (by decide))
        refine nv_iconst hX (m := 1) (by decide) dX4_done_111 ?_
        refine mv_callz hX iX4_266 rfl mdX4_goesWell (m_goesWellN hG (by decide) (by decide) (d := d - 1)) (by omega) rfl rfl (Nat.le_of_ble_eq_true rfl) dX4_done_112 (fun r_112 τ_112 h_112 => ?_)
        obtain ⟨rfl, rfl⟩ := h_112
        refine rv_if_ne hX 120 dX4_done_115 (by decide) (fun q => absurd q (by decide)) (fun _ => ?_)
        refine nv_iconst hX (m := 0) (by decide) dX4_done_118 ?_
        refine mv_reti hX hE dX4_done_119 ?_
        have hno : wDr.ready s = false := by
          cases e : wDr.ready s with
          | false => rfl
          | true =>
            obtain ⟨a1, a2, a3, a4, a5, a6, a7⟩ := wDr.ready_spec.mp e
            exfalso
            first
              | omega
              | exact absurd ((hl.trans a3).symm.trans c_11) (by decide)
              | exact a2 (List.eq_nil_of_length_eq_zero (by omega))
              | exact absurd ((hs.trans a5).symm.trans c_45) (by decide)
        unfold o_done
        rw [if_pos hno]
        exact h.th (by decide)
      · skip
        refine nv_iconst hX (m := 1) (by decide) dX4_done_92 ?_
        refine rv_goto hX 97 dX4_done_93 (by decide) ?_
        refine rv_istore_n hX dX4_done_97 (rv_st_2 rfl) ?_
        refine rv_aload_n hX dX4_done_98 rfl ?_
        refine rv_iload_n hX dX4_done_99 rfl ?_
        refine rv_if_eq hX 111 dX4_done_100 (by decide) (fun _ => ?_) (fun q => absurd q (by decide))
        refine nv_iconst hX (m := 1) (by decide) dX4_done_111 ?_
        refine mv_callz hX iX4_266 rfl mdX4_goesWell (m_goesWellN hG (by decide) (by decide) (d := d - 1)) (by omega) rfl rfl (Nat.le_of_ble_eq_true rfl) dX4_done_112 (fun r_112 τ_112 h_112 => ?_)
        obtain ⟨rfl, rfl⟩ := h_112
        refine rv_if_ne hX 120 dX4_done_115 (by decide) (fun q => absurd q (by decide)) (fun _ => ?_)
        refine nv_iconst hX (m := 0) (by decide) dX4_done_118 ?_
        refine mv_reti hX hE dX4_done_119 ?_
        have hno : wDr.ready s = false := by
          cases e : wDr.ready s with
          | false => rfl
          | true =>
            obtain ⟨a1, a2, a3, a4, a5, a6, a7⟩ := wDr.ready_spec.mp e
            exfalso
            first
              | omega
              | exact absurd ((hl.trans a3).symm.trans c_11) (by decide)
              | exact a2 (List.eq_nil_of_length_eq_zero (by omega))
              | exact absurd ((hs.trans a5).symm.trans c_45) (by decide)
        unfold o_done
        rw [if_pos hno]
        exact h.th (by decide)
    · skip
      refine rv_aload_n hX dX4_done_62 rfl ?_
      refine mv_ga hX (k := 1) (j := 1) gX4_7_X4 (by decide) rfl (by decide) dX4_done_63 ?_
      refine nv_iconst hX (m := 1) (by decide) dX4_done_66 ?_
      refine mv_ld hX (j := 1) (by decide) (by decide) rfl (by decide) (show _ < 11 by omega) dX4_done_67 ?_
      rw [h.1.1.rules.2.1]
      refine nv_bipush hX (m := 10) (by decide) dX4_done_68 ?_
      first | refine nv_icmp_ge hX 77 (by omega) (by omega) dX4_done_70 (by decide) (fun c_70 => ?_) (fun c_70 => ?_) | refine rv_icmp_ge hX 77 dX4_done_70 (by decide) (fun c_70 => ?_) (fun c_70 => ?_)
      · skip
        refine nv_iconst hX (m := 0) (by decide) dX4_done_77 ?_
        refine rv_goto hX 97 dX4_done_78 (by decide) ?_
        refine rv_istore_n hX dX4_done_97 (rv_st_2 rfl) ?_
        refine rv_aload_n hX dX4_done_98 rfl ?_
        refine rv_iload_n hX dX4_done_99 rfl ?_
        refine rv_if_eq hX 111 dX4_done_100 (by decide) (fun _ => ?_) (fun q => absurd q (by decide))
        refine nv_iconst hX (m := 1) (by decide) dX4_done_111 ?_
        refine mv_callz hX iX4_266 rfl mdX4_goesWell (m_goesWellN hG (by decide) (by decide) (d := d - 1)) (by omega) rfl rfl (Nat.le_of_ble_eq_true rfl) dX4_done_112 (fun r_112 τ_112 h_112 => ?_)
        obtain ⟨rfl, rfl⟩ := h_112
        refine rv_if_ne hX 120 dX4_done_115 (by decide) (fun q => absurd q (by decide)) (fun _ => ?_)
        refine nv_iconst hX (m := 0) (by decide) dX4_done_118 ?_
        refine mv_reti hX hE dX4_done_119 ?_
        have hno : wDr.ready s = false := by
          cases e : wDr.ready s with
          | false => rfl
          | true =>
            obtain ⟨a1, a2, a3, a4, a5, a6, a7⟩ := wDr.ready_spec.mp e
            exfalso
            first
              | omega
              | exact absurd ((hl.trans a3).symm.trans c_11) (by decide)
              | exact a2 (List.eq_nil_of_length_eq_zero (by omega))
              | exact absurd ((hs.trans a5).symm.trans c_45) (by decide)
        unfold o_done
        rw [if_pos hno]
        exact h.th (by decide)
      · skip
        refine nv_iconst hX (m := 1) (by decide) dX4_done_73 ?_
        refine rv_goto hX 97 dX4_done_74 (by decide) ?_
        refine rv_istore_n hX dX4_done_97 (rv_st_2 rfl) ?_
        refine rv_aload_n hX dX4_done_98 rfl ?_
        refine rv_iload_n hX dX4_done_99 rfl ?_
        refine rv_if_eq hX 111 dX4_done_100 (by decide) (fun _ => ?_) (fun q => absurd q (by decide))
        refine nv_iconst hX (m := 1) (by decide) dX4_done_111 ?_
        refine mv_callz hX iX4_266 rfl mdX4_goesWell (m_goesWellN hG (by decide) (by decide) (d := d - 1)) (by omega) rfl rfl (Nat.le_of_ble_eq_true rfl) dX4_done_112 (fun r_112 τ_112 h_112 => ?_)
        obtain ⟨rfl, rfl⟩ := h_112
        refine rv_if_ne hX 120 dX4_done_115 (by decide) (fun q => absurd q (by decide)) (fun _ => ?_)
        refine nv_iconst hX (m := 0) (by decide) dX4_done_118 ?_
        refine mv_reti hX hE dX4_done_119 ?_
        have hno : wDr.ready s = false := by
          cases e : wDr.ready s with
          | false => rfl
          | true =>
            obtain ⟨a1, a2, a3, a4, a5, a6, a7⟩ := wDr.ready_spec.mp e
            exfalso
            first
              | omega
              | exact absurd ((hl.trans a3).symm.trans c_11) (by decide)
              | exact a2 (List.eq_nil_of_length_eq_zero (by omega))
              | exact absurd ((hs.trans a5).symm.trans c_45) (by decide)
        unfold o_done
        rw [if_pos hno]
        exact h.th (by decide)
  · skip
    refine rv_aload_n hX dX4_done_7 rfl ?_
    refine mv_callz hX iX4_308 rfl mdX4_lacksTerm (m_lacksTerm hG (d := d - 1) (by omega) h.1.1.rel h.2.1 hw (by omega)) (by omega) rfl rfl (Nat.le_of_ble_eq_true rfl) dX4_done_8 (fun r_8 τ_8 h_8 => ?_)
    obtain ⟨rfl, hl⟩ := h_8
    first | refine zv_if_ne hX 52 dX4_done_11 (by decide) (fun c_11 => ?_) (fun c_11 => ?_) | refine nv_if_ne hX 52 (by omega) dX4_done_11 (by decide) (fun c_11 => ?_) (fun c_11 => ?_) | refine rv_if_ne hX 52 dX4_done_11 (by decide) (fun c_11 => ?_) (fun c_11 => ?_)
    · skip
      refine nv_iconst hX (m := 0) (by decide) dX4_done_52 ?_
      refine rv_istore_n hX dX4_done_53 (rv_st_1 rfl) ?_
      refine rv_aload_n hX dX4_done_54 rfl ?_
      refine mv_gi hX (k := 23) gX4_302_X4 (by decide) rfl dX4_done_55 ?_
      rw [h.2.1.1]
      refine nv_iconst hX (m := 1) (by decide) dX4_done_58 ?_
      first | refine nv_icmp_ne hX 81 (by omega) (by omega) dX4_done_59 (by decide) (fun c_59 => ?_) (fun c_59 => ?_) | refine rv_icmp_ne hX 81 dX4_done_59 (by decide) (fun c_59 => ?_) (fun c_59 => ?_)
      · skip
        refine rv_aload_n hX dX4_done_81 rfl ?_
        refine mv_ga hX (k := 1) (j := 1) gX4_7_X4 (by decide) rfl (by decide) dX4_done_82 ?_
        refine nv_iconst hX (m := 2) (by decide) dX4_done_85 ?_
        refine mv_ld hX (j := 1) (by decide) (by decide) rfl (by decide) (show _ < 11 by omega) dX4_done_86 ?_
        rw [h.1.1.deeds.2.1]
        refine nv_bipush hX (m := 6) (by decide) dX4_done_87 ?_
        first | refine nv_icmp_ge hX 96 (by omega) (by omega) dX4_done_89 (by decide) (fun c_89 => ?_) (fun c_89 => ?_) | refine rv_icmp_ge hX 96 dX4_done_89 (by decide) (fun c_89 => ?_) (fun c_89 => ?_)
        · skip
          refine nv_iconst hX (m := 0) (by decide) dX4_done_96 ?_
          refine rv_istore_n hX dX4_done_97 (rv_st_2 rfl) ?_
          refine rv_aload_n hX dX4_done_98 rfl ?_
          refine rv_iload_n hX dX4_done_99 rfl ?_
          refine rv_if_eq hX 111 dX4_done_100 (by decide) (fun _ => ?_) (fun q => absurd q (by decide))
          refine nv_iconst hX (m := 1) (by decide) dX4_done_111 ?_
          refine mv_callz hX iX4_266 rfl mdX4_goesWell (m_goesWellN hG (by decide) (by decide) (d := d - 1)) (by omega) rfl rfl (Nat.le_of_ble_eq_true rfl) dX4_done_112 (fun r_112 τ_112 h_112 => ?_)
          obtain ⟨rfl, rfl⟩ := h_112
          refine rv_if_ne hX 120 dX4_done_115 (by decide) (fun q => absurd q (by decide)) (fun _ => ?_)
          refine nv_iconst hX (m := 0) (by decide) dX4_done_118 ?_
          refine mv_reti hX hE dX4_done_119 ?_
          have hno : wDr.ready s = false := by
            cases e : wDr.ready s with
            | false => rfl
            | true =>
              obtain ⟨a1, a2, a3, a4, a5, a6, a7⟩ := wDr.ready_spec.mp e
              exfalso
              first
                | omega
                | exact absurd ((hl.trans a3).symm.trans c_11) (by decide)
                | exact a2 (List.eq_nil_of_length_eq_zero (by omega))
                | exact absurd ((hs.trans a5).symm.trans c_45) (by decide)
          unfold o_done
          rw [if_pos hno]
          exact h.th (by decide)
        · skip
          refine nv_iconst hX (m := 1) (by decide) dX4_done_92 ?_
          refine rv_goto hX 97 dX4_done_93 (by decide) ?_
          refine rv_istore_n hX dX4_done_97 (rv_st_2 rfl) ?_
          refine rv_aload_n hX dX4_done_98 rfl ?_
          refine rv_iload_n hX dX4_done_99 rfl ?_
          refine rv_if_eq hX 111 dX4_done_100 (by decide) (fun _ => ?_) (fun q => absurd q (by decide))
          refine nv_iconst hX (m := 1) (by decide) dX4_done_111 ?_
          refine mv_callz hX iX4_266 rfl mdX4_goesWell (m_goesWellN hG (by decide) (by decide) (d := d - 1)) (by omega) rfl rfl (Nat.le_of_ble_eq_true rfl) dX4_done_112 (fun r_112 τ_112 h_112 => ?_)
          obtain ⟨rfl, rfl⟩ := h_112
          refine rv_if_ne hX 120 dX4_done_115 (by decide) (fun q => absurd q (by decide)) (fun _ => ?_)
          refine nv_iconst hX (m := 0) (by decide) dX4_done_118 ?_
          refine mv_reti hX hE dX4_done_119 ?_
          have hno : wDr.ready s = false := by
            cases e : wDr.ready s with
            | false => rfl
            | true =>
              obtain ⟨a1, a2, a3, a4, a5, a6, a7⟩ := wDr.ready_spec.mp e
              exfalso
              first
                | omega
                | exact absurd ((hl.trans a3).symm.trans c_11) (by decide)
                | exact a2 (List.eq_nil_of_length_eq_zero (by omega))
                | exact absurd ((hs.trans a5).symm.trans c_45) (by decide)
          unfold o_done
          rw [if_pos hno]
          exact h.th (by decide)
      · skip
        refine rv_aload_n hX dX4_done_62 rfl ?_
        refine mv_ga hX (k := 1) (j := 1) gX4_7_X4 (by decide) rfl (by decide) dX4_done_63 ?_
        refine nv_iconst hX (m := 1) (by decide) dX4_done_66 ?_
        refine mv_ld hX (j := 1) (by decide) (by decide) rfl (by decide) (show _ < 11 by omega) dX4_done_67 ?_
        rw [h.1.1.rules.2.1]
        refine nv_bipush hX (m := 10) (by decide) dX4_done_68 ?_
        first | refine nv_icmp_ge hX 77 (by omega) (by omega) dX4_done_70 (by decide) (fun c_70 => ?_) (fun c_70 => ?_) | refine rv_icmp_ge hX 77 dX4_done_70 (by decide) (fun c_70 => ?_) (fun c_70 => ?_)
        · skip
          refine nv_iconst hX (m := 0) (by decide) dX4_done_77 ?_
          refine rv_goto hX 97 dX4_done_78 (by decide) ?_
          refine rv_istore_n hX dX4_done_97 (rv_st_2 rfl) ?_
          refine rv_aload_n hX dX4_done_98 rfl ?_
          refine rv_iload_n hX dX4_done_99 rfl ?_
          refine rv_if_eq hX 111 dX4_done_100 (by decide) (fun _ => ?_) (fun q => absurd q (by decide))
          refine nv_iconst hX (m := 1) (by decide) dX4_done_111 ?_
          refine mv_callz hX iX4_266 rfl mdX4_goesWell (m_goesWellN hG (by decide) (by decide) (d := d - 1)) (by omega) rfl rfl (Nat.le_of_ble_eq_true rfl) dX4_done_112 (fun r_112 τ_112 h_112 => ?_)
          obtain ⟨rfl, rfl⟩ := h_112
          refine rv_if_ne hX 120 dX4_done_115 (by decide) (fun q => absurd q (by decide)) (fun _ => ?_)
          refine nv_iconst hX (m := 0) (by decide) dX4_done_118 ?_
          refine mv_reti hX hE dX4_done_119 ?_
          have hno : wDr.ready s = false := by
            cases e : wDr.ready s with
            | false => rfl
            | true =>
              obtain ⟨a1, a2, a3, a4, a5, a6, a7⟩ := wDr.ready_spec.mp e
              exfalso
              first
                | omega
                | exact absurd ((hl.trans a3).symm.trans c_11) (by decide)
                | exact a2 (List.eq_nil_of_length_eq_zero (by omega))
                | exact absurd ((hs.trans a5).symm.trans c_45) (by decide)
          unfold o_done
          rw [if_pos hno]
          exact h.th (by decide)
        · skip
          refine nv_iconst hX (m := 1) (by decide) dX4_done_73 ?_
          refine rv_goto hX 97 dX4_done_74 (by decide) ?_
          refine rv_istore_n hX dX4_done_97 (rv_st_2 rfl) ?_
          refine rv_aload_n hX dX4_done_98 rfl ?_
          refine rv_iload_n hX dX4_done_99 rfl ?_
          refine rv_if_eq hX 111 dX4_done_100 (by decide) (fun _ => ?_) (fun q => absurd q (by decide))
          refine nv_iconst hX (m := 1) (by decide) dX4_done_111 ?_
          refine mv_callz hX iX4_266 rfl mdX4_goesWell (m_goesWellN hG (by decide) (by decide) (d := d - 1)) (by omega) rfl rfl (Nat.le_of_ble_eq_true rfl) dX4_done_112 (fun r_112 τ_112 h_112 => ?_)
          obtain ⟨rfl, rfl⟩ := h_112
          refine rv_if_ne hX 120 dX4_done_115 (by decide) (fun q => absurd q (by decide)) (fun _ => ?_)
          refine nv_iconst hX (m := 0) (by decide) dX4_done_118 ?_
          refine mv_reti hX hE dX4_done_119 ?_
          have hno : wDr.ready s = false := by
            cases e : wDr.ready s with
            | false => rfl
            | true =>
              obtain ⟨a1, a2, a3, a4, a5, a6, a7⟩ := wDr.ready_spec.mp e
              exfalso
              first
                | omega
                | exact absurd ((hl.trans a3).symm.trans c_11) (by decide)
                | exact a2 (List.eq_nil_of_length_eq_zero (by omega))
                | exact absurd ((hs.trans a5).symm.trans c_45) (by decide)
          unfold o_done
          rw [if_pos hno]
          exact h.th (by decide)
    · skip
      obtain ⟨d1, d2, d3, d4, d5, d6, d7⟩ := h.2.1.2.2.2.2.2 (show s.d.k ≠ 0 by omega)
      have hw8 := (hw.2.2.2 (show s.d.k ≠ 0 by omega)).2.2.2.2.2.2.2.1
      have hat : (s.d.its.filter (fun it => it.1 == 0)).length ≤ 6 := Nat.le_trans (List.length_filter_le _ _) d4
      refine rv_aload_n hX dX4_done_14 rfl ?_
      refine mv_ga hX (k := 6) (j := 6) gX4_25_X4 (by decide) rfl (by decide) dX4_done_15 ?_
      refine nv_bipush hX (m := 16) (by decide) dX4_done_18 ?_
      refine mv_ld hX (j := 6) (by decide) (by decide) rfl (by decide) (show _ < 17 by omega) dX4_done_20 ?_
      rw [d3]
      first | refine nv_if_le hX 52 (by omega) dX4_done_21 (by decide) (fun c_21 => ?_) (fun c_21 => ?_) | refine rv_if_le hX 52 dX4_done_21 (by decide) (fun c_21 => ?_) (fun c_21 => ?_)
      · skip
        refine nv_iconst hX (m := 0) (by decide) dX4_done_52 ?_
        refine rv_istore_n hX dX4_done_53 (rv_st_1 rfl) ?_
        refine rv_aload_n hX dX4_done_54 rfl ?_
        refine mv_gi hX (k := 23) gX4_302_X4 (by decide) rfl dX4_done_55 ?_
        rw [h.2.1.1]
        refine nv_iconst hX (m := 1) (by decide) dX4_done_58 ?_
        first | refine nv_icmp_ne hX 81 (by omega) (by omega) dX4_done_59 (by decide) (fun c_59 => ?_) (fun c_59 => ?_) | refine rv_icmp_ne hX 81 dX4_done_59 (by decide) (fun c_59 => ?_) (fun c_59 => ?_)
        · skip
          refine rv_aload_n hX dX4_done_81 rfl ?_
          refine mv_ga hX (k := 1) (j := 1) gX4_7_X4 (by decide) rfl (by decide) dX4_done_82 ?_
          refine nv_iconst hX (m := 2) (by decide) dX4_done_85 ?_
          refine mv_ld hX (j := 1) (by decide) (by decide) rfl (by decide) (show _ < 11 by omega) dX4_done_86 ?_
          rw [h.1.1.deeds.2.1]
          refine nv_bipush hX (m := 6) (by decide) dX4_done_87 ?_
          first | refine nv_icmp_ge hX 96 (by omega) (by omega) dX4_done_89 (by decide) (fun c_89 => ?_) (fun c_89 => ?_) | refine rv_icmp_ge hX 96 dX4_done_89 (by decide) (fun c_89 => ?_) (fun c_89 => ?_)
          · skip
            refine nv_iconst hX (m := 0) (by decide) dX4_done_96 ?_
            refine rv_istore_n hX dX4_done_97 (rv_st_2 rfl) ?_
            refine rv_aload_n hX dX4_done_98 rfl ?_
            refine rv_iload_n hX dX4_done_99 rfl ?_
            refine rv_if_eq hX 111 dX4_done_100 (by decide) (fun _ => ?_) (fun q => absurd q (by decide))
            refine nv_iconst hX (m := 1) (by decide) dX4_done_111 ?_
            refine mv_callz hX iX4_266 rfl mdX4_goesWell (m_goesWellN hG (by decide) (by decide) (d := d - 1)) (by omega) rfl rfl (Nat.le_of_ble_eq_true rfl) dX4_done_112 (fun r_112 τ_112 h_112 => ?_)
            obtain ⟨rfl, rfl⟩ := h_112
            refine rv_if_ne hX 120 dX4_done_115 (by decide) (fun q => absurd q (by decide)) (fun _ => ?_)
            refine nv_iconst hX (m := 0) (by decide) dX4_done_118 ?_
            refine mv_reti hX hE dX4_done_119 ?_
            have hno : wDr.ready s = false := by
              cases e : wDr.ready s with
              | false => rfl
              | true =>
                obtain ⟨a1, a2, a3, a4, a5, a6, a7⟩ := wDr.ready_spec.mp e
                exfalso
                first
                  | omega
                  | exact absurd ((hl.trans a3).symm.trans c_11) (by decide)
                  | exact a2 (List.eq_nil_of_length_eq_zero (by omega))
                  | exact absurd ((hs.trans a5).symm.trans c_45) (by decide)
            unfold o_done
            rw [if_pos hno]
            exact h.th (by decide)
          · skip
            refine nv_iconst hX (m := 1) (by decide) dX4_done_92 ?_
            refine rv_goto hX 97 dX4_done_93 (by decide) ?_
            refine rv_istore_n hX dX4_done_97 (rv_st_2 rfl) ?_
            refine rv_aload_n hX dX4_done_98 rfl ?_
            refine rv_iload_n hX dX4_done_99 rfl ?_
            refine rv_if_eq hX 111 dX4_done_100 (by decide) (fun _ => ?_) (fun q => absurd q (by decide))
            refine nv_iconst hX (m := 1) (by decide) dX4_done_111 ?_
            refine mv_callz hX iX4_266 rfl mdX4_goesWell (m_goesWellN hG (by decide) (by decide) (d := d - 1)) (by omega) rfl rfl (Nat.le_of_ble_eq_true rfl) dX4_done_112 (fun r_112 τ_112 h_112 => ?_)
            obtain ⟨rfl, rfl⟩ := h_112
            refine rv_if_ne hX 120 dX4_done_115 (by decide) (fun q => absurd q (by decide)) (fun _ => ?_)
            refine nv_iconst hX (m := 0) (by decide) dX4_done_118 ?_
            refine mv_reti hX hE dX4_done_119 ?_
            have hno : wDr.ready s = false := by
              cases e : wDr.ready s with
              | false => rfl
              | true =>
                obtain ⟨a1, a2, a3, a4, a5, a6, a7⟩ := wDr.ready_spec.mp e
                exfalso
                first
                  | omega
                  | exact absurd ((hl.trans a3).symm.trans c_11) (by decide)
                  | exact a2 (List.eq_nil_of_length_eq_zero (by omega))
                  | exact absurd ((hs.trans a5).symm.trans c_45) (by decide)
            unfold o_done
            rw [if_pos hno]
            exact h.th (by decide)
        · skip
          refine rv_aload_n hX dX4_done_62 rfl ?_
          refine mv_ga hX (k := 1) (j := 1) gX4_7_X4 (by decide) rfl (by decide) dX4_done_63 ?_
          refine nv_iconst hX (m := 1) (by decide) dX4_done_66 ?_
          refine mv_ld hX (j := 1) (by decide) (by decide) rfl (by decide) (show _ < 11 by omega) dX4_done_67 ?_
          rw [h.1.1.rules.2.1]
          refine nv_bipush hX (m := 10) (by decide) dX4_done_68 ?_
          first | refine nv_icmp_ge hX 77 (by omega) (by omega) dX4_done_70 (by decide) (fun c_70 => ?_) (fun c_70 => ?_) | refine rv_icmp_ge hX 77 dX4_done_70 (by decide) (fun c_70 => ?_) (fun c_70 => ?_)
          · skip
            refine nv_iconst hX (m := 0) (by decide) dX4_done_77 ?_
            refine rv_goto hX 97 dX4_done_78 (by decide) ?_
            refine rv_istore_n hX dX4_done_97 (rv_st_2 rfl) ?_
            refine rv_aload_n hX dX4_done_98 rfl ?_
            refine rv_iload_n hX dX4_done_99 rfl ?_
            refine rv_if_eq hX 111 dX4_done_100 (by decide) (fun _ => ?_) (fun q => absurd q (by decide))
            refine nv_iconst hX (m := 1) (by decide) dX4_done_111 ?_
            refine mv_callz hX iX4_266 rfl mdX4_goesWell (m_goesWellN hG (by decide) (by decide) (d := d - 1)) (by omega) rfl rfl (Nat.le_of_ble_eq_true rfl) dX4_done_112 (fun r_112 τ_112 h_112 => ?_)
            obtain ⟨rfl, rfl⟩ := h_112
            refine rv_if_ne hX 120 dX4_done_115 (by decide) (fun q => absurd q (by decide)) (fun _ => ?_)
            refine nv_iconst hX (m := 0) (by decide) dX4_done_118 ?_
            refine mv_reti hX hE dX4_done_119 ?_
            have hno : wDr.ready s = false := by
              cases e : wDr.ready s with
              | false => rfl
              | true =>
                obtain ⟨a1, a2, a3, a4, a5, a6, a7⟩ := wDr.ready_spec.mp e
                exfalso
                first
                  | omega
                  | exact absurd ((hl.trans a3).symm.trans c_11) (by decide)
                  | exact a2 (List.eq_nil_of_length_eq_zero (by omega))
                  | exact absurd ((hs.trans a5).symm.trans c_45) (by decide)
            unfold o_done
            rw [if_pos hno]
            exact h.th (by decide)
          · skip
            refine nv_iconst hX (m := 1) (by decide) dX4_done_73 ?_
            refine rv_goto hX 97 dX4_done_74 (by decide) ?_
            refine rv_istore_n hX dX4_done_97 (rv_st_2 rfl) ?_
            refine rv_aload_n hX dX4_done_98 rfl ?_
            refine rv_iload_n hX dX4_done_99 rfl ?_
            refine rv_if_eq hX 111 dX4_done_100 (by decide) (fun _ => ?_) (fun q => absurd q (by decide))
            refine nv_iconst hX (m := 1) (by decide) dX4_done_111 ?_
            refine mv_callz hX iX4_266 rfl mdX4_goesWell (m_goesWellN hG (by decide) (by decide) (d := d - 1)) (by omega) rfl rfl (Nat.le_of_ble_eq_true rfl) dX4_done_112 (fun r_112 τ_112 h_112 => ?_)
            obtain ⟨rfl, rfl⟩ := h_112
            refine rv_if_ne hX 120 dX4_done_115 (by decide) (fun q => absurd q (by decide)) (fun _ => ?_)
            refine nv_iconst hX (m := 0) (by decide) dX4_done_118 ?_
            refine mv_reti hX hE dX4_done_119 ?_
            have hno : wDr.ready s = false := by
              cases e : wDr.ready s with
              | false => rfl
              | true =>
                obtain ⟨a1, a2, a3, a4, a5, a6, a7⟩ := wDr.ready_spec.mp e
                exfalso
                first
                  | omega
                  | exact absurd ((hl.trans a3).symm.trans c_11) (by decide)
                  | exact a2 (List.eq_nil_of_length_eq_zero (by omega))
                  | exact absurd ((hs.trans a5).symm.trans c_45) (by decide)
            unfold o_done
            rw [if_pos hno]
            exact h.th (by decide)
      · skip
        refine rv_aload_n hX dX4_done_24 rfl ?_
        refine mv_gi hX (k := 23) gX4_302_X4 (by decide) rfl dX4_done_25 ?_
        rw [h.2.1.1]
        refine nv_iconst hX (m := 1) (by decide) dX4_done_28 ?_
        first | refine nv_icmp_eq hX 41 (by omega) (by omega) dX4_done_29 (by decide) (fun c_29 => ?_) (fun c_29 => ?_) | refine rv_icmp_eq hX 41 dX4_done_29 (by decide) (fun c_29 => ?_) (fun c_29 => ?_)
        · skip
          have hwh : s.d.whole s.w.S := ⟨by omega, fun e => by rw [e] at c_21; exact absurd c_21 (by decide), by rw [← hl]; exact c_11⟩
          refine rv_aload_n hX dX4_done_41 rfl ?_
          refine mv_callz hX iX4_323 rfl mdX4_isSound (m_isSound hG (d := d - 1) (by omega) h.1.1.rel h.2.1 hw hwh) (by omega) rfl rfl (Nat.le_of_ble_eq_true rfl) dX4_done_42 (fun r_42 τ_42 h_42 => ?_)
          obtain ⟨rfl, hs⟩ := h_42
          first | refine zv_if_eq hX 52 dX4_done_45 (by decide) (fun c_45 => ?_) (fun c_45 => ?_) | refine nv_if_eq hX 52 (by omega) dX4_done_45 (by decide) (fun c_45 => ?_) (fun c_45 => ?_) | refine rv_if_eq hX 52 dX4_done_45 (by decide) (fun c_45 => ?_) (fun c_45 => ?_)
          · skip
            refine nv_iconst hX (m := 0) (by decide) dX4_done_52 ?_
            refine rv_istore_n hX dX4_done_53 (rv_st_1 rfl) ?_
            refine rv_aload_n hX dX4_done_54 rfl ?_
            refine mv_gi hX (k := 23) gX4_302_X4 (by decide) rfl dX4_done_55 ?_
            rw [h.2.1.1]
            refine nv_iconst hX (m := 1) (by decide) dX4_done_58 ?_
            first | refine nv_icmp_ne hX 81 (by omega) (by omega) dX4_done_59 (by decide) (fun c_59 => ?_) (fun c_59 => ?_) | refine rv_icmp_ne hX 81 dX4_done_59 (by decide) (fun c_59 => ?_) (fun c_59 => ?_)
            · skip
              refine rv_aload_n hX dX4_done_81 rfl ?_
              refine mv_ga hX (k := 1) (j := 1) gX4_7_X4 (by decide) rfl (by decide) dX4_done_82 ?_
              refine nv_iconst hX (m := 2) (by decide) dX4_done_85 ?_
              refine mv_ld hX (j := 1) (by decide) (by decide) rfl (by decide) (show _ < 11 by omega) dX4_done_86 ?_
              rw [h.1.1.deeds.2.1]
              refine nv_bipush hX (m := 6) (by decide) dX4_done_87 ?_
              first | refine nv_icmp_ge hX 96 (by omega) (by omega) dX4_done_89 (by decide) (fun c_89 => ?_) (fun c_89 => ?_) | refine rv_icmp_ge hX 96 dX4_done_89 (by decide) (fun c_89 => ?_) (fun c_89 => ?_)
              · skip
                refine nv_iconst hX (m := 0) (by decide) dX4_done_96 ?_
                refine rv_istore_n hX dX4_done_97 (rv_st_2 rfl) ?_
                refine rv_aload_n hX dX4_done_98 rfl ?_
                refine rv_iload_n hX dX4_done_99 rfl ?_
                refine rv_if_eq hX 111 dX4_done_100 (by decide) (fun _ => ?_) (fun q => absurd q (by decide))
                refine nv_iconst hX (m := 1) (by decide) dX4_done_111 ?_
                refine mv_callz hX iX4_266 rfl mdX4_goesWell (m_goesWellN hG (by decide) (by decide) (d := d - 1)) (by omega) rfl rfl (Nat.le_of_ble_eq_true rfl) dX4_done_112 (fun r_112 τ_112 h_112 => ?_)
                obtain ⟨rfl, rfl⟩ := h_112
                refine rv_if_ne hX 120 dX4_done_115 (by decide) (fun q => absurd q (by decide)) (fun _ => ?_)
                refine nv_iconst hX (m := 0) (by decide) dX4_done_118 ?_
                refine mv_reti hX hE dX4_done_119 ?_
                have hno : wDr.ready s = false := by
                  cases e : wDr.ready s with
                  | false => rfl
                  | true =>
                    obtain ⟨a1, a2, a3, a4, a5, a6, a7⟩ := wDr.ready_spec.mp e
                    exfalso
                    first
                      | omega
                      | exact absurd ((hl.trans a3).symm.trans c_11) (by decide)
                      | exact a2 (List.eq_nil_of_length_eq_zero (by omega))
                      | exact absurd ((hs.trans a5).symm.trans c_45) (by decide)
                unfold o_done
                rw [if_pos hno]
                exact h.th (by decide)
              · skip
                refine nv_iconst hX (m := 1) (by decide) dX4_done_92 ?_
                refine rv_goto hX 97 dX4_done_93 (by decide) ?_
                refine rv_istore_n hX dX4_done_97 (rv_st_2 rfl) ?_
                refine rv_aload_n hX dX4_done_98 rfl ?_
                refine rv_iload_n hX dX4_done_99 rfl ?_
                refine rv_if_eq hX 111 dX4_done_100 (by decide) (fun _ => ?_) (fun q => absurd q (by decide))
                refine nv_iconst hX (m := 1) (by decide) dX4_done_111 ?_
                refine mv_callz hX iX4_266 rfl mdX4_goesWell (m_goesWellN hG (by decide) (by decide) (d := d - 1)) (by omega) rfl rfl (Nat.le_of_ble_eq_true rfl) dX4_done_112 (fun r_112 τ_112 h_112 => ?_)
                obtain ⟨rfl, rfl⟩ := h_112
                refine rv_if_ne hX 120 dX4_done_115 (by decide) (fun q => absurd q (by decide)) (fun _ => ?_)
                refine nv_iconst hX (m := 0) (by decide) dX4_done_118 ?_
                refine mv_reti hX hE dX4_done_119 ?_
                have hno : wDr.ready s = false := by
                  cases e : wDr.ready s with
                  | false => rfl
                  | true =>
                    obtain ⟨a1, a2, a3, a4, a5, a6, a7⟩ := wDr.ready_spec.mp e
                    exfalso
                    first
                      | omega
                      | exact absurd ((hl.trans a3).symm.trans c_11) (by decide)
                      | exact a2 (List.eq_nil_of_length_eq_zero (by omega))
                      | exact absurd ((hs.trans a5).symm.trans c_45) (by decide)
                unfold o_done
                rw [if_pos hno]
                exact h.th (by decide)
            · skip
              refine rv_aload_n hX dX4_done_62 rfl ?_
              refine mv_ga hX (k := 1) (j := 1) gX4_7_X4 (by decide) rfl (by decide) dX4_done_63 ?_
              refine nv_iconst hX (m := 1) (by decide) dX4_done_66 ?_
              refine mv_ld hX (j := 1) (by decide) (by decide) rfl (by decide) (show _ < 11 by omega) dX4_done_67 ?_
              rw [h.1.1.rules.2.1]
              refine nv_bipush hX (m := 10) (by decide) dX4_done_68 ?_
              first | refine nv_icmp_ge hX 77 (by omega) (by omega) dX4_done_70 (by decide) (fun c_70 => ?_) (fun c_70 => ?_) | refine rv_icmp_ge hX 77 dX4_done_70 (by decide) (fun c_70 => ?_) (fun c_70 => ?_)
              · skip
                refine nv_iconst hX (m := 0) (by decide) dX4_done_77 ?_
                refine rv_goto hX 97 dX4_done_78 (by decide) ?_
                refine rv_istore_n hX dX4_done_97 (rv_st_2 rfl) ?_
                refine rv_aload_n hX dX4_done_98 rfl ?_
                refine rv_iload_n hX dX4_done_99 rfl ?_
                refine rv_if_eq hX 111 dX4_done_100 (by decide) (fun _ => ?_) (fun q => absurd q (by decide))
                refine nv_iconst hX (m := 1) (by decide) dX4_done_111 ?_
                refine mv_callz hX iX4_266 rfl mdX4_goesWell (m_goesWellN hG (by decide) (by decide) (d := d - 1)) (by omega) rfl rfl (Nat.le_of_ble_eq_true rfl) dX4_done_112 (fun r_112 τ_112 h_112 => ?_)
                obtain ⟨rfl, rfl⟩ := h_112
                refine rv_if_ne hX 120 dX4_done_115 (by decide) (fun q => absurd q (by decide)) (fun _ => ?_)
                refine nv_iconst hX (m := 0) (by decide) dX4_done_118 ?_
                refine mv_reti hX hE dX4_done_119 ?_
                have hno : wDr.ready s = false := by
                  cases e : wDr.ready s with
                  | false => rfl
                  | true =>
                    obtain ⟨a1, a2, a3, a4, a5, a6, a7⟩ := wDr.ready_spec.mp e
                    exfalso
                    first
                      | omega
                      | exact absurd ((hl.trans a3).symm.trans c_11) (by decide)
                      | exact a2 (List.eq_nil_of_length_eq_zero (by omega))
                      | exact absurd ((hs.trans a5).symm.trans c_45) (by decide)
                unfold o_done
                rw [if_pos hno]
                exact h.th (by decide)
              · skip
                refine nv_iconst hX (m := 1) (by decide) dX4_done_73 ?_
                refine rv_goto hX 97 dX4_done_74 (by decide) ?_
                refine rv_istore_n hX dX4_done_97 (rv_st_2 rfl) ?_
                refine rv_aload_n hX dX4_done_98 rfl ?_
                refine rv_iload_n hX dX4_done_99 rfl ?_
                refine rv_if_eq hX 111 dX4_done_100 (by decide) (fun _ => ?_) (fun q => absurd q (by decide))
                refine nv_iconst hX (m := 1) (by decide) dX4_done_111 ?_
                refine mv_callz hX iX4_266 rfl mdX4_goesWell (m_goesWellN hG (by decide) (by decide) (d := d - 1)) (by omega) rfl rfl (Nat.le_of_ble_eq_true rfl) dX4_done_112 (fun r_112 τ_112 h_112 => ?_)
                obtain ⟨rfl, rfl⟩ := h_112
                refine rv_if_ne hX 120 dX4_done_115 (by decide) (fun q => absurd q (by decide)) (fun _ => ?_)
                refine nv_iconst hX (m := 0) (by decide) dX4_done_118 ?_
                refine mv_reti hX hE dX4_done_119 ?_
                have hno : wDr.ready s = false := by
                  cases e : wDr.ready s with
                  | false => rfl
                  | true =>
                    obtain ⟨a1, a2, a3, a4, a5, a6, a7⟩ := wDr.ready_spec.mp e
                    exfalso
                    first
                      | omega
                      | exact absurd ((hl.trans a3).symm.trans c_11) (by decide)
                      | exact a2 (List.eq_nil_of_length_eq_zero (by omega))
                      | exact absurd ((hs.trans a5).symm.trans c_45) (by decide)
                unfold o_done
                rw [if_pos hno]
                exact h.th (by decide)
          · skip
            refine nv_iconst hX (m := 1) (by decide) dX4_done_48 ?_
            refine rv_goto hX 53 dX4_done_49 (by decide) ?_
            refine rv_istore_n hX dX4_done_53 (rv_st_1 rfl) ?_
            refine rv_aload_n hX dX4_done_54 rfl ?_
            refine mv_gi hX (k := 23) gX4_302_X4 (by decide) rfl dX4_done_55 ?_
            rw [h.2.1.1]
            refine nv_iconst hX (m := 1) (by decide) dX4_done_58 ?_
            first | refine nv_icmp_ne hX 81 (by omega) (by omega) dX4_done_59 (by decide) (fun c_59 => ?_) (fun c_59 => ?_) | refine rv_icmp_ne hX 81 dX4_done_59 (by decide) (fun c_59 => ?_) (fun c_59 => ?_)
            · skip
              refine rv_aload_n hX dX4_done_81 rfl ?_
              refine mv_ga hX (k := 1) (j := 1) gX4_7_X4 (by decide) rfl (by decide) dX4_done_82 ?_
              refine nv_iconst hX (m := 2) (by decide) dX4_done_85 ?_
              refine mv_ld hX (j := 1) (by decide) (by decide) rfl (by decide) (show _ < 11 by omega) dX4_done_86 ?_
              rw [h.1.1.deeds.2.1]
              refine nv_bipush hX (m := 6) (by decide) dX4_done_87 ?_
              first | refine nv_icmp_ge hX 96 (by omega) (by omega) dX4_done_89 (by decide) (fun c_89 => ?_) (fun c_89 => ?_) | refine rv_icmp_ge hX 96 dX4_done_89 (by decide) (fun c_89 => ?_) (fun c_89 => ?_)
              · skip
                refine nv_iconst hX (m := 0) (by decide) dX4_done_96 ?_
                refine rv_istore_n hX dX4_done_97 (rv_st_2 rfl) ?_
                refine rv_aload_n hX dX4_done_98 rfl ?_
                refine rv_iload_n hX dX4_done_99 rfl ?_
                refine rv_if_eq hX 111 dX4_done_100 (by decide) (fun q => absurd q (by decide)) (fun _ => ?_)
                refine rv_iload_n hX dX4_done_103 rfl ?_
                refine rv_if_eq hX 111 dX4_done_104 (by decide) (fun _ => ?_) (fun q => absurd q (by decide))
                refine nv_iconst hX (m := 1) (by decide) dX4_done_111 ?_
                refine mv_callz hX iX4_266 rfl mdX4_goesWell (m_goesWellN hG (by decide) (by decide) (d := d - 1)) (by omega) rfl rfl (Nat.le_of_ble_eq_true rfl) dX4_done_112 (fun r_112 τ_112 h_112 => ?_)
                obtain ⟨rfl, rfl⟩ := h_112
                refine rv_if_ne hX 120 dX4_done_115 (by decide) (fun q => absurd q (by decide)) (fun _ => ?_)
                refine nv_iconst hX (m := 0) (by decide) dX4_done_118 ?_
                refine mv_reti hX hE dX4_done_119 ?_
                have hno : wDr.ready s = false := by
                  cases e : wDr.ready s with
                  | false => rfl
                  | true =>
                    obtain ⟨a1, a2, a3, a4, a5, a6, a7⟩ := wDr.ready_spec.mp e
                    exfalso
                    first
                      | omega
                      | exact absurd ((hl.trans a3).symm.trans c_11) (by decide)
                      | exact a2 (List.eq_nil_of_length_eq_zero (by omega))
                      | exact absurd ((hs.trans a5).symm.trans c_45) (by decide)
                unfold o_done
                rw [if_pos hno]
                exact h.th (by decide)
              · skip
                refine nv_iconst hX (m := 1) (by decide) dX4_done_92 ?_
                refine rv_goto hX 97 dX4_done_93 (by decide) ?_
                refine rv_istore_n hX dX4_done_97 (rv_st_2 rfl) ?_
                refine rv_aload_n hX dX4_done_98 rfl ?_
                refine rv_iload_n hX dX4_done_99 rfl ?_
                refine rv_if_eq hX 111 dX4_done_100 (by decide) (fun q => absurd q (by decide)) (fun _ => ?_)
                refine rv_iload_n hX dX4_done_103 rfl ?_
                refine rv_if_eq hX 111 dX4_done_104 (by decide) (fun q => absurd q (by decide)) (fun _ => ?_)
                refine nv_iconst hX (m := 0) (by decide) dX4_done_107 ?_
                refine rv_goto hX 112 dX4_done_108 (by decide) ?_
                refine mv_callz hX iX4_266 rfl mdX4_goesWell (m_goesWell0 hG (d := d - 1)) (by omega) rfl rfl (Nat.le_of_ble_eq_true rfl) dX4_done_112 (fun r_112 τ_112 h_112 => ?_)
                obtain ⟨rfl, rfl⟩ := h_112
                refine rv_if_ne hX 120 dX4_done_115 (by decide) (fun _ => ?_) (fun q => absurd q (by decide))
                have hyes : wDr.ready s = true := wDr.ready_spec.mpr ⟨hwh.1, hwh.2.1, hwh.2.2, by omega, by rw [← hs]; exact c_45, fun q => by omega, fun q => by omega⟩
                have hsd : s.d.sound = true := by rw [← hs]; exact c_45
                refine rv_aload_n hX dX4_done_120 rfl ?_
                refine mv_gi hX (k := 23) gX4_302_X4 (by decide) rfl dX4_done_121 ?_
                rw [show (rv_sF τ_42 0 (nI 0)).1 23 = nI s.d.k from h.2.1.1]
                refine nv_iconst hX (m := 2) (by decide) dX4_done_124 ?_
                first | refine nv_icmp_ne hX 179 (by omega) (by omega) dX4_done_125 (by decide) (fun c_125 => ?_) (fun c_125 => ?_) | refine rv_icmp_ne hX 179 dX4_done_125 (by decide) (fun c_125 => ?_) (fun c_125 => ?_)
                · skip
                  have hC := wDr.C_wf hS3 hw hwh hsd (n := s.w.nr) (by omega)
                  have hne : s.d.k ≠ 0 := hwh.1
                  have hk1 : s.d.k = 1 := by omega
                  have hunf : o_done s = match (s.w.setR (s.w.R ++ [s.d.C s.w.nr]) (s.w.nr + 1)).stl with
                      | none => (1, 0, s)
                      | some w' => (0, nI s.w.nr, (s.setw w').setd s.d.off) := by
                    unfold o_done
                    rw [if_neg (by rw [hyes]; decide), if_neg (by omega)]
                    rfl
                  refine rv_aload_n hX dX4_done_179 rfl ?_
                  refine nv_iconst hX (m := 3) (by decide) dX4_done_180 ?_
                  refine mv_callv hX iX4_275 rfl mdX4_save (m_saveW hG (d := d - 1) (by omega) (h.thrown _) hb6) (by omega) rfl rfl (Nat.le_of_ble_eq_true rfl) dX4_done_181 (fun τ_181 h_181 => ?_)
                  obtain ⟨s1, s2, s3⟩ := h_181
                  refine rv_aload_n hX dX4_done_184 rfl ?_
                  refine mv_ga hX (k := 3) (j := 3) gX4_16_X4 (by decide) rfl (by decide) dX4_done_185 ?_
                  refine nv_bipush hX (m := 16) (by decide) dX4_done_188 ?_
                  refine rv_aload_n hX dX4_done_190 rfl ?_
                  refine mv_ga hX (k := 1) (j := 1) gX4_7_X4 (by decide) rfl (by decide) dX4_done_191 ?_
                  refine nv_iconst hX (m := 3) (by decide) dX4_done_194 ?_
                  refine mv_ld hX (j := 1) (by decide) (by decide) rfl (by decide) (show _ < 11 by omega) dX4_done_195 ?_
                  rw [s1.1.1.nr]
                  refine mv_st hX (j := 3) (by decide) (by decide) rfl (by decide) (show _ < 17 by omega) dX4_done_196 ?_
                  refine rv_aload_n hX dX4_done_197 rfl ?_
                  refine nv_bipush hX (m := 16) (by decide) dX4_done_198 ?_
                  refine rv_aload_n hX dX4_done_200 rfl ?_
                  refine mv_ga hX (k := 1) (j := 1) gX4_7_X4 (by decide) rfl (by decide) dX4_done_201 ?_
                  refine nv_iconst hX (m := 1) (by decide) dX4_done_204 ?_
                  refine mv_ld hX (j := 1) (by decide) (by decide) rfl (by decide) (show _ < 11 by omega) dX4_done_205 ?_
                  rw [show (rv_sU τ_181 3 16 (nI s.w.nr)).2.1 1 1 = nI s.w.R.length from s1.1.1.rules.2.1]
                  refine mv_callv hX iX4_326 rfl mdX4_copyBody (m_copyBody hG (d := d - 1) (by omega) (a := 16) (b := s.w.R.length) (by decide) (by omega) (by omega)) (by omega) rfl rfl (Nat.le_of_ble_eq_true rfl) dX4_done_206 (fun τ_206 h_206 => ?_)
                  have hcp := h_206
                  refine rv_aload_n hX dX4_done_209 rfl ?_
                  refine mv_ga hX (k := 1) (j := 1) gX4_7_X4 (by decide) rfl (by decide) dX4_done_210 ?_
                  refine nv_iconst hX (m := 1) (by decide) dX4_done_213 ?_
                  refine rv_dup2 hX dX4_done_214 rfl rfl ?_
                  refine mv_ld hX (j := 1) (by decide) (by decide) rfl (by decide) (show _ < 11 by omega) dX4_done_215 ?_
                  rw [hcp.2.2.2.2.2.1 1 (by decide), show (rv_sU τ_181 3 16 (nI s.w.nr)).2.1 1 1 = nI s.w.R.length from s1.1.1.rules.2.1]
                  refine nv_iconst hX (m := 1) (by decide) dX4_done_216 ?_
                  first | refine nv_iadd hX dX4_done_217 ?_ | refine rv_iadd hX dX4_done_217 ?_
                  refine mv_st hX (j := 1) (by decide) (by decide) rfl (by decide) (show _ < 11 by omega) dX4_done_218 ?_
                  refine rv_aload_n hX dX4_done_219 rfl ?_
                  refine mv_ga hX (k := 1) (j := 1) gX4_7_X4 (by decide) rfl (by decide) dX4_done_220 ?_
                  refine nv_iconst hX (m := 3) (by decide) dX4_done_223 ?_
                  refine rv_dup2 hX dX4_done_224 rfl rfl ?_
                  refine mv_ld hX (j := 1) (by decide) (by decide) rfl (by decide) (show _ < 11 by omega) dX4_done_225 ?_
                  rw [rv_sU_2, if_neg (fun q => absurd q.2 (by decide)), hcp.2.2.2.2.2.1 1 (by decide), show (rv_sU τ_181 3 16 (nI s.w.nr)).2.1 1 3 = nI s.w.nr from s1.1.1.nr]
                  refine nv_iconst hX (m := 1) (by decide) dX4_done_226 ?_
                  first | refine nv_iadd hX dX4_done_227 ?_ | refine rv_iadd hX dX4_done_227 ?_
                  refine mv_st hX (j := 1) (by decide) (by decide) rfl (by decide) (show _ < 11 by omega) dX4_done_228 ?_
                  have hB := mDraft.body hS3 (s1.2.1.n16 (v := nI s.w.nr)) hw hwh (n := s.w.nr) (by rw [rv_sU_2, if_pos ⟨rfl, rfl⟩])
                  have hs1 : rv_same [] [1] τ_206 (rv_sU (rv_sU τ_206 1 1 (nI (s.w.R.length + 1))) 1 3 (nI (s.w.nr + 1))) := (rv_same.u (by decide)).tr (.u (by decide))
                  have hs2 : rv_same [] [1, 3, 4, 5, 6, 7, 8, 9, 10, 11, 12] τ_181 (rv_sU (rv_sU τ_206 1 1 (nI (s.w.R.length + 1))) 1 3 (nI (s.w.nr + 1))) := ((rv_same.u (by decide)).tr (hcp.2.2.2.2.mn (by decide) (by decide))).tr (hs1.mn (by decide) (by decide))
                  have g1 : ∀ i, (rv_sU (rv_sU τ_206 1 1 (nI (s.w.R.length + 1))) 1 3 (nI (s.w.nr + 1))).2.1 1 i = if i = 3 then nI (s.w.nr + 1) else if i = 1 then nI (s.w.R.length + 1) else τ_181.2.1 1 i := fun i => by
                    rw [rv_sU_2]
                    by_cases q : i = 3
                    · rw [if_pos ⟨rfl, q⟩, if_pos q]
                    · rw [if_neg (fun a => q a.2), if_neg q, rv_sU_2]
                      by_cases q2 : i = 1
                      · rw [if_pos ⟨rfl, q2⟩, if_pos q2]
                      · rw [if_neg (fun a => q2 a.2), if_neg q2, hcp.2.2.2.2.2.1 1 (by decide)]
                        rfl
                  have e3 : (rv_sU (rv_sU τ_206 1 1 (nI (s.w.R.length + 1))) 1 3 (nI (s.w.nr + 1))).2.1 3 16 = nI s.w.nr := by
                    rw [hs1.2.1 3 (by decide), hcp.1 3 (by decide), if_neg (by omega), rv_sU_2, if_pos ⟨rfl, rfl⟩]
                  generalize rv_sU (rv_sU τ_206 1 1 (nI (s.w.R.length + 1))) 1 3 (nI (s.w.nr + 1)) = υ at hs1 hs2 g1 e3
                  obtain ⟨dep, hdp⟩ := s1.2.2.2
                  have hW : mW0 υ (s.w.setR (s.w.R ++ [s.d.C s.w.nr]) (s.w.nr + 1)) := by
                    refine s1.1.1.chR hs2 (by decide) (fun i i2 i4 => by rw [g1, if_neg i4, if_neg i2]) (by rw [g1, if_neg (by decide), if_pos rfl, List.length_append]; rfl) (by rw [g1, if_pos rfl]) (by rw [List.length_append]; show s.w.R.length + 1 ≤ 10; omega) (fun i C e => ?_) (fun i C e => ?_)
                    · by_cases q : i = s.w.R.length
                      · rw [q, List.getElem?_append_right (Nat.le_refl _), Nat.sub_self] at e
                        cases e
                        rw [q]
                        exact ⟨(hB.cp hS3 hcp hC).same hs1 (by decide), hC⟩
                      · have hi1 : i < s.w.R.length := by
                          have hk9 := (List.getElem?_eq_some_iff.mp e).1
                          rw [List.length_append] at hk9
                          have hk8 : i < s.w.R.length + 1 := hk9
                          omega
                        rw [List.getElem?_append_left hi1] at e
                        obtain ⟨b1, b2⟩ := s1.1.1.rules.2.2.2 i C e
                        exact ⟨((b1.n16 (by omega)).cpo hS3 hcp b2 (by omega)).same hs1 (by decide), b2⟩
                    · have hi1 := (List.getElem?_eq_some_iff.mp e).1
                      obtain ⟨b1, b2⟩ := s1.1.1.deeds.2.2.2 i C e
                      exact ((b1.n16 (by omega)).cpo hS3 hcp b2 (by omega)).same hs1 (by decide)
                  have hdr := ((s1.2.1.n16 (v := nI s.w.nr)).cpo hS3 hcp (by omega) hw).same hs1 (by decide) (by decide)
                  have hsv := s2.same hs2 (by decide)
                  have hbg := s1.2.2.1.same hs2 (by decide) (by decide)
                  have hen := s1.1.2.same hs2 (by decide)
                  have hdp2 := hdp.same hs2 (by decide)
                  have bad : ∀ (τ' τ'' : rv_S), rv_same [29, 30, 31, 32, 33, 34, 39] [1, 15, 16, 22, 23, 24, 25, 26, 27, 28, 29, 30, 31, 32, 33, 34] υ τ' → (s.w.setR (s.w.R ++ [s.d.C s.w.nr]) (s.w.nr + 1)).stl = none → (mW τ'' s.w ∧ rv_same [] [1, 2, 3, 4, 5, 6, 7, 8, 9, 10, 11, 12, 13, 14, 15, 16, 17] (rv_sF τ' 0 (nI 1)) τ'' ∧ ∀ (S : List Nat) (dr : wDr), mDraft (rv_sF τ' 0 (nI 1)) S dr → mDraft τ'' S dr) → ∀ r, mRes τ'' r (o_done s) := by
                    intro τ' τ'' hs hno ⟨b1, b2, b3⟩ r
                    rw [hunf, hno]
                    refine ⟨by rw [b2.1 0 (by decide)]; rfl, fun e => absurd e (show ¬ 1 = 0 by decide), b1, b3 _ _ ((hdr.same hs (by decide) (by decide)).same (.f (fs := [0]) (js := []) (by decide)) (by decide) (by decide)), ((hbg.same hs (by decide) (by decide)).same (.f (fs := [0]) (js := []) (by decide)) (by decide) (by decide)).same b2 (by decide) (by decide), dep, ((hdp2.same hs (by decide)).same (.f (fs := [0]) (js := []) (by decide)) (by decide)).same b2 (by decide)⟩
                  refine rv_aload_n hX dX4_done_229 rfl ?_
                  refine rv_aload_n hX dX4_done_230 rfl ?_
                  refine mv_callz hX iX4_257 rfl mdX4_findStrata (m_findStrata hG (d := d - 1) (by omega) hW.rules) (by omega) rfl rfl (Nat.le_of_ble_eq_true rfl) dX4_done_231 (fun r_231 τ_231 h_231 => ?_)
                  obtain ⟨f1, f2, f3, f4⟩ := h_231
                  first | refine zv_if_eq hX 248 dX4_done_234 (by decide) (fun c_234 => ?_) (fun c_234 => ?_) | refine nv_if_eq hX 248 (by omega) dX4_done_234 (by decide) (fun c_234 => ?_) (fun c_234 => ?_) | refine rv_if_eq hX 248 dX4_done_234 (by decide) (fun c_234 => ?_) (fun c_234 => ?_)
                  · skip
                    have hno : (s.w.setR (s.w.R ++ [s.d.C s.w.nr]) (s.w.nr + 1)).stl = none := by
                      unfold wW.stl
                      rw [sp_set_str ?_]
                      · rfl
                      · cases e : sp_strata (s.w.setR (s.w.R ++ [s.d.C s.w.nr]) (s.w.nr + 1)).R with
                        | none => rfl
                        | some st => have := (f2 st e).1; rw [c_234] at this; exact absurd this (by decide)
                    refine nv_iconst hX (m := 1) (by decide) dX4_done_248 ?_
                    refine mv_callz hX iX4_266 rfl mdX4_goesWell (m_goesWellN hG (by decide) (by decide) (d := d - 1)) (by omega) rfl rfl (Nat.le_of_ble_eq_true rfl) dX4_done_249 (fun r_249 τ_249 h_249 => ?_)
                    obtain ⟨rfl, rfl⟩ := h_249
                    refine rv_if_ne hX 262 dX4_done_252 (by decide) (fun q => absurd q (by decide)) (fun _ => ?_)
                    refine rv_aload_n hX dX4_done_255 rfl ?_
                    refine nv_iconst hX (m := 3) (by decide) dX4_done_256 ?_
                    refine mv_callv hX iX4_287 rfl mdX4_bringBack (m_bringW hG (d := d - 1) (by omega) (i := 3) (w := s.w) (Nat.le_refl _) (by first | exact ((hsv.same f1 (by decide)).same q1 (by decide)).same (.f (fs := [0]) (js := []) (by decide)) (by decide) | exact (hsv.same f1 (by decide)).same (.f (fs := [0]) (js := []) (by decide)) (by decide))) (by omega) rfl rfl (Nat.le_of_ble_eq_true rfl) dX4_done_257 (fun τ_257 h_257 => ?_)
                    have hbr := h_257
                    refine nv_iconst hX (m := 0) (by decide) dX4_done_260 ?_
                    refine mv_reti hX hE dX4_done_261 ?_
                    first
                    | exact bad _ _ ((f1.mn (by decide) (by decide)).tr q1) hno hbr _
                    | exact bad _ _ (f1.mn (by decide) (by decide)) hno hbr _
                  · skip
                    obtain ⟨st, hst⟩ : ∃ st, sp_strata (s.w.setR (s.w.R ++ [s.d.C s.w.nr]) (s.w.nr + 1)).R = some st := by
                      cases e : sp_strata (s.w.setR (s.w.R ++ [s.d.C s.w.nr]) (s.w.nr + 1)).R with
                      | none => have := f3 e; rw [c_234] at this; exact absurd this (by decide)
                      | some st => exact ⟨st, rfl⟩
                    refine rv_aload_n hX dX4_done_237 rfl ?_
                    refine mv_callz hX iX4_284 rfl mdX4_settle (m_settleW hG (d := d - 1) (by omega) (hW.same f1 (by decide)) hst (hwf.st (by omega)) ⟨dep, hdp2.same f1 (by decide)⟩) (by omega) rfl rfl (Nat.le_of_ble_eq_true rfl) dX4_done_238 (fun r_238 τ_238 h_238 => ?_)
                    obtain ⟨q1, q2, q3⟩ := h_238
                    first | refine zv_if_eq hX 248 dX4_done_241 (by decide) (fun c_241 => ?_) (fun c_241 => ?_) | refine nv_if_eq hX 248 (by omega) dX4_done_241 (by decide) (fun c_241 => ?_) (fun c_241 => ?_) | refine rv_if_eq hX 248 dX4_done_241 (by decide) (fun c_241 => ?_) (fun c_241 => ?_)
                    · skip
                      have hno : (s.w.setR (s.w.R ++ [s.d.C s.w.nr]) (s.w.nr + 1)).stl = none := by
                        rcases q3 with ⟨r1, -⟩ | ⟨-, r2⟩
                        · rw [c_241] at r1; exact absurd r1 (by decide)
                        · exact r2
                      refine nv_iconst hX (m := 1) (by decide) dX4_done_248 ?_
                      refine mv_callz hX iX4_266 rfl mdX4_goesWell (m_goesWellN hG (by decide) (by decide) (d := d - 1)) (by omega) rfl rfl (Nat.le_of_ble_eq_true rfl) dX4_done_249 (fun r_249 τ_249 h_249 => ?_)
                      obtain ⟨rfl, rfl⟩ := h_249
                      refine rv_if_ne hX 262 dX4_done_252 (by decide) (fun q => absurd q (by decide)) (fun _ => ?_)
                      refine rv_aload_n hX dX4_done_255 rfl ?_
                      refine nv_iconst hX (m := 3) (by decide) dX4_done_256 ?_
                      refine mv_callv hX iX4_287 rfl mdX4_bringBack (m_bringW hG (d := d - 1) (by omega) (i := 3) (w := s.w) (Nat.le_refl _) (by first | exact ((hsv.same f1 (by decide)).same q1 (by decide)).same (.f (fs := [0]) (js := []) (by decide)) (by decide) | exact (hsv.same f1 (by decide)).same (.f (fs := [0]) (js := []) (by decide)) (by decide))) (by omega) rfl rfl (Nat.le_of_ble_eq_true rfl) dX4_done_257 (fun τ_257 h_257 => ?_)
                      have hbr := h_257
                      refine nv_iconst hX (m := 0) (by decide) dX4_done_260 ?_
                      refine mv_reti hX hE dX4_done_261 ?_
                      first
                      | exact bad _ _ ((f1.mn (by decide) (by decide)).tr q1) hno hbr _
                      | exact bad _ _ (f1.mn (by decide) (by decide)) hno hbr _
                    · skip
                      obtain ⟨w', hst1, hw1⟩ : ∃ w', (s.w.setR (s.w.R ++ [s.d.C s.w.nr]) (s.w.nr + 1)).stl = some w' ∧ mW0 τ_238 w' := by
                        rcases q3 with ⟨-, r2⟩ | ⟨r1, -⟩
                        · exact r2
                        · rw [c_241] at r1; exact absurd r1 (by decide)
                      refine nv_iconst hX (m := 0) (by decide) dX4_done_244 ?_
                      refine rv_goto hX 249 dX4_done_245 (by decide) ?_
                      refine mv_callz hX iX4_266 rfl mdX4_goesWell (m_goesWell0 hG (d := d - 1)) (by omega) rfl rfl (Nat.le_of_ble_eq_true rfl) dX4_done_249 (fun r_249 τ_249 h_249 => ?_)
                      obtain ⟨rfl, rfl⟩ := h_249
                      refine rv_if_ne hX 262 dX4_done_252 (by decide) (fun _ => ?_) (fun q => absurd q (by decide))
                      refine rv_aload_n hX dX4_done_262 rfl ?_
                      refine nv_iconst hX (m := 0) (by decide) dX4_done_263 ?_
                      refine mv_pi hX (k := 23) pX4_302_X4 (by decide) rfl rfl rfl dX4_done_264 ?_
                      refine rv_aload_n hX dX4_done_267 rfl ?_
                      refine mv_ga hX (k := 3) (j := 3) gX4_16_X4 (by decide) rfl (by decide) dX4_done_268 ?_
                      refine nv_bipush hX (m := 16) (by decide) dX4_done_271 ?_
                      refine mv_ld hX (j := 3) (by decide) (by decide) rfl (by decide) (show _ < 17 by omega) dX4_done_273 ?_
                      refine mv_reti hX hE dX4_done_274 ?_
                      rw [hunf, hst1]
                      obtain ⟨F9, -, rfl⟩ := wW.stl_spec hst1
                      have hall := (f1.mn (fs' := [29, 30, 31, 32, 33, 34, 39]) (js' := [1, 15, 16, 22, 23, 24, 25, 26, 27, 28, 29, 30, 31, 32, 33, 34]) (by decide) (by decide)).tr q1
                      obtain ⟨dep3, hd3⟩ := q2
                      have hs9 : rv_same [0, 23] [] τ_238 (rv_sF (rv_sF τ_238 0 (nI 0)) 23 (nI 0)) := (rv_same.f (by decide)).tr (.f (by decide))
                      have hdr9 := hdr.same hall (by decide) (by decide)
                      exact ⟨rfl, fun _ => by show τ_238.2.1 3 16 = nI s.w.nr; rw [hall.2.1 3 (by decide)]; exact e3, ⟨hw1.same hs9 (by decide), (hen.same hall (by decide)).same hs9 (by decide)⟩, ⟨rfl, Nat.zero_le _, hdr9.2.2.1, hdr9.2.2.2.1, hdr9.2.2.2.2.1, fun e => absurd rfl e⟩, (hbg.same hall (by decide) (by decide)).same hs9 (by decide) (by decide), dep3, hd3.same hs9 (by decide)⟩
                · skip
                  have hunf : o_done s = (0, nI s.w.nd, (s.setw (s.w.setD (s.w.D ++ [s.d.C s.w.nd]) (s.w.nd + 1))).setd s.d.off) := by
                    unfold o_done
                    rw [if_neg (by rw [hyes]; decide), if_pos (by omega)]
                  refine rv_aload_n hX dX4_done_128 rfl ?_
                  refine mv_ga hX (k := 3) (j := 3) gX4_16_X4 (by decide) rfl (by decide) dX4_done_129 ?_
                  refine nv_bipush hX (m := 16) (by decide) dX4_done_132 ?_
                  refine rv_aload_n hX dX4_done_134 rfl ?_
                  refine mv_ga hX (k := 1) (j := 1) gX4_7_X4 (by decide) rfl (by decide) dX4_done_135 ?_
                  refine nv_iconst hX (m := 4) (by decide) dX4_done_138 ?_
                  refine mv_ld hX (j := 1) (by decide) (by decide) rfl (by decide) (show _ < 11 by omega) dX4_done_139 ?_
                  rw [show (rv_sF τ_42 0 (nI 0)).2.1 1 4 = nI s.w.nd from h.1.1.nd]
                  refine mv_st hX (j := 3) (by decide) (by decide) rfl (by decide) (show _ < 17 by omega) dX4_done_140 ?_
                  refine rv_aload_n hX dX4_done_141 rfl ?_
                  refine nv_bipush hX (m := 16) (by decide) dX4_done_142 ?_
                  refine nv_bipush hX (m := 10) (by decide) dX4_done_144 ?_
                  refine rv_aload_n hX dX4_done_146 rfl ?_
                  refine mv_ga hX (k := 1) (j := 1) gX4_7_X4 (by decide) rfl (by decide) dX4_done_147 ?_
                  refine nv_iconst hX (m := 2) (by decide) dX4_done_150 ?_
                  refine mv_ld hX (j := 1) (by decide) (by decide) rfl (by decide) (show _ < 11 by omega) dX4_done_151 ?_
                  rw [show (rv_sU (rv_sF τ_42 0 (nI 0)) 3 16 (nI s.w.nd)).2.1 1 2 = nI s.w.D.length from h.1.1.deeds.2.1]
                  first | refine nv_iadd hX dX4_done_152 ?_ | refine rv_iadd hX dX4_done_152 ?_
                  refine mv_callv hX iX4_326 rfl mdX4_copyBody (m_copyBody hG (d := d - 1) (by omega) (a := 16) (b := 10 + s.w.D.length) (by decide) (by omega) (by omega)) (by omega) rfl rfl (Nat.le_of_ble_eq_true rfl) dX4_done_153 (fun τ_153 h_153 => ?_)
                  have hcp := h_153
                  refine rv_aload_n hX dX4_done_156 rfl ?_
                  refine mv_ga hX (k := 1) (j := 1) gX4_7_X4 (by decide) rfl (by decide) dX4_done_157 ?_
                  refine nv_iconst hX (m := 2) (by decide) dX4_done_160 ?_
                  refine rv_dup2 hX dX4_done_161 rfl rfl ?_
                  refine mv_ld hX (j := 1) (by decide) (by decide) rfl (by decide) (show _ < 11 by omega) dX4_done_162 ?_
                  rw [hcp.2.2.2.2.2.1 1 (by decide), show (rv_sU (rv_sF τ_42 0 (nI 0)) 3 16 (nI s.w.nd)).2.1 1 2 = nI s.w.D.length from h.1.1.deeds.2.1]
                  refine nv_iconst hX (m := 1) (by decide) dX4_done_163 ?_
                  first | refine nv_iadd hX dX4_done_164 ?_ | refine rv_iadd hX dX4_done_164 ?_
                  refine mv_st hX (j := 1) (by decide) (by decide) rfl (by decide) (show _ < 11 by omega) dX4_done_165 ?_
                  refine rv_aload_n hX dX4_done_166 rfl ?_
                  refine mv_ga hX (k := 1) (j := 1) gX4_7_X4 (by decide) rfl (by decide) dX4_done_167 ?_
                  refine nv_iconst hX (m := 4) (by decide) dX4_done_170 ?_
                  refine rv_dup2 hX dX4_done_171 rfl rfl ?_
                  refine mv_ld hX (j := 1) (by decide) (by decide) rfl (by decide) (show _ < 11 by omega) dX4_done_172 ?_
                  rw [rv_sU_2, if_neg (fun q => absurd q.2 (by decide)), hcp.2.2.2.2.2.1 1 (by decide), show (rv_sU (rv_sF τ_42 0 (nI 0)) 3 16 (nI s.w.nd)).2.1 1 4 = nI s.w.nd from h.1.1.nd]
                  refine nv_iconst hX (m := 1) (by decide) dX4_done_173 ?_
                  first | refine nv_iadd hX dX4_done_174 ?_ | refine rv_iadd hX dX4_done_174 ?_
                  refine mv_st hX (j := 1) (by decide) (by decide) rfl (by decide) (show _ < 11 by omega) dX4_done_175 ?_
                  refine rv_goto hX 262 dX4_done_176 (by decide) ?_
                  refine rv_aload_n hX dX4_done_262 rfl ?_
                  refine nv_iconst hX (m := 0) (by decide) dX4_done_263 ?_
                  refine mv_pi hX (k := 23) pX4_302_X4 (by decide) rfl rfl rfl dX4_done_264 ?_
                  refine rv_aload_n hX dX4_done_267 rfl ?_
                  refine mv_ga hX (k := 3) (j := 3) gX4_16_X4 (by decide) rfl (by decide) dX4_done_268 ?_
                  refine nv_bipush hX (m := 16) (by decide) dX4_done_271 ?_
                  refine mv_ld hX (j := 3) (by decide) (by decide) rfl (by decide) (show _ < 17 by omega) dX4_done_273 ?_
                  refine mv_reti hX hE dX4_done_274 ?_
                  rw [hunf]
                  have hth := h.thrown (nI 0)
                  have hC := wDr.C_wf hS3 hw hwh hsd (n := s.w.nd) (by omega)
                  have hB := mDraft.body hS3 (hth.2.1.n16 (v := nI s.w.nd)) hw hwh (n := s.w.nd) (by rw [rv_sU_2, if_pos ⟨rfl, rfl⟩])
                  have hs1 : rv_same [23] [1] τ_153 (rv_sF (rv_sU (rv_sU τ_153 1 2 (nI (s.w.D.length + 1))) 1 4 (nI (s.w.nd + 1))) 23 (nI 0)) := ((rv_same.u (by decide)).tr (.u (by decide))).tr (.f (by decide))
                  have hs2 : rv_same [23] [1, 3, 4, 5, 6, 7, 8, 9, 10, 11, 12] (rv_sF τ_42 0 (nI 0)) (rv_sF (rv_sU (rv_sU τ_153 1 2 (nI (s.w.D.length + 1))) 1 4 (nI (s.w.nd + 1))) 23 (nI 0)) := ((rv_same.u (by decide)).tr (hcp.2.2.2.2.mn (by decide) (by decide))).tr (hs1.mn (by decide) (by decide))
                  have g1 : ∀ i, (rv_sF (rv_sU (rv_sU τ_153 1 2 (nI (s.w.D.length + 1))) 1 4 (nI (s.w.nd + 1))) 23 (nI 0)).2.1 1 i = if i = 4 then nI (s.w.nd + 1) else if i = 2 then nI (s.w.D.length + 1) else τ_42.2.1 1 i := fun i => by
                    rw [rv_sF_2, rv_sU_2]
                    by_cases q : i = 4
                    · rw [if_pos ⟨rfl, q⟩, if_pos q]
                    · rw [if_neg (fun a => q a.2), if_neg q, rv_sU_2]
                      by_cases q2 : i = 2
                      · rw [if_pos ⟨rfl, q2⟩, if_pos q2]
                      · rw [if_neg (fun a => q2 a.2), if_neg q2, hcp.2.2.2.2.2.1 1 (by decide)]
                        rfl
                  have e3 : (rv_sF (rv_sU (rv_sU τ_153 1 2 (nI (s.w.D.length + 1))) 1 4 (nI (s.w.nd + 1))) 23 (nI 0)).2.1 3 16 = nI s.w.nd := by
                    rw [hs1.2.1 3 (by decide), hcp.1 3 (by decide), if_neg (by omega), rv_sU_2, if_pos ⟨rfl, rfl⟩]
                  have h23 : (rv_sF (rv_sU (rv_sU τ_153 1 2 (nI (s.w.D.length + 1))) 1 4 (nI (s.w.nd + 1))) 23 (nI 0)).1 23 = nI 0 := rfl
                  generalize rv_sF (rv_sU (rv_sU τ_153 1 2 (nI (s.w.D.length + 1))) 1 4 (nI (s.w.nd + 1))) 23 (nI 0) = υ at hs1 hs2 g1 e3 h23
                  obtain ⟨dep, hdp⟩ := hth.2.2.2
                  have hdr := (hth.2.1.n16 (v := nI s.w.nd)).cpo hS3 hcp (by omega) hw
                  refine ⟨by rw [hs2.1 0 (by decide)]; rfl, fun _ => e3, ⟨hth.1.1.chD hs2 (by decide) (fun i i2 i4 => by rw [g1, if_neg i4, if_neg i2]; rfl) (by rw [g1, if_neg (by decide), if_pos rfl, List.length_append]; rfl) (by rw [g1, if_pos rfl]) (by rw [List.length_append]; show s.w.D.length + 1 ≤ 6; omega) (fun i C e => ?_) (fun i C e => ?_), hth.1.2.same hs2 (by decide)⟩, ?_, hth.2.2.1.same hs2 (by decide) (by decide), dep, hdp.same hs2 (by decide)⟩
                  · by_cases q : i = s.w.D.length
                    · rw [q, List.getElem?_append_right (Nat.le_refl _), Nat.sub_self] at e
                      cases e
                      rw [q]
                      exact ⟨(hB.cp hS3 hcp hC).same hs1 (by decide), hC⟩
                    · have hi1 : i < s.w.D.length := by
                        have hk9 := (List.getElem?_eq_some_iff.mp e).1
                        rw [List.length_append] at hk9
                        have hk8 : i < s.w.D.length + 1 := hk9
                        omega
                      rw [List.getElem?_append_left hi1] at e
                      obtain ⟨b1, b2⟩ := hth.1.1.deeds.2.2.2 i C e
                      exact ⟨((b1.n16 (by omega)).cpo hS3 hcp b2 (by omega)).same hs1 (by decide), b2⟩
                  · have hi1 := (List.getElem?_eq_some_iff.mp e).1
                    obtain ⟨b1, b2⟩ := hth.1.1.rules.2.2.2 i C e
                    exact ((b1.n16 (by omega)).cpo hS3 hcp b2 (by omega)).same hs1 (by decide)
                  · refine ⟨h23, Nat.zero_le _, ?_, ?_, ?_, fun e => absurd rfl e⟩
                    · rw [hs1.2.1 10 (by decide)]; exact hdr.2.2.1
                    · rw [hs1.2.1 11 (by decide)]; exact hdr.2.2.2.1
                    · rw [hs1.2.1 12 (by decide)]; exact hdr.2.2.2.2.1
            · skip
              refine rv_aload_n hX dX4_done_62 rfl ?_
              refine mv_ga hX (k := 1) (j := 1) gX4_7_X4 (by decide) rfl (by decide) dX4_done_63 ?_
              refine nv_iconst hX (m := 1) (by decide) dX4_done_66 ?_
              refine mv_ld hX (j := 1) (by decide) (by decide) rfl (by decide) (show _ < 11 by omega) dX4_done_67 ?_
              rw [h.1.1.rules.2.1]
              refine nv_bipush hX (m := 10) (by decide) dX4_done_68 ?_
              first | refine nv_icmp_ge hX 77 (by omega) (by omega) dX4_done_70 (by decide) (fun c_70 => ?_) (fun c_70 => ?_) | refine rv_icmp_ge hX 77 dX4_done_70 (by decide) (fun c_70 => ?_) (fun c_70 => ?_)
              · skip
                refine nv_iconst hX (m := 0) (by decide) dX4_done_77 ?_
                refine rv_goto hX 97 dX4_done_78 (by decide) ?_
                refine rv_istore_n hX dX4_done_97 (rv_st_2 rfl) ?_
                refine rv_aload_n hX dX4_done_98 rfl ?_
                refine rv_iload_n hX dX4_done_99 rfl ?_
                refine rv_if_eq hX 111 dX4_done_100 (by decide) (fun q => absurd q (by decide)) (fun _ => ?_)
                refine rv_iload_n hX dX4_done_103 rfl ?_
                refine rv_if_eq hX 111 dX4_done_104 (by decide) (fun _ => ?_) (fun q => absurd q (by decide))
                refine nv_iconst hX (m := 1) (by decide) dX4_done_111 ?_
                refine mv_callz hX iX4_266 rfl mdX4_goesWell (m_goesWellN hG (by decide) (by decide) (d := d - 1)) (by omega) rfl rfl (Nat.le_of_ble_eq_true rfl) dX4_done_112 (fun r_112 τ_112 h_112 => ?_)
                obtain ⟨rfl, rfl⟩ := h_112
                refine rv_if_ne hX 120 dX4_done_115 (by decide) (fun q => absurd q (by decide)) (fun _ => ?_)
                refine nv_iconst hX (m := 0) (by decide) dX4_done_118 ?_
                refine mv_reti hX hE dX4_done_119 ?_
                have hno : wDr.ready s = false := by
                  cases e : wDr.ready s with
                  | false => rfl
                  | true =>
                    obtain ⟨a1, a2, a3, a4, a5, a6, a7⟩ := wDr.ready_spec.mp e
                    exfalso
                    first
                      | omega
                      | exact absurd ((hl.trans a3).symm.trans c_11) (by decide)
                      | exact a2 (List.eq_nil_of_length_eq_zero (by omega))
                      | exact absurd ((hs.trans a5).symm.trans c_45) (by decide)
                unfold o_done
                rw [if_pos hno]
                exact h.th (by decide)
              · skip
                refine nv_iconst hX (m := 1) (by decide) dX4_done_73 ?_
                refine rv_goto hX 97 dX4_done_74 (by decide) ?_
                refine rv_istore_n hX dX4_done_97 (rv_st_2 rfl) ?_
                refine rv_aload_n hX dX4_done_98 rfl ?_
                refine rv_iload_n hX dX4_done_99 rfl ?_
                refine rv_if_eq hX 111 dX4_done_100 (by decide) (fun q => absurd q (by decide)) (fun _ => ?_)
                refine rv_iload_n hX dX4_done_103 rfl ?_
                refine rv_if_eq hX 111 dX4_done_104 (by decide) (fun q => absurd q (by decide)) (fun _ => ?_)
                refine nv_iconst hX (m := 0) (by decide) dX4_done_107 ?_
                refine rv_goto hX 112 dX4_done_108 (by decide) ?_
                refine mv_callz hX iX4_266 rfl mdX4_goesWell (m_goesWell0 hG (d := d - 1)) (by omega) rfl rfl (Nat.le_of_ble_eq_true rfl) dX4_done_112 (fun r_112 τ_112 h_112 => ?_)
                obtain ⟨rfl, rfl⟩ := h_112
                refine rv_if_ne hX 120 dX4_done_115 (by decide) (fun _ => ?_) (fun q => absurd q (by decide))
                have hyes : wDr.ready s = true := wDr.ready_spec.mpr ⟨hwh.1, hwh.2.1, hwh.2.2, by omega, by rw [← hs]; exact c_45, fun q => by omega, fun q => by omega⟩
                have hsd : s.d.sound = true := by rw [← hs]; exact c_45
                refine rv_aload_n hX dX4_done_120 rfl ?_
                refine mv_gi hX (k := 23) gX4_302_X4 (by decide) rfl dX4_done_121 ?_
                rw [show (rv_sF τ_42 0 (nI 0)).1 23 = nI s.d.k from h.2.1.1]
                refine nv_iconst hX (m := 2) (by decide) dX4_done_124 ?_
                first | refine nv_icmp_ne hX 179 (by omega) (by omega) dX4_done_125 (by decide) (fun c_125 => ?_) (fun c_125 => ?_) | refine rv_icmp_ne hX 179 dX4_done_125 (by decide) (fun c_125 => ?_) (fun c_125 => ?_)
                · skip
                  have hC := wDr.C_wf hS3 hw hwh hsd (n := s.w.nr) (by omega)
                  have hne : s.d.k ≠ 0 := hwh.1
                  have hk1 : s.d.k = 1 := by omega
                  have hunf : o_done s = match (s.w.setR (s.w.R ++ [s.d.C s.w.nr]) (s.w.nr + 1)).stl with
                      | none => (1, 0, s)
                      | some w' => (0, nI s.w.nr, (s.setw w').setd s.d.off) := by
                    unfold o_done
                    rw [if_neg (by rw [hyes]; decide), if_neg (by omega)]
                    rfl
                  refine rv_aload_n hX dX4_done_179 rfl ?_
                  refine nv_iconst hX (m := 3) (by decide) dX4_done_180 ?_
                  refine mv_callv hX iX4_275 rfl mdX4_save (m_saveW hG (d := d - 1) (by omega) (h.thrown _) hb6) (by omega) rfl rfl (Nat.le_of_ble_eq_true rfl) dX4_done_181 (fun τ_181 h_181 => ?_)
                  obtain ⟨s1, s2, s3⟩ := h_181
                  refine rv_aload_n hX dX4_done_184 rfl ?_
                  refine mv_ga hX (k := 3) (j := 3) gX4_16_X4 (by decide) rfl (by decide) dX4_done_185 ?_
                  refine nv_bipush hX (m := 16) (by decide) dX4_done_188 ?_
                  refine rv_aload_n hX dX4_done_190 rfl ?_
                  refine mv_ga hX (k := 1) (j := 1) gX4_7_X4 (by decide) rfl (by decide) dX4_done_191 ?_
                  refine nv_iconst hX (m := 3) (by decide) dX4_done_194 ?_
                  refine mv_ld hX (j := 1) (by decide) (by decide) rfl (by decide) (show _ < 11 by omega) dX4_done_195 ?_
                  rw [s1.1.1.nr]
                  refine mv_st hX (j := 3) (by decide) (by decide) rfl (by decide) (show _ < 17 by omega) dX4_done_196 ?_
                  refine rv_aload_n hX dX4_done_197 rfl ?_
                  refine nv_bipush hX (m := 16) (by decide) dX4_done_198 ?_
                  refine rv_aload_n hX dX4_done_200 rfl ?_
                  refine mv_ga hX (k := 1) (j := 1) gX4_7_X4 (by decide) rfl (by decide) dX4_done_201 ?_
                  refine nv_iconst hX (m := 1) (by decide) dX4_done_204 ?_
                  refine mv_ld hX (j := 1) (by decide) (by decide) rfl (by decide) (show _ < 11 by omega) dX4_done_205 ?_
                  rw [show (rv_sU τ_181 3 16 (nI s.w.nr)).2.1 1 1 = nI s.w.R.length from s1.1.1.rules.2.1]
                  refine mv_callv hX iX4_326 rfl mdX4_copyBody (m_copyBody hG (d := d - 1) (by omega) (a := 16) (b := s.w.R.length) (by decide) (by omega) (by omega)) (by omega) rfl rfl (Nat.le_of_ble_eq_true rfl) dX4_done_206 (fun τ_206 h_206 => ?_)
                  have hcp := h_206
                  refine rv_aload_n hX dX4_done_209 rfl ?_
                  refine mv_ga hX (k := 1) (j := 1) gX4_7_X4 (by decide) rfl (by decide) dX4_done_210 ?_
                  refine nv_iconst hX (m := 1) (by decide) dX4_done_213 ?_
                  refine rv_dup2 hX dX4_done_214 rfl rfl ?_
                  refine mv_ld hX (j := 1) (by decide) (by decide) rfl (by decide) (show _ < 11 by omega) dX4_done_215 ?_
                  rw [hcp.2.2.2.2.2.1 1 (by decide), show (rv_sU τ_181 3 16 (nI s.w.nr)).2.1 1 1 = nI s.w.R.length from s1.1.1.rules.2.1]
                  refine nv_iconst hX (m := 1) (by decide) dX4_done_216 ?_
                  first | refine nv_iadd hX dX4_done_217 ?_ | refine rv_iadd hX dX4_done_217 ?_
                  refine mv_st hX (j := 1) (by decide) (by decide) rfl (by decide) (show _ < 11 by omega) dX4_done_218 ?_
                  refine rv_aload_n hX dX4_done_219 rfl ?_
                  refine mv_ga hX (k := 1) (j := 1) gX4_7_X4 (by decide) rfl (by decide) dX4_done_220 ?_
                  refine nv_iconst hX (m := 3) (by decide) dX4_done_223 ?_
                  refine rv_dup2 hX dX4_done_224 rfl rfl ?_
                  refine mv_ld hX (j := 1) (by decide) (by decide) rfl (by decide) (show _ < 11 by omega) dX4_done_225 ?_
                  rw [rv_sU_2, if_neg (fun q => absurd q.2 (by decide)), hcp.2.2.2.2.2.1 1 (by decide), show (rv_sU τ_181 3 16 (nI s.w.nr)).2.1 1 3 = nI s.w.nr from s1.1.1.nr]
                  refine nv_iconst hX (m := 1) (by decide) dX4_done_226 ?_
                  first | refine nv_iadd hX dX4_done_227 ?_ | refine rv_iadd hX dX4_done_227 ?_
                  refine mv_st hX (j := 1) (by decide) (by decide) rfl (by decide) (show _ < 11 by omega) dX4_done_228 ?_
                  have hB := mDraft.body hS3 (s1.2.1.n16 (v := nI s.w.nr)) hw hwh (n := s.w.nr) (by rw [rv_sU_2, if_pos ⟨rfl, rfl⟩])
                  have hs1 : rv_same [] [1] τ_206 (rv_sU (rv_sU τ_206 1 1 (nI (s.w.R.length + 1))) 1 3 (nI (s.w.nr + 1))) := (rv_same.u (by decide)).tr (.u (by decide))
                  have hs2 : rv_same [] [1, 3, 4, 5, 6, 7, 8, 9, 10, 11, 12] τ_181 (rv_sU (rv_sU τ_206 1 1 (nI (s.w.R.length + 1))) 1 3 (nI (s.w.nr + 1))) := ((rv_same.u (by decide)).tr (hcp.2.2.2.2.mn (by decide) (by decide))).tr (hs1.mn (by decide) (by decide))
                  have g1 : ∀ i, (rv_sU (rv_sU τ_206 1 1 (nI (s.w.R.length + 1))) 1 3 (nI (s.w.nr + 1))).2.1 1 i = if i = 3 then nI (s.w.nr + 1) else if i = 1 then nI (s.w.R.length + 1) else τ_181.2.1 1 i := fun i => by
                    rw [rv_sU_2]
                    by_cases q : i = 3
                    · rw [if_pos ⟨rfl, q⟩, if_pos q]
                    · rw [if_neg (fun a => q a.2), if_neg q, rv_sU_2]
                      by_cases q2 : i = 1
                      · rw [if_pos ⟨rfl, q2⟩, if_pos q2]
                      · rw [if_neg (fun a => q2 a.2), if_neg q2, hcp.2.2.2.2.2.1 1 (by decide)]
                        rfl
                  have e3 : (rv_sU (rv_sU τ_206 1 1 (nI (s.w.R.length + 1))) 1 3 (nI (s.w.nr + 1))).2.1 3 16 = nI s.w.nr := by
                    rw [hs1.2.1 3 (by decide), hcp.1 3 (by decide), if_neg (by omega), rv_sU_2, if_pos ⟨rfl, rfl⟩]
                  generalize rv_sU (rv_sU τ_206 1 1 (nI (s.w.R.length + 1))) 1 3 (nI (s.w.nr + 1)) = υ at hs1 hs2 g1 e3
                  obtain ⟨dep, hdp⟩ := s1.2.2.2
                  have hW : mW0 υ (s.w.setR (s.w.R ++ [s.d.C s.w.nr]) (s.w.nr + 1)) := by
                    refine s1.1.1.chR hs2 (by decide) (fun i i2 i4 => by rw [g1, if_neg i4, if_neg i2]) (by rw [g1, if_neg (by decide), if_pos rfl, List.length_append]; rfl) (by rw [g1, if_pos rfl]) (by rw [List.length_append]; show s.w.R.length + 1 ≤ 10; omega) (fun i C e => ?_) (fun i C e => ?_)
                    · by_cases q : i = s.w.R.length
                      · rw [q, List.getElem?_append_right (Nat.le_refl _), Nat.sub_self] at e
                        cases e
                        rw [q]
                        exact ⟨(hB.cp hS3 hcp hC).same hs1 (by decide), hC⟩
                      · have hi1 : i < s.w.R.length := by
                          have hk9 := (List.getElem?_eq_some_iff.mp e).1
                          rw [List.length_append] at hk9
                          have hk8 : i < s.w.R.length + 1 := hk9
                          omega
                        rw [List.getElem?_append_left hi1] at e
                        obtain ⟨b1, b2⟩ := s1.1.1.rules.2.2.2 i C e
                        exact ⟨((b1.n16 (by omega)).cpo hS3 hcp b2 (by omega)).same hs1 (by decide), b2⟩
                    · have hi1 := (List.getElem?_eq_some_iff.mp e).1
                      obtain ⟨b1, b2⟩ := s1.1.1.deeds.2.2.2 i C e
                      exact ((b1.n16 (by omega)).cpo hS3 hcp b2 (by omega)).same hs1 (by decide)
                  have hdr := ((s1.2.1.n16 (v := nI s.w.nr)).cpo hS3 hcp (by omega) hw).same hs1 (by decide) (by decide)
                  have hsv := s2.same hs2 (by decide)
                  have hbg := s1.2.2.1.same hs2 (by decide) (by decide)
                  have hen := s1.1.2.same hs2 (by decide)
                  have hdp2 := hdp.same hs2 (by decide)
                  have bad : ∀ (τ' τ'' : rv_S), rv_same [29, 30, 31, 32, 33, 34, 39] [1, 15, 16, 22, 23, 24, 25, 26, 27, 28, 29, 30, 31, 32, 33, 34] υ τ' → (s.w.setR (s.w.R ++ [s.d.C s.w.nr]) (s.w.nr + 1)).stl = none → (mW τ'' s.w ∧ rv_same [] [1, 2, 3, 4, 5, 6, 7, 8, 9, 10, 11, 12, 13, 14, 15, 16, 17] (rv_sF τ' 0 (nI 1)) τ'' ∧ ∀ (S : List Nat) (dr : wDr), mDraft (rv_sF τ' 0 (nI 1)) S dr → mDraft τ'' S dr) → ∀ r, mRes τ'' r (o_done s) := by
                    intro τ' τ'' hs hno ⟨b1, b2, b3⟩ r
                    rw [hunf, hno]
                    refine ⟨by rw [b2.1 0 (by decide)]; rfl, fun e => absurd e (show ¬ 1 = 0 by decide), b1, b3 _ _ ((hdr.same hs (by decide) (by decide)).same (.f (fs := [0]) (js := []) (by decide)) (by decide) (by decide)), ((hbg.same hs (by decide) (by decide)).same (.f (fs := [0]) (js := []) (by decide)) (by decide) (by decide)).same b2 (by decide) (by decide), dep, ((hdp2.same hs (by decide)).same (.f (fs := [0]) (js := []) (by decide)) (by decide)).same b2 (by decide)⟩
                  refine rv_aload_n hX dX4_done_229 rfl ?_
                  refine rv_aload_n hX dX4_done_230 rfl ?_
                  refine mv_callz hX iX4_257 rfl mdX4_findStrata (m_findStrata hG (d := d - 1) (by omega) hW.rules) (by omega) rfl rfl (Nat.le_of_ble_eq_true rfl) dX4_done_231 (fun r_231 τ_231 h_231 => ?_)
                  obtain ⟨f1, f2, f3, f4⟩ := h_231
                  first | refine zv_if_eq hX 248 dX4_done_234 (by decide) (fun c_234 => ?_) (fun c_234 => ?_) | refine nv_if_eq hX 248 (by omega) dX4_done_234 (by decide) (fun c_234 => ?_) (fun c_234 => ?_) | refine rv_if_eq hX 248 dX4_done_234 (by decide) (fun c_234 => ?_) (fun c_234 => ?_)
                  · skip
                    have hno : (s.w.setR (s.w.R ++ [s.d.C s.w.nr]) (s.w.nr + 1)).stl = none := by
                      unfold wW.stl
                      rw [sp_set_str ?_]
                      · rfl
                      · cases e : sp_strata (s.w.setR (s.w.R ++ [s.d.C s.w.nr]) (s.w.nr + 1)).R with
                        | none => rfl
                        | some st => have := (f2 st e).1; rw [c_234] at this; exact absurd this (by decide)
                    refine nv_iconst hX (m := 1) (by decide) dX4_done_248 ?_
                    refine mv_callz hX iX4_266 rfl mdX4_goesWell (m_goesWellN hG (by decide) (by decide) (d := d - 1)) (by omega) rfl rfl (Nat.le_of_ble_eq_true rfl) dX4_done_249 (fun r_249 τ_249 h_249 => ?_)
                    obtain ⟨rfl, rfl⟩ := h_249
                    refine rv_if_ne hX 262 dX4_done_252 (by decide) (fun q => absurd q (by decide)) (fun _ => ?_)
                    refine rv_aload_n hX dX4_done_255 rfl ?_
                    refine nv_iconst hX (m := 3) (by decide) dX4_done_256 ?_
                    refine mv_callv hX iX4_287 rfl mdX4_bringBack (m_bringW hG (d := d - 1) (by omega) (i := 3) (w := s.w) (Nat.le_refl _) (by first | exact ((hsv.same f1 (by decide)).same q1 (by decide)).same (.f (fs := [0]) (js := []) (by decide)) (by decide) | exact (hsv.same f1 (by decide)).same (.f (fs := [0]) (js := []) (by decide)) (by decide))) (by omega) rfl rfl (Nat.le_of_ble_eq_true rfl) dX4_done_257 (fun τ_257 h_257 => ?_)
                    have hbr := h_257
                    refine nv_iconst hX (m := 0) (by decide) dX4_done_260 ?_
                    refine mv_reti hX hE dX4_done_261 ?_
                    first
                    | exact bad _ _ ((f1.mn (by decide) (by decide)).tr q1) hno hbr _
                    | exact bad _ _ (f1.mn (by decide) (by decide)) hno hbr _
                  · skip
                    obtain ⟨st, hst⟩ : ∃ st, sp_strata (s.w.setR (s.w.R ++ [s.d.C s.w.nr]) (s.w.nr + 1)).R = some st := by
                      cases e : sp_strata (s.w.setR (s.w.R ++ [s.d.C s.w.nr]) (s.w.nr + 1)).R with
                      | none => have := f3 e; rw [c_234] at this; exact absurd this (by decide)
                      | some st => exact ⟨st, rfl⟩
                    refine rv_aload_n hX dX4_done_237 rfl ?_
                    refine mv_callz hX iX4_284 rfl mdX4_settle (m_settleW hG (d := d - 1) (by omega) (hW.same f1 (by decide)) hst (hwf.st (by omega)) ⟨dep, hdp2.same f1 (by decide)⟩) (by omega) rfl rfl (Nat.le_of_ble_eq_true rfl) dX4_done_238 (fun r_238 τ_238 h_238 => ?_)
                    obtain ⟨q1, q2, q3⟩ := h_238
                    first | refine zv_if_eq hX 248 dX4_done_241 (by decide) (fun c_241 => ?_) (fun c_241 => ?_) | refine nv_if_eq hX 248 (by omega) dX4_done_241 (by decide) (fun c_241 => ?_) (fun c_241 => ?_) | refine rv_if_eq hX 248 dX4_done_241 (by decide) (fun c_241 => ?_) (fun c_241 => ?_)
                    · skip
                      have hno : (s.w.setR (s.w.R ++ [s.d.C s.w.nr]) (s.w.nr + 1)).stl = none := by
                        rcases q3 with ⟨r1, -⟩ | ⟨-, r2⟩
                        · rw [c_241] at r1; exact absurd r1 (by decide)
                        · exact r2
                      refine nv_iconst hX (m := 1) (by decide) dX4_done_248 ?_
                      refine mv_callz hX iX4_266 rfl mdX4_goesWell (m_goesWellN hG (by decide) (by decide) (d := d - 1)) (by omega) rfl rfl (Nat.le_of_ble_eq_true rfl) dX4_done_249 (fun r_249 τ_249 h_249 => ?_)
                      obtain ⟨rfl, rfl⟩ := h_249
                      refine rv_if_ne hX 262 dX4_done_252 (by decide) (fun q => absurd q (by decide)) (fun _ => ?_)
                      refine rv_aload_n hX dX4_done_255 rfl ?_
                      refine nv_iconst hX (m := 3) (by decide) dX4_done_256 ?_
                      refine mv_callv hX iX4_287 rfl mdX4_bringBack (m_bringW hG (d := d - 1) (by omega) (i := 3) (w := s.w) (Nat.le_refl _) (by first | exact ((hsv.same f1 (by decide)).same q1 (by decide)).same (.f (fs := [0]) (js := []) (by decide)) (by decide) | exact (hsv.same f1 (by decide)).same (.f (fs := [0]) (js := []) (by decide)) (by decide))) (by omega) rfl rfl (Nat.le_of_ble_eq_true rfl) dX4_done_257 (fun τ_257 h_257 => ?_)
                      have hbr := h_257
                      refine nv_iconst hX (m := 0) (by decide) dX4_done_260 ?_
                      refine mv_reti hX hE dX4_done_261 ?_
                      first
                      | exact bad _ _ ((f1.mn (by decide) (by decide)).tr q1) hno hbr _
                      | exact bad _ _ (f1.mn (by decide) (by decide)) hno hbr _
                    · skip
                      obtain ⟨w', hst1, hw1⟩ : ∃ w', (s.w.setR (s.w.R ++ [s.d.C s.w.nr]) (s.w.nr + 1)).stl = some w' ∧ mW0 τ_238 w' := by
                        rcases q3 with ⟨-, r2⟩ | ⟨r1, -⟩
                        · exact r2
                        · rw [c_241] at r1; exact absurd r1 (by decide)
                      refine nv_iconst hX (m := 0) (by decide) dX4_done_244 ?_
                      refine rv_goto hX 249 dX4_done_245 (by decide) ?_
                      refine mv_callz hX iX4_266 rfl mdX4_goesWell (m_goesWell0 hG (d := d - 1)) (by omega) rfl rfl (Nat.le_of_ble_eq_true rfl) dX4_done_249 (fun r_249 τ_249 h_249 => ?_)
                      obtain ⟨rfl, rfl⟩ := h_249
                      refine rv_if_ne hX 262 dX4_done_252 (by decide) (fun _ => ?_) (fun q => absurd q (by decide))
                      refine rv_aload_n hX dX4_done_262 rfl ?_
                      refine nv_iconst hX (m := 0) (by decide) dX4_done_263 ?_
                      refine mv_pi hX (k := 23) pX4_302_X4 (by decide) rfl rfl rfl dX4_done_264 ?_
                      refine rv_aload_n hX dX4_done_267 rfl ?_
                      refine mv_ga hX (k := 3) (j := 3) gX4_16_X4 (by decide) rfl (by decide) dX4_done_268 ?_
                      refine nv_bipush hX (m := 16) (by decide) dX4_done_271 ?_
                      refine mv_ld hX (j := 3) (by decide) (by decide) rfl (by decide) (show _ < 17 by omega) dX4_done_273 ?_
                      refine mv_reti hX hE dX4_done_274 ?_
                      rw [hunf, hst1]
                      obtain ⟨F9, -, rfl⟩ := wW.stl_spec hst1
                      have hall := (f1.mn (fs' := [29, 30, 31, 32, 33, 34, 39]) (js' := [1, 15, 16, 22, 23, 24, 25, 26, 27, 28, 29, 30, 31, 32, 33, 34]) (by decide) (by decide)).tr q1
                      obtain ⟨dep3, hd3⟩ := q2
                      have hs9 : rv_same [0, 23] [] τ_238 (rv_sF (rv_sF τ_238 0 (nI 0)) 23 (nI 0)) := (rv_same.f (by decide)).tr (.f (by decide))
                      have hdr9 := hdr.same hall (by decide) (by decide)
                      exact ⟨rfl, fun _ => by show τ_238.2.1 3 16 = nI s.w.nr; rw [hall.2.1 3 (by decide)]; exact e3, ⟨hw1.same hs9 (by decide), (hen.same hall (by decide)).same hs9 (by decide)⟩, ⟨rfl, Nat.zero_le _, hdr9.2.2.1, hdr9.2.2.2.1, hdr9.2.2.2.2.1, fun e => absurd rfl e⟩, (hbg.same hall (by decide) (by decide)).same hs9 (by decide) (by decide), dep3, hd3.same hs9 (by decide)⟩
                · skip
                  have hunf : o_done s = (0, nI s.w.nd, (s.setw (s.w.setD (s.w.D ++ [s.d.C s.w.nd]) (s.w.nd + 1))).setd s.d.off) := by
                    unfold o_done
                    rw [if_neg (by rw [hyes]; decide), if_pos (by omega)]
                  refine rv_aload_n hX dX4_done_128 rfl ?_
                  refine mv_ga hX (k := 3) (j := 3) gX4_16_X4 (by decide) rfl (by decide) dX4_done_129 ?_
                  refine nv_bipush hX (m := 16) (by decide) dX4_done_132 ?_
                  refine rv_aload_n hX dX4_done_134 rfl ?_
                  refine mv_ga hX (k := 1) (j := 1) gX4_7_X4 (by decide) rfl (by decide) dX4_done_135 ?_
                  refine nv_iconst hX (m := 4) (by decide) dX4_done_138 ?_
                  refine mv_ld hX (j := 1) (by decide) (by decide) rfl (by decide) (show _ < 11 by omega) dX4_done_139 ?_
                  rw [show (rv_sF τ_42 0 (nI 0)).2.1 1 4 = nI s.w.nd from h.1.1.nd]
                  refine mv_st hX (j := 3) (by decide) (by decide) rfl (by decide) (show _ < 17 by omega) dX4_done_140 ?_
                  refine rv_aload_n hX dX4_done_141 rfl ?_
                  refine nv_bipush hX (m := 16) (by decide) dX4_done_142 ?_
                  refine nv_bipush hX (m := 10) (by decide) dX4_done_144 ?_
                  refine rv_aload_n hX dX4_done_146 rfl ?_
                  refine mv_ga hX (k := 1) (j := 1) gX4_7_X4 (by decide) rfl (by decide) dX4_done_147 ?_
                  refine nv_iconst hX (m := 2) (by decide) dX4_done_150 ?_
                  refine mv_ld hX (j := 1) (by decide) (by decide) rfl (by decide) (show _ < 11 by omega) dX4_done_151 ?_
                  rw [show (rv_sU (rv_sF τ_42 0 (nI 0)) 3 16 (nI s.w.nd)).2.1 1 2 = nI s.w.D.length from h.1.1.deeds.2.1]
                  first | refine nv_iadd hX dX4_done_152 ?_ | refine rv_iadd hX dX4_done_152 ?_
                  refine mv_callv hX iX4_326 rfl mdX4_copyBody (m_copyBody hG (d := d - 1) (by omega) (a := 16) (b := 10 + s.w.D.length) (by decide) (by omega) (by omega)) (by omega) rfl rfl (Nat.le_of_ble_eq_true rfl) dX4_done_153 (fun τ_153 h_153 => ?_)
                  have hcp := h_153
                  refine rv_aload_n hX dX4_done_156 rfl ?_
                  refine mv_ga hX (k := 1) (j := 1) gX4_7_X4 (by decide) rfl (by decide) dX4_done_157 ?_
                  refine nv_iconst hX (m := 2) (by decide) dX4_done_160 ?_
                  refine rv_dup2 hX dX4_done_161 rfl rfl ?_
                  refine mv_ld hX (j := 1) (by decide) (by decide) rfl (by decide) (show _ < 11 by omega) dX4_done_162 ?_
                  rw [hcp.2.2.2.2.2.1 1 (by decide), show (rv_sU (rv_sF τ_42 0 (nI 0)) 3 16 (nI s.w.nd)).2.1 1 2 = nI s.w.D.length from h.1.1.deeds.2.1]
                  refine nv_iconst hX (m := 1) (by decide) dX4_done_163 ?_
                  first | refine nv_iadd hX dX4_done_164 ?_ | refine rv_iadd hX dX4_done_164 ?_
                  refine mv_st hX (j := 1) (by decide) (by decide) rfl (by decide) (show _ < 11 by omega) dX4_done_165 ?_
                  refine rv_aload_n hX dX4_done_166 rfl ?_
                  refine mv_ga hX (k := 1) (j := 1) gX4_7_X4 (by decide) rfl (by decide) dX4_done_167 ?_
                  refine nv_iconst hX (m := 4) (by decide) dX4_done_170 ?_
                  refine rv_dup2 hX dX4_done_171 rfl rfl ?_
                  refine mv_ld hX (j := 1) (by decide) (by decide) rfl (by decide) (show _ < 11 by omega) dX4_done_172 ?_
                  rw [rv_sU_2, if_neg (fun q => absurd q.2 (by decide)), hcp.2.2.2.2.2.1 1 (by decide), show (rv_sU (rv_sF τ_42 0 (nI 0)) 3 16 (nI s.w.nd)).2.1 1 4 = nI s.w.nd from h.1.1.nd]
                  refine nv_iconst hX (m := 1) (by decide) dX4_done_173 ?_
                  first | refine nv_iadd hX dX4_done_174 ?_ | refine rv_iadd hX dX4_done_174 ?_
                  refine mv_st hX (j := 1) (by decide) (by decide) rfl (by decide) (show _ < 11 by omega) dX4_done_175 ?_
                  refine rv_goto hX 262 dX4_done_176 (by decide) ?_
                  refine rv_aload_n hX dX4_done_262 rfl ?_
                  refine nv_iconst hX (m := 0) (by decide) dX4_done_263 ?_
                  refine mv_pi hX (k := 23) pX4_302_X4 (by decide) rfl rfl rfl dX4_done_264 ?_
                  refine rv_aload_n hX dX4_done_267 rfl ?_
                  refine mv_ga hX (k := 3) (j := 3) gX4_16_X4 (by decide) rfl (by decide) dX4_done_268 ?_
                  refine nv_bipush hX (m := 16) (by decide) dX4_done_271 ?_
                  refine mv_ld hX (j := 3) (by decide) (by decide) rfl (by decide) (show _ < 17 by omega) dX4_done_273 ?_
                  refine mv_reti hX hE dX4_done_274 ?_
                  rw [hunf]
                  have hth := h.thrown (nI 0)
                  have hC := wDr.C_wf hS3 hw hwh hsd (n := s.w.nd) (by omega)
                  have hB := mDraft.body hS3 (hth.2.1.n16 (v := nI s.w.nd)) hw hwh (n := s.w.nd) (by rw [rv_sU_2, if_pos ⟨rfl, rfl⟩])
                  have hs1 : rv_same [23] [1] τ_153 (rv_sF (rv_sU (rv_sU τ_153 1 2 (nI (s.w.D.length + 1))) 1 4 (nI (s.w.nd + 1))) 23 (nI 0)) := ((rv_same.u (by decide)).tr (.u (by decide))).tr (.f (by decide))
                  have hs2 : rv_same [23] [1, 3, 4, 5, 6, 7, 8, 9, 10, 11, 12] (rv_sF τ_42 0 (nI 0)) (rv_sF (rv_sU (rv_sU τ_153 1 2 (nI (s.w.D.length + 1))) 1 4 (nI (s.w.nd + 1))) 23 (nI 0)) := ((rv_same.u (by decide)).tr (hcp.2.2.2.2.mn (by decide) (by decide))).tr (hs1.mn (by decide) (by decide))
                  have g1 : ∀ i, (rv_sF (rv_sU (rv_sU τ_153 1 2 (nI (s.w.D.length + 1))) 1 4 (nI (s.w.nd + 1))) 23 (nI 0)).2.1 1 i = if i = 4 then nI (s.w.nd + 1) else if i = 2 then nI (s.w.D.length + 1) else τ_42.2.1 1 i := fun i => by
                    rw [rv_sF_2, rv_sU_2]
                    by_cases q : i = 4
                    · rw [if_pos ⟨rfl, q⟩, if_pos q]
                    · rw [if_neg (fun a => q a.2), if_neg q, rv_sU_2]
                      by_cases q2 : i = 2
                      · rw [if_pos ⟨rfl, q2⟩, if_pos q2]
                      · rw [if_neg (fun a => q2 a.2), if_neg q2, hcp.2.2.2.2.2.1 1 (by decide)]
                        rfl
                  have e3 : (rv_sF (rv_sU (rv_sU τ_153 1 2 (nI (s.w.D.length + 1))) 1 4 (nI (s.w.nd + 1))) 23 (nI 0)).2.1 3 16 = nI s.w.nd := by
                    rw [hs1.2.1 3 (by decide), hcp.1 3 (by decide), if_neg (by omega), rv_sU_2, if_pos ⟨rfl, rfl⟩]
                  have h23 : (rv_sF (rv_sU (rv_sU τ_153 1 2 (nI (s.w.D.length + 1))) 1 4 (nI (s.w.nd + 1))) 23 (nI 0)).1 23 = nI 0 := rfl
                  generalize rv_sF (rv_sU (rv_sU τ_153 1 2 (nI (s.w.D.length + 1))) 1 4 (nI (s.w.nd + 1))) 23 (nI 0) = υ at hs1 hs2 g1 e3 h23
                  obtain ⟨dep, hdp⟩ := hth.2.2.2
                  have hdr := (hth.2.1.n16 (v := nI s.w.nd)).cpo hS3 hcp (by omega) hw
                  refine ⟨by rw [hs2.1 0 (by decide)]; rfl, fun _ => e3, ⟨hth.1.1.chD hs2 (by decide) (fun i i2 i4 => by rw [g1, if_neg i4, if_neg i2]; rfl) (by rw [g1, if_neg (by decide), if_pos rfl, List.length_append]; rfl) (by rw [g1, if_pos rfl]) (by rw [List.length_append]; show s.w.D.length + 1 ≤ 6; omega) (fun i C e => ?_) (fun i C e => ?_), hth.1.2.same hs2 (by decide)⟩, ?_, hth.2.2.1.same hs2 (by decide) (by decide), dep, hdp.same hs2 (by decide)⟩
                  · by_cases q : i = s.w.D.length
                    · rw [q, List.getElem?_append_right (Nat.le_refl _), Nat.sub_self] at e
                      cases e
                      rw [q]
                      exact ⟨(hB.cp hS3 hcp hC).same hs1 (by decide), hC⟩
                    · have hi1 : i < s.w.D.length := by
                        have hk9 := (List.getElem?_eq_some_iff.mp e).1
                        rw [List.length_append] at hk9
                        have hk8 : i < s.w.D.length + 1 := hk9
                        omega
                      rw [List.getElem?_append_left hi1] at e
                      obtain ⟨b1, b2⟩ := hth.1.1.deeds.2.2.2 i C e
                      exact ⟨((b1.n16 (by omega)).cpo hS3 hcp b2 (by omega)).same hs1 (by decide), b2⟩
                  · have hi1 := (List.getElem?_eq_some_iff.mp e).1
                    obtain ⟨b1, b2⟩ := hth.1.1.rules.2.2.2 i C e
                    exact ((b1.n16 (by omega)).cpo hS3 hcp b2 (by omega)).same hs1 (by decide)
                  · refine ⟨h23, Nat.zero_le _, ?_, ?_, ?_, fun e => absurd rfl e⟩
                    · rw [hs1.2.1 10 (by decide)]; exact hdr.2.2.1
                    · rw [hs1.2.1 11 (by decide)]; exact hdr.2.2.2.1
                    · rw [hs1.2.1 12 (by decide)]; exact hdr.2.2.2.2.1
        · skip
          refine rv_aload_n hX dX4_done_32 rfl ?_
          refine nv_bipush hX (m := 16) (by decide) dX4_done_33 ?_
          refine mv_calli hX iX4_317 rfl mdX4_atomsOf (m_atomsOf hG (d := d - 1) (by omega) (b := 16) (by decide) d4 d3 (fun i it e => ⟨by have := (d7 i it e).1; exact this, (hw8 it (List.mem_of_getElem? e)).1⟩)) (by omega) rfl rfl (Nat.le_of_ble_eq_true rfl) dX4_done_35 (fun r_35 τ_35 h_35 => ?_)
          obtain ⟨rfl, rfl⟩ := h_35
          first | refine nv_if_le hX 52 (by omega) dX4_done_38 (by decide) (fun c_38 => ?_) (fun c_38 => ?_) | refine rv_if_le hX 52 dX4_done_38 (by decide) (fun c_38 => ?_) (fun c_38 => ?_)
          · skip
            refine nv_iconst hX (m := 0) (by decide) dX4_done_52 ?_
            refine rv_istore_n hX dX4_done_53 (rv_st_1 rfl) ?_
            refine rv_aload_n hX dX4_done_54 rfl ?_
            refine mv_gi hX (k := 23) gX4_302_X4 (by decide) rfl dX4_done_55 ?_
            rw [h.2.1.1]
            refine nv_iconst hX (m := 1) (by decide) dX4_done_58 ?_
            first | refine nv_icmp_ne hX 81 (by omega) (by omega) dX4_done_59 (by decide) (fun c_59 => ?_) (fun c_59 => ?_) | refine rv_icmp_ne hX 81 dX4_done_59 (by decide) (fun c_59 => ?_) (fun c_59 => ?_)
            · skip
              refine rv_aload_n hX dX4_done_81 rfl ?_
              refine mv_ga hX (k := 1) (j := 1) gX4_7_X4 (by decide) rfl (by decide) dX4_done_82 ?_
              refine nv_iconst hX (m := 2) (by decide) dX4_done_85 ?_
              refine mv_ld hX (j := 1) (by decide) (by decide) rfl (by decide) (show _ < 11 by omega) dX4_done_86 ?_
              rw [h.1.1.deeds.2.1]
              refine nv_bipush hX (m := 6) (by decide) dX4_done_87 ?_
              first | refine nv_icmp_ge hX 96 (by omega) (by omega) dX4_done_89 (by decide) (fun c_89 => ?_) (fun c_89 => ?_) | refine rv_icmp_ge hX 96 dX4_done_89 (by decide) (fun c_89 => ?_) (fun c_89 => ?_)
              · skip
                refine nv_iconst hX (m := 0) (by decide) dX4_done_96 ?_
                refine rv_istore_n hX dX4_done_97 (rv_st_2 rfl) ?_
                refine rv_aload_n hX dX4_done_98 rfl ?_
                refine rv_iload_n hX dX4_done_99 rfl ?_
                refine rv_if_eq hX 111 dX4_done_100 (by decide) (fun _ => ?_) (fun q => absurd q (by decide))
                refine nv_iconst hX (m := 1) (by decide) dX4_done_111 ?_
                refine mv_callz hX iX4_266 rfl mdX4_goesWell (m_goesWellN hG (by decide) (by decide) (d := d - 1)) (by omega) rfl rfl (Nat.le_of_ble_eq_true rfl) dX4_done_112 (fun r_112 τ_112 h_112 => ?_)
                obtain ⟨rfl, rfl⟩ := h_112
                refine rv_if_ne hX 120 dX4_done_115 (by decide) (fun q => absurd q (by decide)) (fun _ => ?_)
                refine nv_iconst hX (m := 0) (by decide) dX4_done_118 ?_
                refine mv_reti hX hE dX4_done_119 ?_
                have hno : wDr.ready s = false := by
                  cases e : wDr.ready s with
                  | false => rfl
                  | true =>
                    obtain ⟨a1, a2, a3, a4, a5, a6, a7⟩ := wDr.ready_spec.mp e
                    exfalso
                    first
                      | omega
                      | exact absurd ((hl.trans a3).symm.trans c_11) (by decide)
                      | exact a2 (List.eq_nil_of_length_eq_zero (by omega))
                      | exact absurd ((hs.trans a5).symm.trans c_45) (by decide)
                unfold o_done
                rw [if_pos hno]
                exact h.th (by decide)
              · skip
                refine nv_iconst hX (m := 1) (by decide) dX4_done_92 ?_
                refine rv_goto hX 97 dX4_done_93 (by decide) ?_
                refine rv_istore_n hX dX4_done_97 (rv_st_2 rfl) ?_
                refine rv_aload_n hX dX4_done_98 rfl ?_
                refine rv_iload_n hX dX4_done_99 rfl ?_
                refine rv_if_eq hX 111 dX4_done_100 (by decide) (fun _ => ?_) (fun q => absurd q (by decide))
                refine nv_iconst hX (m := 1) (by decide) dX4_done_111 ?_
                refine mv_callz hX iX4_266 rfl mdX4_goesWell (m_goesWellN hG (by decide) (by decide) (d := d - 1)) (by omega) rfl rfl (Nat.le_of_ble_eq_true rfl) dX4_done_112 (fun r_112 τ_112 h_112 => ?_)
                obtain ⟨rfl, rfl⟩ := h_112
                refine rv_if_ne hX 120 dX4_done_115 (by decide) (fun q => absurd q (by decide)) (fun _ => ?_)
                refine nv_iconst hX (m := 0) (by decide) dX4_done_118 ?_
                refine mv_reti hX hE dX4_done_119 ?_
                have hno : wDr.ready s = false := by
                  cases e : wDr.ready s with
                  | false => rfl
                  | true =>
                    obtain ⟨a1, a2, a3, a4, a5, a6, a7⟩ := wDr.ready_spec.mp e
                    exfalso
                    first
                      | omega
                      | exact absurd ((hl.trans a3).symm.trans c_11) (by decide)
                      | exact a2 (List.eq_nil_of_length_eq_zero (by omega))
                      | exact absurd ((hs.trans a5).symm.trans c_45) (by decide)
                unfold o_done
                rw [if_pos hno]
                exact h.th (by decide)
            · skip
              refine rv_aload_n hX dX4_done_62 rfl ?_
              refine mv_ga hX (k := 1) (j := 1) gX4_7_X4 (by decide) rfl (by decide) dX4_done_63 ?_
              refine nv_iconst hX (m := 1) (by decide) dX4_done_66 ?_
              refine mv_ld hX (j := 1) (by decide) (by decide) rfl (by decide) (show _ < 11 by omega) dX4_done_67 ?_
              rw [h.1.1.rules.2.1]
              refine nv_bipush hX (m := 10) (by decide) dX4_done_68 ?_
              first | refine nv_icmp_ge hX 77 (by omega) (by omega) dX4_done_70 (by decide) (fun c_70 => ?_) (fun c_70 => ?_) | refine rv_icmp_ge hX 77 dX4_done_70 (by decide) (fun c_70 => ?_) (fun c_70 => ?_)
              · skip
                refine nv_iconst hX (m := 0) (by decide) dX4_done_77 ?_
                refine rv_goto hX 97 dX4_done_78 (by decide) ?_
                refine rv_istore_n hX dX4_done_97 (rv_st_2 rfl) ?_
                refine rv_aload_n hX dX4_done_98 rfl ?_
                refine rv_iload_n hX dX4_done_99 rfl ?_
                refine rv_if_eq hX 111 dX4_done_100 (by decide) (fun _ => ?_) (fun q => absurd q (by decide))
                refine nv_iconst hX (m := 1) (by decide) dX4_done_111 ?_
                refine mv_callz hX iX4_266 rfl mdX4_goesWell (m_goesWellN hG (by decide) (by decide) (d := d - 1)) (by omega) rfl rfl (Nat.le_of_ble_eq_true rfl) dX4_done_112 (fun r_112 τ_112 h_112 => ?_)
                obtain ⟨rfl, rfl⟩ := h_112
                refine rv_if_ne hX 120 dX4_done_115 (by decide) (fun q => absurd q (by decide)) (fun _ => ?_)
                refine nv_iconst hX (m := 0) (by decide) dX4_done_118 ?_
                refine mv_reti hX hE dX4_done_119 ?_
                have hno : wDr.ready s = false := by
                  cases e : wDr.ready s with
                  | false => rfl
                  | true =>
                    obtain ⟨a1, a2, a3, a4, a5, a6, a7⟩ := wDr.ready_spec.mp e
                    exfalso
                    first
                      | omega
                      | exact absurd ((hl.trans a3).symm.trans c_11) (by decide)
                      | exact a2 (List.eq_nil_of_length_eq_zero (by omega))
                      | exact absurd ((hs.trans a5).symm.trans c_45) (by decide)
                unfold o_done
                rw [if_pos hno]
                exact h.th (by decide)
              · skip
                refine nv_iconst hX (m := 1) (by decide) dX4_done_73 ?_
                refine rv_goto hX 97 dX4_done_74 (by decide) ?_
                refine rv_istore_n hX dX4_done_97 (rv_st_2 rfl) ?_
                refine rv_aload_n hX dX4_done_98 rfl ?_
                refine rv_iload_n hX dX4_done_99 rfl ?_
                refine rv_if_eq hX 111 dX4_done_100 (by decide) (fun _ => ?_) (fun q => absurd q (by decide))
                refine nv_iconst hX (m := 1) (by decide) dX4_done_111 ?_
                refine mv_callz hX iX4_266 rfl mdX4_goesWell (m_goesWellN hG (by decide) (by decide) (d := d - 1)) (by omega) rfl rfl (Nat.le_of_ble_eq_true rfl) dX4_done_112 (fun r_112 τ_112 h_112 => ?_)
                obtain ⟨rfl, rfl⟩ := h_112
                refine rv_if_ne hX 120 dX4_done_115 (by decide) (fun q => absurd q (by decide)) (fun _ => ?_)
                refine nv_iconst hX (m := 0) (by decide) dX4_done_118 ?_
                refine mv_reti hX hE dX4_done_119 ?_
                have hno : wDr.ready s = false := by
                  cases e : wDr.ready s with
                  | false => rfl
                  | true =>
                    obtain ⟨a1, a2, a3, a4, a5, a6, a7⟩ := wDr.ready_spec.mp e
                    exfalso
                    first
                      | omega
                      | exact absurd ((hl.trans a3).symm.trans c_11) (by decide)
                      | exact a2 (List.eq_nil_of_length_eq_zero (by omega))
                      | exact absurd ((hs.trans a5).symm.trans c_45) (by decide)
                unfold o_done
                rw [if_pos hno]
                exact h.th (by decide)
          · skip
            have hwh : s.d.whole s.w.S := ⟨by omega, fun e => by rw [e] at c_21; exact absurd c_21 (by decide), by rw [← hl]; exact c_11⟩
            refine rv_aload_n hX dX4_done_41 rfl ?_
            refine mv_callz hX iX4_323 rfl mdX4_isSound (m_isSound hG (d := d - 1) (by omega) h.1.1.rel h.2.1 hw hwh) (by omega) rfl rfl (Nat.le_of_ble_eq_true rfl) dX4_done_42 (fun r_42 τ_42 h_42 => ?_)
            obtain ⟨rfl, hs⟩ := h_42
            first | refine zv_if_eq hX 52 dX4_done_45 (by decide) (fun c_45 => ?_) (fun c_45 => ?_) | refine nv_if_eq hX 52 (by omega) dX4_done_45 (by decide) (fun c_45 => ?_) (fun c_45 => ?_) | refine rv_if_eq hX 52 dX4_done_45 (by decide) (fun c_45 => ?_) (fun c_45 => ?_)
            · skip
              refine nv_iconst hX (m := 0) (by decide) dX4_done_52 ?_
              refine rv_istore_n hX dX4_done_53 (rv_st_1 rfl) ?_
              refine rv_aload_n hX dX4_done_54 rfl ?_
              refine mv_gi hX (k := 23) gX4_302_X4 (by decide) rfl dX4_done_55 ?_
              rw [h.2.1.1]
              refine nv_iconst hX (m := 1) (by decide) dX4_done_58 ?_
              first | refine nv_icmp_ne hX 81 (by omega) (by omega) dX4_done_59 (by decide) (fun c_59 => ?_) (fun c_59 => ?_) | refine rv_icmp_ne hX 81 dX4_done_59 (by decide) (fun c_59 => ?_) (fun c_59 => ?_)
              · skip
                refine rv_aload_n hX dX4_done_81 rfl ?_
                refine mv_ga hX (k := 1) (j := 1) gX4_7_X4 (by decide) rfl (by decide) dX4_done_82 ?_
                refine nv_iconst hX (m := 2) (by decide) dX4_done_85 ?_
                refine mv_ld hX (j := 1) (by decide) (by decide) rfl (by decide) (show _ < 11 by omega) dX4_done_86 ?_
                rw [h.1.1.deeds.2.1]
                refine nv_bipush hX (m := 6) (by decide) dX4_done_87 ?_
                first | refine nv_icmp_ge hX 96 (by omega) (by omega) dX4_done_89 (by decide) (fun c_89 => ?_) (fun c_89 => ?_) | refine rv_icmp_ge hX 96 dX4_done_89 (by decide) (fun c_89 => ?_) (fun c_89 => ?_)
                · skip
                  refine nv_iconst hX (m := 0) (by decide) dX4_done_96 ?_
                  refine rv_istore_n hX dX4_done_97 (rv_st_2 rfl) ?_
                  refine rv_aload_n hX dX4_done_98 rfl ?_
                  refine rv_iload_n hX dX4_done_99 rfl ?_
                  refine rv_if_eq hX 111 dX4_done_100 (by decide) (fun _ => ?_) (fun q => absurd q (by decide))
                  refine nv_iconst hX (m := 1) (by decide) dX4_done_111 ?_
                  refine mv_callz hX iX4_266 rfl mdX4_goesWell (m_goesWellN hG (by decide) (by decide) (d := d - 1)) (by omega) rfl rfl (Nat.le_of_ble_eq_true rfl) dX4_done_112 (fun r_112 τ_112 h_112 => ?_)
                  obtain ⟨rfl, rfl⟩ := h_112
                  refine rv_if_ne hX 120 dX4_done_115 (by decide) (fun q => absurd q (by decide)) (fun _ => ?_)
                  refine nv_iconst hX (m := 0) (by decide) dX4_done_118 ?_
                  refine mv_reti hX hE dX4_done_119 ?_
                  have hno : wDr.ready s = false := by
                    cases e : wDr.ready s with
                    | false => rfl
                    | true =>
                      obtain ⟨a1, a2, a3, a4, a5, a6, a7⟩ := wDr.ready_spec.mp e
                      exfalso
                      first
                        | omega
                        | exact absurd ((hl.trans a3).symm.trans c_11) (by decide)
                        | exact a2 (List.eq_nil_of_length_eq_zero (by omega))
                        | exact absurd ((hs.trans a5).symm.trans c_45) (by decide)
                  unfold o_done
                  rw [if_pos hno]
                  exact h.th (by decide)
                · skip
                  refine nv_iconst hX (m := 1) (by decide) dX4_done_92 ?_
                  refine rv_goto hX 97 dX4_done_93 (by decide) ?_
                  refine rv_istore_n hX dX4_done_97 (rv_st_2 rfl) ?_
                  refine rv_aload_n hX dX4_done_98 rfl ?_
                  refine rv_iload_n hX dX4_done_99 rfl ?_
                  refine rv_if_eq hX 111 dX4_done_100 (by decide) (fun _ => ?_) (fun q => absurd q (by decide))
                  refine nv_iconst hX (m := 1) (by decide) dX4_done_111 ?_
                  refine mv_callz hX iX4_266 rfl mdX4_goesWell (m_goesWellN hG (by decide) (by decide) (d := d - 1)) (by omega) rfl rfl (Nat.le_of_ble_eq_true rfl) dX4_done_112 (fun r_112 τ_112 h_112 => ?_)
                  obtain ⟨rfl, rfl⟩ := h_112
                  refine rv_if_ne hX 120 dX4_done_115 (by decide) (fun q => absurd q (by decide)) (fun _ => ?_)
                  refine nv_iconst hX (m := 0) (by decide) dX4_done_118 ?_
                  refine mv_reti hX hE dX4_done_119 ?_
                  have hno : wDr.ready s = false := by
                    cases e : wDr.ready s with
                    | false => rfl
                    | true =>
                      obtain ⟨a1, a2, a3, a4, a5, a6, a7⟩ := wDr.ready_spec.mp e
                      exfalso
                      first
                        | omega
                        | exact absurd ((hl.trans a3).symm.trans c_11) (by decide)
                        | exact a2 (List.eq_nil_of_length_eq_zero (by omega))
                        | exact absurd ((hs.trans a5).symm.trans c_45) (by decide)
                  unfold o_done
                  rw [if_pos hno]
                  exact h.th (by decide)
              · skip
                refine rv_aload_n hX dX4_done_62 rfl ?_
                refine mv_ga hX (k := 1) (j := 1) gX4_7_X4 (by decide) rfl (by decide) dX4_done_63 ?_
                refine nv_iconst hX (m := 1) (by decide) dX4_done_66 ?_
                refine mv_ld hX (j := 1) (by decide) (by decide) rfl (by decide) (show _ < 11 by omega) dX4_done_67 ?_
                rw [h.1.1.rules.2.1]
                refine nv_bipush hX (m := 10) (by decide) dX4_done_68 ?_
                first | refine nv_icmp_ge hX 77 (by omega) (by omega) dX4_done_70 (by decide) (fun c_70 => ?_) (fun c_70 => ?_) | refine rv_icmp_ge hX 77 dX4_done_70 (by decide) (fun c_70 => ?_) (fun c_70 => ?_)
                · skip
                  refine nv_iconst hX (m := 0) (by decide) dX4_done_77 ?_
                  refine rv_goto hX 97 dX4_done_78 (by decide) ?_
                  refine rv_istore_n hX dX4_done_97 (rv_st_2 rfl) ?_
                  refine rv_aload_n hX dX4_done_98 rfl ?_
                  refine rv_iload_n hX dX4_done_99 rfl ?_
                  refine rv_if_eq hX 111 dX4_done_100 (by decide) (fun _ => ?_) (fun q => absurd q (by decide))
                  refine nv_iconst hX (m := 1) (by decide) dX4_done_111 ?_
                  refine mv_callz hX iX4_266 rfl mdX4_goesWell (m_goesWellN hG (by decide) (by decide) (d := d - 1)) (by omega) rfl rfl (Nat.le_of_ble_eq_true rfl) dX4_done_112 (fun r_112 τ_112 h_112 => ?_)
                  obtain ⟨rfl, rfl⟩ := h_112
                  refine rv_if_ne hX 120 dX4_done_115 (by decide) (fun q => absurd q (by decide)) (fun _ => ?_)
                  refine nv_iconst hX (m := 0) (by decide) dX4_done_118 ?_
                  refine mv_reti hX hE dX4_done_119 ?_
                  have hno : wDr.ready s = false := by
                    cases e : wDr.ready s with
                    | false => rfl
                    | true =>
                      obtain ⟨a1, a2, a3, a4, a5, a6, a7⟩ := wDr.ready_spec.mp e
                      exfalso
                      first
                        | omega
                        | exact absurd ((hl.trans a3).symm.trans c_11) (by decide)
                        | exact a2 (List.eq_nil_of_length_eq_zero (by omega))
                        | exact absurd ((hs.trans a5).symm.trans c_45) (by decide)
                  unfold o_done
                  rw [if_pos hno]
                  exact h.th (by decide)
                · skip
                  refine nv_iconst hX (m := 1) (by decide) dX4_done_73 ?_
                  refine rv_goto hX 97 dX4_done_74 (by decide) ?_
                  refine rv_istore_n hX dX4_done_97 (rv_st_2 rfl) ?_
                  refine rv_aload_n hX dX4_done_98 rfl ?_
                  refine rv_iload_n hX dX4_done_99 rfl ?_
                  refine rv_if_eq hX 111 dX4_done_100 (by decide) (fun _ => ?_) (fun q => absurd q (by decide))
                  refine nv_iconst hX (m := 1) (by decide) dX4_done_111 ?_
                  refine mv_callz hX iX4_266 rfl mdX4_goesWell (m_goesWellN hG (by decide) (by decide) (d := d - 1)) (by omega) rfl rfl (Nat.le_of_ble_eq_true rfl) dX4_done_112 (fun r_112 τ_112 h_112 => ?_)
                  obtain ⟨rfl, rfl⟩ := h_112
                  refine rv_if_ne hX 120 dX4_done_115 (by decide) (fun q => absurd q (by decide)) (fun _ => ?_)
                  refine nv_iconst hX (m := 0) (by decide) dX4_done_118 ?_
                  refine mv_reti hX hE dX4_done_119 ?_
                  have hno : wDr.ready s = false := by
                    cases e : wDr.ready s with
                    | false => rfl
                    | true =>
                      obtain ⟨a1, a2, a3, a4, a5, a6, a7⟩ := wDr.ready_spec.mp e
                      exfalso
                      first
                        | omega
                        | exact absurd ((hl.trans a3).symm.trans c_11) (by decide)
                        | exact a2 (List.eq_nil_of_length_eq_zero (by omega))
                        | exact absurd ((hs.trans a5).symm.trans c_45) (by decide)
                  unfold o_done
                  rw [if_pos hno]
                  exact h.th (by decide)
            · skip
              refine nv_iconst hX (m := 1) (by decide) dX4_done_48 ?_
              refine rv_goto hX 53 dX4_done_49 (by decide) ?_
              refine rv_istore_n hX dX4_done_53 (rv_st_1 rfl) ?_
              refine rv_aload_n hX dX4_done_54 rfl ?_
              refine mv_gi hX (k := 23) gX4_302_X4 (by decide) rfl dX4_done_55 ?_
              rw [h.2.1.1]
              refine nv_iconst hX (m := 1) (by decide) dX4_done_58 ?_
              first | refine nv_icmp_ne hX 81 (by omega) (by omega) dX4_done_59 (by decide) (fun c_59 => ?_) (fun c_59 => ?_) | refine rv_icmp_ne hX 81 dX4_done_59 (by decide) (fun c_59 => ?_) (fun c_59 => ?_)
              · skip
                refine rv_aload_n hX dX4_done_81 rfl ?_
                refine mv_ga hX (k := 1) (j := 1) gX4_7_X4 (by decide) rfl (by decide) dX4_done_82 ?_
                refine nv_iconst hX (m := 2) (by decide) dX4_done_85 ?_
                refine mv_ld hX (j := 1) (by decide) (by decide) rfl (by decide) (show _ < 11 by omega) dX4_done_86 ?_
                rw [h.1.1.deeds.2.1]
                refine nv_bipush hX (m := 6) (by decide) dX4_done_87 ?_
                first | refine nv_icmp_ge hX 96 (by omega) (by omega) dX4_done_89 (by decide) (fun c_89 => ?_) (fun c_89 => ?_) | refine rv_icmp_ge hX 96 dX4_done_89 (by decide) (fun c_89 => ?_) (fun c_89 => ?_)
                · skip
                  refine nv_iconst hX (m := 0) (by decide) dX4_done_96 ?_
                  refine rv_istore_n hX dX4_done_97 (rv_st_2 rfl) ?_
                  refine rv_aload_n hX dX4_done_98 rfl ?_
                  refine rv_iload_n hX dX4_done_99 rfl ?_
                  refine rv_if_eq hX 111 dX4_done_100 (by decide) (fun q => absurd q (by decide)) (fun _ => ?_)
                  refine rv_iload_n hX dX4_done_103 rfl ?_
                  refine rv_if_eq hX 111 dX4_done_104 (by decide) (fun _ => ?_) (fun q => absurd q (by decide))
                  refine nv_iconst hX (m := 1) (by decide) dX4_done_111 ?_
                  refine mv_callz hX iX4_266 rfl mdX4_goesWell (m_goesWellN hG (by decide) (by decide) (d := d - 1)) (by omega) rfl rfl (Nat.le_of_ble_eq_true rfl) dX4_done_112 (fun r_112 τ_112 h_112 => ?_)
                  obtain ⟨rfl, rfl⟩ := h_112
                  refine rv_if_ne hX 120 dX4_done_115 (by decide) (fun q => absurd q (by decide)) (fun _ => ?_)
                  refine nv_iconst hX (m := 0) (by decide) dX4_done_118 ?_
                  refine mv_reti hX hE dX4_done_119 ?_
                  have hno : wDr.ready s = false := by
                    cases e : wDr.ready s with
                    | false => rfl
                    | true =>
                      obtain ⟨a1, a2, a3, a4, a5, a6, a7⟩ := wDr.ready_spec.mp e
                      exfalso
                      first
                        | omega
                        | exact absurd ((hl.trans a3).symm.trans c_11) (by decide)
                        | exact a2 (List.eq_nil_of_length_eq_zero (by omega))
                        | exact absurd ((hs.trans a5).symm.trans c_45) (by decide)
                  unfold o_done
                  rw [if_pos hno]
                  exact h.th (by decide)
                · skip
                  refine nv_iconst hX (m := 1) (by decide) dX4_done_92 ?_
                  refine rv_goto hX 97 dX4_done_93 (by decide) ?_
                  refine rv_istore_n hX dX4_done_97 (rv_st_2 rfl) ?_
                  refine rv_aload_n hX dX4_done_98 rfl ?_
                  refine rv_iload_n hX dX4_done_99 rfl ?_
                  refine rv_if_eq hX 111 dX4_done_100 (by decide) (fun q => absurd q (by decide)) (fun _ => ?_)
                  refine rv_iload_n hX dX4_done_103 rfl ?_
                  refine rv_if_eq hX 111 dX4_done_104 (by decide) (fun q => absurd q (by decide)) (fun _ => ?_)
                  refine nv_iconst hX (m := 0) (by decide) dX4_done_107 ?_
                  refine rv_goto hX 112 dX4_done_108 (by decide) ?_
                  refine mv_callz hX iX4_266 rfl mdX4_goesWell (m_goesWell0 hG (d := d - 1)) (by omega) rfl rfl (Nat.le_of_ble_eq_true rfl) dX4_done_112 (fun r_112 τ_112 h_112 => ?_)
                  obtain ⟨rfl, rfl⟩ := h_112
                  refine rv_if_ne hX 120 dX4_done_115 (by decide) (fun _ => ?_) (fun q => absurd q (by decide))
                  have hyes : wDr.ready s = true := wDr.ready_spec.mpr ⟨hwh.1, hwh.2.1, hwh.2.2, by omega, by rw [← hs]; exact c_45, fun q => by omega, fun q => by omega⟩
                  have hsd : s.d.sound = true := by rw [← hs]; exact c_45
                  refine rv_aload_n hX dX4_done_120 rfl ?_
                  refine mv_gi hX (k := 23) gX4_302_X4 (by decide) rfl dX4_done_121 ?_
                  rw [show (rv_sF τ_42 0 (nI 0)).1 23 = nI s.d.k from h.2.1.1]
                  refine nv_iconst hX (m := 2) (by decide) dX4_done_124 ?_
                  first | refine nv_icmp_ne hX 179 (by omega) (by omega) dX4_done_125 (by decide) (fun c_125 => ?_) (fun c_125 => ?_) | refine rv_icmp_ne hX 179 dX4_done_125 (by decide) (fun c_125 => ?_) (fun c_125 => ?_)
                  · skip
                    have hC := wDr.C_wf hS3 hw hwh hsd (n := s.w.nr) (by omega)
                    have hne : s.d.k ≠ 0 := hwh.1
                    have hk1 : s.d.k = 1 := by omega
                    have hunf : o_done s = match (s.w.setR (s.w.R ++ [s.d.C s.w.nr]) (s.w.nr + 1)).stl with
                        | none => (1, 0, s)
                        | some w' => (0, nI s.w.nr, (s.setw w').setd s.d.off) := by
                      unfold o_done
                      rw [if_neg (by rw [hyes]; decide), if_neg (by omega)]
                      rfl
                    refine rv_aload_n hX dX4_done_179 rfl ?_
                    refine nv_iconst hX (m := 3) (by decide) dX4_done_180 ?_
                    refine mv_callv hX iX4_275 rfl mdX4_save (m_saveW hG (d := d - 1) (by omega) (h.thrown _) hb6) (by omega) rfl rfl (Nat.le_of_ble_eq_true rfl) dX4_done_181 (fun τ_181 h_181 => ?_)
                    obtain ⟨s1, s2, s3⟩ := h_181
                    refine rv_aload_n hX dX4_done_184 rfl ?_
                    refine mv_ga hX (k := 3) (j := 3) gX4_16_X4 (by decide) rfl (by decide) dX4_done_185 ?_
                    refine nv_bipush hX (m := 16) (by decide) dX4_done_188 ?_
                    refine rv_aload_n hX dX4_done_190 rfl ?_
                    refine mv_ga hX (k := 1) (j := 1) gX4_7_X4 (by decide) rfl (by decide) dX4_done_191 ?_
                    refine nv_iconst hX (m := 3) (by decide) dX4_done_194 ?_
                    refine mv_ld hX (j := 1) (by decide) (by decide) rfl (by decide) (show _ < 11 by omega) dX4_done_195 ?_
                    rw [s1.1.1.nr]
                    refine mv_st hX (j := 3) (by decide) (by decide) rfl (by decide) (show _ < 17 by omega) dX4_done_196 ?_
                    refine rv_aload_n hX dX4_done_197 rfl ?_
                    refine nv_bipush hX (m := 16) (by decide) dX4_done_198 ?_
                    refine rv_aload_n hX dX4_done_200 rfl ?_
                    refine mv_ga hX (k := 1) (j := 1) gX4_7_X4 (by decide) rfl (by decide) dX4_done_201 ?_
                    refine nv_iconst hX (m := 1) (by decide) dX4_done_204 ?_
                    refine mv_ld hX (j := 1) (by decide) (by decide) rfl (by decide) (show _ < 11 by omega) dX4_done_205 ?_
                    rw [show (rv_sU τ_181 3 16 (nI s.w.nr)).2.1 1 1 = nI s.w.R.length from s1.1.1.rules.2.1]
                    refine mv_callv hX iX4_326 rfl mdX4_copyBody (m_copyBody hG (d := d - 1) (by omega) (a := 16) (b := s.w.R.length) (by decide) (by omega) (by omega)) (by omega) rfl rfl (Nat.le_of_ble_eq_true rfl) dX4_done_206 (fun τ_206 h_206 => ?_)
                    have hcp := h_206
                    refine rv_aload_n hX dX4_done_209 rfl ?_
                    refine mv_ga hX (k := 1) (j := 1) gX4_7_X4 (by decide) rfl (by decide) dX4_done_210 ?_
                    refine nv_iconst hX (m := 1) (by decide) dX4_done_213 ?_
                    refine rv_dup2 hX dX4_done_214 rfl rfl ?_
                    refine mv_ld hX (j := 1) (by decide) (by decide) rfl (by decide) (show _ < 11 by omega) dX4_done_215 ?_
                    rw [hcp.2.2.2.2.2.1 1 (by decide), show (rv_sU τ_181 3 16 (nI s.w.nr)).2.1 1 1 = nI s.w.R.length from s1.1.1.rules.2.1]
                    refine nv_iconst hX (m := 1) (by decide) dX4_done_216 ?_
                    first | refine nv_iadd hX dX4_done_217 ?_ | refine rv_iadd hX dX4_done_217 ?_
                    refine mv_st hX (j := 1) (by decide) (by decide) rfl (by decide) (show _ < 11 by omega) dX4_done_218 ?_
                    refine rv_aload_n hX dX4_done_219 rfl ?_
                    refine mv_ga hX (k := 1) (j := 1) gX4_7_X4 (by decide) rfl (by decide) dX4_done_220 ?_
                    refine nv_iconst hX (m := 3) (by decide) dX4_done_223 ?_
                    refine rv_dup2 hX dX4_done_224 rfl rfl ?_
                    refine mv_ld hX (j := 1) (by decide) (by decide) rfl (by decide) (show _ < 11 by omega) dX4_done_225 ?_
                    rw [rv_sU_2, if_neg (fun q => absurd q.2 (by decide)), hcp.2.2.2.2.2.1 1 (by decide), show (rv_sU τ_181 3 16 (nI s.w.nr)).2.1 1 3 = nI s.w.nr from s1.1.1.nr]
                    refine nv_iconst hX (m := 1) (by decide) dX4_done_226 ?_
                    first | refine nv_iadd hX dX4_done_227 ?_ | refine rv_iadd hX dX4_done_227 ?_
                    refine mv_st hX (j := 1) (by decide) (by decide) rfl (by decide) (show _ < 11 by omega) dX4_done_228 ?_
                    have hB := mDraft.body hS3 (s1.2.1.n16 (v := nI s.w.nr)) hw hwh (n := s.w.nr) (by rw [rv_sU_2, if_pos ⟨rfl, rfl⟩])
                    have hs1 : rv_same [] [1] τ_206 (rv_sU (rv_sU τ_206 1 1 (nI (s.w.R.length + 1))) 1 3 (nI (s.w.nr + 1))) := (rv_same.u (by decide)).tr (.u (by decide))
                    have hs2 : rv_same [] [1, 3, 4, 5, 6, 7, 8, 9, 10, 11, 12] τ_181 (rv_sU (rv_sU τ_206 1 1 (nI (s.w.R.length + 1))) 1 3 (nI (s.w.nr + 1))) := ((rv_same.u (by decide)).tr (hcp.2.2.2.2.mn (by decide) (by decide))).tr (hs1.mn (by decide) (by decide))
                    have g1 : ∀ i, (rv_sU (rv_sU τ_206 1 1 (nI (s.w.R.length + 1))) 1 3 (nI (s.w.nr + 1))).2.1 1 i = if i = 3 then nI (s.w.nr + 1) else if i = 1 then nI (s.w.R.length + 1) else τ_181.2.1 1 i := fun i => by
                      rw [rv_sU_2]
                      by_cases q : i = 3
                      · rw [if_pos ⟨rfl, q⟩, if_pos q]
                      · rw [if_neg (fun a => q a.2), if_neg q, rv_sU_2]
                        by_cases q2 : i = 1
                        · rw [if_pos ⟨rfl, q2⟩, if_pos q2]
                        · rw [if_neg (fun a => q2 a.2), if_neg q2, hcp.2.2.2.2.2.1 1 (by decide)]
                          rfl
                    have e3 : (rv_sU (rv_sU τ_206 1 1 (nI (s.w.R.length + 1))) 1 3 (nI (s.w.nr + 1))).2.1 3 16 = nI s.w.nr := by
                      rw [hs1.2.1 3 (by decide), hcp.1 3 (by decide), if_neg (by omega), rv_sU_2, if_pos ⟨rfl, rfl⟩]
                    generalize rv_sU (rv_sU τ_206 1 1 (nI (s.w.R.length + 1))) 1 3 (nI (s.w.nr + 1)) = υ at hs1 hs2 g1 e3
                    obtain ⟨dep, hdp⟩ := s1.2.2.2
                    have hW : mW0 υ (s.w.setR (s.w.R ++ [s.d.C s.w.nr]) (s.w.nr + 1)) := by
                      refine s1.1.1.chR hs2 (by decide) (fun i i2 i4 => by rw [g1, if_neg i4, if_neg i2]) (by rw [g1, if_neg (by decide), if_pos rfl, List.length_append]; rfl) (by rw [g1, if_pos rfl]) (by rw [List.length_append]; show s.w.R.length + 1 ≤ 10; omega) (fun i C e => ?_) (fun i C e => ?_)
                      · by_cases q : i = s.w.R.length
                        · rw [q, List.getElem?_append_right (Nat.le_refl _), Nat.sub_self] at e
                          cases e
                          rw [q]
                          exact ⟨(hB.cp hS3 hcp hC).same hs1 (by decide), hC⟩
                        · have hi1 : i < s.w.R.length := by
                            have hk9 := (List.getElem?_eq_some_iff.mp e).1
                            rw [List.length_append] at hk9
                            have hk8 : i < s.w.R.length + 1 := hk9
                            omega
                          rw [List.getElem?_append_left hi1] at e
                          obtain ⟨b1, b2⟩ := s1.1.1.rules.2.2.2 i C e
                          exact ⟨((b1.n16 (by omega)).cpo hS3 hcp b2 (by omega)).same hs1 (by decide), b2⟩
                      · have hi1 := (List.getElem?_eq_some_iff.mp e).1
                        obtain ⟨b1, b2⟩ := s1.1.1.deeds.2.2.2 i C e
                        exact ((b1.n16 (by omega)).cpo hS3 hcp b2 (by omega)).same hs1 (by decide)
                    have hdr := ((s1.2.1.n16 (v := nI s.w.nr)).cpo hS3 hcp (by omega) hw).same hs1 (by decide) (by decide)
                    have hsv := s2.same hs2 (by decide)
                    have hbg := s1.2.2.1.same hs2 (by decide) (by decide)
                    have hen := s1.1.2.same hs2 (by decide)
                    have hdp2 := hdp.same hs2 (by decide)
                    have bad : ∀ (τ' τ'' : rv_S), rv_same [29, 30, 31, 32, 33, 34, 39] [1, 15, 16, 22, 23, 24, 25, 26, 27, 28, 29, 30, 31, 32, 33, 34] υ τ' → (s.w.setR (s.w.R ++ [s.d.C s.w.nr]) (s.w.nr + 1)).stl = none → (mW τ'' s.w ∧ rv_same [] [1, 2, 3, 4, 5, 6, 7, 8, 9, 10, 11, 12, 13, 14, 15, 16, 17] (rv_sF τ' 0 (nI 1)) τ'' ∧ ∀ (S : List Nat) (dr : wDr), mDraft (rv_sF τ' 0 (nI 1)) S dr → mDraft τ'' S dr) → ∀ r, mRes τ'' r (o_done s) := by
                      intro τ' τ'' hs hno ⟨b1, b2, b3⟩ r
                      rw [hunf, hno]
                      refine ⟨by rw [b2.1 0 (by decide)]; rfl, fun e => absurd e (show ¬ 1 = 0 by decide), b1, b3 _ _ ((hdr.same hs (by decide) (by decide)).same (.f (fs := [0]) (js := []) (by decide)) (by decide) (by decide)), ((hbg.same hs (by decide) (by decide)).same (.f (fs := [0]) (js := []) (by decide)) (by decide) (by decide)).same b2 (by decide) (by decide), dep, ((hdp2.same hs (by decide)).same (.f (fs := [0]) (js := []) (by decide)) (by decide)).same b2 (by decide)⟩
                    refine rv_aload_n hX dX4_done_229 rfl ?_
                    refine rv_aload_n hX dX4_done_230 rfl ?_
                    refine mv_callz hX iX4_257 rfl mdX4_findStrata (m_findStrata hG (d := d - 1) (by omega) hW.rules) (by omega) rfl rfl (Nat.le_of_ble_eq_true rfl) dX4_done_231 (fun r_231 τ_231 h_231 => ?_)
                    obtain ⟨f1, f2, f3, f4⟩ := h_231
                    first | refine zv_if_eq hX 248 dX4_done_234 (by decide) (fun c_234 => ?_) (fun c_234 => ?_) | refine nv_if_eq hX 248 (by omega) dX4_done_234 (by decide) (fun c_234 => ?_) (fun c_234 => ?_) | refine rv_if_eq hX 248 dX4_done_234 (by decide) (fun c_234 => ?_) (fun c_234 => ?_)
                    · skip
                      have hno : (s.w.setR (s.w.R ++ [s.d.C s.w.nr]) (s.w.nr + 1)).stl = none := by
                        unfold wW.stl
                        rw [sp_set_str ?_]
                        · rfl
                        · cases e : sp_strata (s.w.setR (s.w.R ++ [s.d.C s.w.nr]) (s.w.nr + 1)).R with
                          | none => rfl
                          | some st => have := (f2 st e).1; rw [c_234] at this; exact absurd this (by decide)
                      refine nv_iconst hX (m := 1) (by decide) dX4_done_248 ?_
                      refine mv_callz hX iX4_266 rfl mdX4_goesWell (m_goesWellN hG (by decide) (by decide) (d := d - 1)) (by omega) rfl rfl (Nat.le_of_ble_eq_true rfl) dX4_done_249 (fun r_249 τ_249 h_249 => ?_)
                      obtain ⟨rfl, rfl⟩ := h_249
                      refine rv_if_ne hX 262 dX4_done_252 (by decide) (fun q => absurd q (by decide)) (fun _ => ?_)
                      refine rv_aload_n hX dX4_done_255 rfl ?_
                      refine nv_iconst hX (m := 3) (by decide) dX4_done_256 ?_
                      refine mv_callv hX iX4_287 rfl mdX4_bringBack (m_bringW hG (d := d - 1) (by omega) (i := 3) (w := s.w) (Nat.le_refl _) (by first | exact ((hsv.same f1 (by decide)).same q1 (by decide)).same (.f (fs := [0]) (js := []) (by decide)) (by decide) | exact (hsv.same f1 (by decide)).same (.f (fs := [0]) (js := []) (by decide)) (by decide))) (by omega) rfl rfl (Nat.le_of_ble_eq_true rfl) dX4_done_257 (fun τ_257 h_257 => ?_)
                      have hbr := h_257
                      refine nv_iconst hX (m := 0) (by decide) dX4_done_260 ?_
                      refine mv_reti hX hE dX4_done_261 ?_
                      first
                      | exact bad _ _ ((f1.mn (by decide) (by decide)).tr q1) hno hbr _
                      | exact bad _ _ (f1.mn (by decide) (by decide)) hno hbr _
                    · skip
                      obtain ⟨st, hst⟩ : ∃ st, sp_strata (s.w.setR (s.w.R ++ [s.d.C s.w.nr]) (s.w.nr + 1)).R = some st := by
                        cases e : sp_strata (s.w.setR (s.w.R ++ [s.d.C s.w.nr]) (s.w.nr + 1)).R with
                        | none => have := f3 e; rw [c_234] at this; exact absurd this (by decide)
                        | some st => exact ⟨st, rfl⟩
                      refine rv_aload_n hX dX4_done_237 rfl ?_
                      refine mv_callz hX iX4_284 rfl mdX4_settle (m_settleW hG (d := d - 1) (by omega) (hW.same f1 (by decide)) hst (hwf.st (by omega)) ⟨dep, hdp2.same f1 (by decide)⟩) (by omega) rfl rfl (Nat.le_of_ble_eq_true rfl) dX4_done_238 (fun r_238 τ_238 h_238 => ?_)
                      obtain ⟨q1, q2, q3⟩ := h_238
                      first | refine zv_if_eq hX 248 dX4_done_241 (by decide) (fun c_241 => ?_) (fun c_241 => ?_) | refine nv_if_eq hX 248 (by omega) dX4_done_241 (by decide) (fun c_241 => ?_) (fun c_241 => ?_) | refine rv_if_eq hX 248 dX4_done_241 (by decide) (fun c_241 => ?_) (fun c_241 => ?_)
                      · skip
                        have hno : (s.w.setR (s.w.R ++ [s.d.C s.w.nr]) (s.w.nr + 1)).stl = none := by
                          rcases q3 with ⟨r1, -⟩ | ⟨-, r2⟩
                          · rw [c_241] at r1; exact absurd r1 (by decide)
                          · exact r2
                        refine nv_iconst hX (m := 1) (by decide) dX4_done_248 ?_
                        refine mv_callz hX iX4_266 rfl mdX4_goesWell (m_goesWellN hG (by decide) (by decide) (d := d - 1)) (by omega) rfl rfl (Nat.le_of_ble_eq_true rfl) dX4_done_249 (fun r_249 τ_249 h_249 => ?_)
                        obtain ⟨rfl, rfl⟩ := h_249
                        refine rv_if_ne hX 262 dX4_done_252 (by decide) (fun q => absurd q (by decide)) (fun _ => ?_)
                        refine rv_aload_n hX dX4_done_255 rfl ?_
                        refine nv_iconst hX (m := 3) (by decide) dX4_done_256 ?_
                        refine mv_callv hX iX4_287 rfl mdX4_bringBack (m_bringW hG (d := d - 1) (by omega) (i := 3) (w := s.w) (Nat.le_refl _) (by first | exact ((hsv.same f1 (by decide)).same q1 (by decide)).same (.f (fs := [0]) (js := []) (by decide)) (by decide) | exact (hsv.same f1 (by decide)).same (.f (fs := [0]) (js := []) (by decide)) (by decide))) (by omega) rfl rfl (Nat.le_of_ble_eq_true rfl) dX4_done_257 (fun τ_257 h_257 => ?_)
                        have hbr := h_257
                        refine nv_iconst hX (m := 0) (by decide) dX4_done_260 ?_
                        refine mv_reti hX hE dX4_done_261 ?_
                        first
                        | exact bad _ _ ((f1.mn (by decide) (by decide)).tr q1) hno hbr _
                        | exact bad _ _ (f1.mn (by decide) (by decide)) hno hbr _
                      · skip
                        obtain ⟨w', hst1, hw1⟩ : ∃ w', (s.w.setR (s.w.R ++ [s.d.C s.w.nr]) (s.w.nr + 1)).stl = some w' ∧ mW0 τ_238 w' := by
                          rcases q3 with ⟨-, r2⟩ | ⟨r1, -⟩
                          · exact r2
                          · rw [c_241] at r1; exact absurd r1 (by decide)
                        refine nv_iconst hX (m := 0) (by decide) dX4_done_244 ?_
                        refine rv_goto hX 249 dX4_done_245 (by decide) ?_
                        refine mv_callz hX iX4_266 rfl mdX4_goesWell (m_goesWell0 hG (d := d - 1)) (by omega) rfl rfl (Nat.le_of_ble_eq_true rfl) dX4_done_249 (fun r_249 τ_249 h_249 => ?_)
                        obtain ⟨rfl, rfl⟩ := h_249
                        refine rv_if_ne hX 262 dX4_done_252 (by decide) (fun _ => ?_) (fun q => absurd q (by decide))
                        refine rv_aload_n hX dX4_done_262 rfl ?_
                        refine nv_iconst hX (m := 0) (by decide) dX4_done_263 ?_
                        refine mv_pi hX (k := 23) pX4_302_X4 (by decide) rfl rfl rfl dX4_done_264 ?_
                        refine rv_aload_n hX dX4_done_267 rfl ?_
                        refine mv_ga hX (k := 3) (j := 3) gX4_16_X4 (by decide) rfl (by decide) dX4_done_268 ?_
                        refine nv_bipush hX (m := 16) (by decide) dX4_done_271 ?_
                        refine mv_ld hX (j := 3) (by decide) (by decide) rfl (by decide) (show _ < 17 by omega) dX4_done_273 ?_
                        refine mv_reti hX hE dX4_done_274 ?_
                        rw [hunf, hst1]
                        obtain ⟨F9, -, rfl⟩ := wW.stl_spec hst1
                        have hall := (f1.mn (fs' := [29, 30, 31, 32, 33, 34, 39]) (js' := [1, 15, 16, 22, 23, 24, 25, 26, 27, 28, 29, 30, 31, 32, 33, 34]) (by decide) (by decide)).tr q1
                        obtain ⟨dep3, hd3⟩ := q2
                        have hs9 : rv_same [0, 23] [] τ_238 (rv_sF (rv_sF τ_238 0 (nI 0)) 23 (nI 0)) := (rv_same.f (by decide)).tr (.f (by decide))
                        have hdr9 := hdr.same hall (by decide) (by decide)
                        exact ⟨rfl, fun _ => by show τ_238.2.1 3 16 = nI s.w.nr; rw [hall.2.1 3 (by decide)]; exact e3, ⟨hw1.same hs9 (by decide), (hen.same hall (by decide)).same hs9 (by decide)⟩, ⟨rfl, Nat.zero_le _, hdr9.2.2.1, hdr9.2.2.2.1, hdr9.2.2.2.2.1, fun e => absurd rfl e⟩, (hbg.same hall (by decide) (by decide)).same hs9 (by decide) (by decide), dep3, hd3.same hs9 (by decide)⟩
                  · skip
                    have hunf : o_done s = (0, nI s.w.nd, (s.setw (s.w.setD (s.w.D ++ [s.d.C s.w.nd]) (s.w.nd + 1))).setd s.d.off) := by
                      unfold o_done
                      rw [if_neg (by rw [hyes]; decide), if_pos (by omega)]
                    refine rv_aload_n hX dX4_done_128 rfl ?_
                    refine mv_ga hX (k := 3) (j := 3) gX4_16_X4 (by decide) rfl (by decide) dX4_done_129 ?_
                    refine nv_bipush hX (m := 16) (by decide) dX4_done_132 ?_
                    refine rv_aload_n hX dX4_done_134 rfl ?_
                    refine mv_ga hX (k := 1) (j := 1) gX4_7_X4 (by decide) rfl (by decide) dX4_done_135 ?_
                    refine nv_iconst hX (m := 4) (by decide) dX4_done_138 ?_
                    refine mv_ld hX (j := 1) (by decide) (by decide) rfl (by decide) (show _ < 11 by omega) dX4_done_139 ?_
                    rw [show (rv_sF τ_42 0 (nI 0)).2.1 1 4 = nI s.w.nd from h.1.1.nd]
                    refine mv_st hX (j := 3) (by decide) (by decide) rfl (by decide) (show _ < 17 by omega) dX4_done_140 ?_
                    refine rv_aload_n hX dX4_done_141 rfl ?_
                    refine nv_bipush hX (m := 16) (by decide) dX4_done_142 ?_
                    refine nv_bipush hX (m := 10) (by decide) dX4_done_144 ?_
                    refine rv_aload_n hX dX4_done_146 rfl ?_
                    refine mv_ga hX (k := 1) (j := 1) gX4_7_X4 (by decide) rfl (by decide) dX4_done_147 ?_
                    refine nv_iconst hX (m := 2) (by decide) dX4_done_150 ?_
                    refine mv_ld hX (j := 1) (by decide) (by decide) rfl (by decide) (show _ < 11 by omega) dX4_done_151 ?_
                    rw [show (rv_sU (rv_sF τ_42 0 (nI 0)) 3 16 (nI s.w.nd)).2.1 1 2 = nI s.w.D.length from h.1.1.deeds.2.1]
                    first | refine nv_iadd hX dX4_done_152 ?_ | refine rv_iadd hX dX4_done_152 ?_
                    refine mv_callv hX iX4_326 rfl mdX4_copyBody (m_copyBody hG (d := d - 1) (by omega) (a := 16) (b := 10 + s.w.D.length) (by decide) (by omega) (by omega)) (by omega) rfl rfl (Nat.le_of_ble_eq_true rfl) dX4_done_153 (fun τ_153 h_153 => ?_)
                    have hcp := h_153
                    refine rv_aload_n hX dX4_done_156 rfl ?_
                    refine mv_ga hX (k := 1) (j := 1) gX4_7_X4 (by decide) rfl (by decide) dX4_done_157 ?_
                    refine nv_iconst hX (m := 2) (by decide) dX4_done_160 ?_
                    refine rv_dup2 hX dX4_done_161 rfl rfl ?_
                    refine mv_ld hX (j := 1) (by decide) (by decide) rfl (by decide) (show _ < 11 by omega) dX4_done_162 ?_
                    rw [hcp.2.2.2.2.2.1 1 (by decide), show (rv_sU (rv_sF τ_42 0 (nI 0)) 3 16 (nI s.w.nd)).2.1 1 2 = nI s.w.D.length from h.1.1.deeds.2.1]
                    refine nv_iconst hX (m := 1) (by decide) dX4_done_163 ?_
                    first | refine nv_iadd hX dX4_done_164 ?_ | refine rv_iadd hX dX4_done_164 ?_
                    refine mv_st hX (j := 1) (by decide) (by decide) rfl (by decide) (show _ < 11 by omega) dX4_done_165 ?_
                    refine rv_aload_n hX dX4_done_166 rfl ?_
                    refine mv_ga hX (k := 1) (j := 1) gX4_7_X4 (by decide) rfl (by decide) dX4_done_167 ?_
                    refine nv_iconst hX (m := 4) (by decide) dX4_done_170 ?_
                    refine rv_dup2 hX dX4_done_171 rfl rfl ?_
                    refine mv_ld hX (j := 1) (by decide) (by decide) rfl (by decide) (show _ < 11 by omega) dX4_done_172 ?_
                    rw [rv_sU_2, if_neg (fun q => absurd q.2 (by decide)), hcp.2.2.2.2.2.1 1 (by decide), show (rv_sU (rv_sF τ_42 0 (nI 0)) 3 16 (nI s.w.nd)).2.1 1 4 = nI s.w.nd from h.1.1.nd]
                    refine nv_iconst hX (m := 1) (by decide) dX4_done_173 ?_
                    first | refine nv_iadd hX dX4_done_174 ?_ | refine rv_iadd hX dX4_done_174 ?_
                    refine mv_st hX (j := 1) (by decide) (by decide) rfl (by decide) (show _ < 11 by omega) dX4_done_175 ?_
                    refine rv_goto hX 262 dX4_done_176 (by decide) ?_
                    refine rv_aload_n hX dX4_done_262 rfl ?_
                    refine nv_iconst hX (m := 0) (by decide) dX4_done_263 ?_
                    refine mv_pi hX (k := 23) pX4_302_X4 (by decide) rfl rfl rfl dX4_done_264 ?_
                    refine rv_aload_n hX dX4_done_267 rfl ?_
                    refine mv_ga hX (k := 3) (j := 3) gX4_16_X4 (by decide) rfl (by decide) dX4_done_268 ?_
                    refine nv_bipush hX (m := 16) (by decide) dX4_done_271 ?_
                    refine mv_ld hX (j := 3) (by decide) (by decide) rfl (by decide) (show _ < 17 by omega) dX4_done_273 ?_
                    refine mv_reti hX hE dX4_done_274 ?_
                    rw [hunf]
                    have hth := h.thrown (nI 0)
                    have hC := wDr.C_wf hS3 hw hwh hsd (n := s.w.nd) (by omega)
                    have hB := mDraft.body hS3 (hth.2.1.n16 (v := nI s.w.nd)) hw hwh (n := s.w.nd) (by rw [rv_sU_2, if_pos ⟨rfl, rfl⟩])
                    have hs1 : rv_same [23] [1] τ_153 (rv_sF (rv_sU (rv_sU τ_153 1 2 (nI (s.w.D.length + 1))) 1 4 (nI (s.w.nd + 1))) 23 (nI 0)) := ((rv_same.u (by decide)).tr (.u (by decide))).tr (.f (by decide))
                    have hs2 : rv_same [23] [1, 3, 4, 5, 6, 7, 8, 9, 10, 11, 12] (rv_sF τ_42 0 (nI 0)) (rv_sF (rv_sU (rv_sU τ_153 1 2 (nI (s.w.D.length + 1))) 1 4 (nI (s.w.nd + 1))) 23 (nI 0)) := ((rv_same.u (by decide)).tr (hcp.2.2.2.2.mn (by decide) (by decide))).tr (hs1.mn (by decide) (by decide))
                    have g1 : ∀ i, (rv_sF (rv_sU (rv_sU τ_153 1 2 (nI (s.w.D.length + 1))) 1 4 (nI (s.w.nd + 1))) 23 (nI 0)).2.1 1 i = if i = 4 then nI (s.w.nd + 1) else if i = 2 then nI (s.w.D.length + 1) else τ_42.2.1 1 i := fun i => by
                      rw [rv_sF_2, rv_sU_2]
                      by_cases q : i = 4
                      · rw [if_pos ⟨rfl, q⟩, if_pos q]
                      · rw [if_neg (fun a => q a.2), if_neg q, rv_sU_2]
                        by_cases q2 : i = 2
                        · rw [if_pos ⟨rfl, q2⟩, if_pos q2]
                        · rw [if_neg (fun a => q2 a.2), if_neg q2, hcp.2.2.2.2.2.1 1 (by decide)]
                          rfl
                    have e3 : (rv_sF (rv_sU (rv_sU τ_153 1 2 (nI (s.w.D.length + 1))) 1 4 (nI (s.w.nd + 1))) 23 (nI 0)).2.1 3 16 = nI s.w.nd := by
                      rw [hs1.2.1 3 (by decide), hcp.1 3 (by decide), if_neg (by omega), rv_sU_2, if_pos ⟨rfl, rfl⟩]
                    have h23 : (rv_sF (rv_sU (rv_sU τ_153 1 2 (nI (s.w.D.length + 1))) 1 4 (nI (s.w.nd + 1))) 23 (nI 0)).1 23 = nI 0 := rfl
                    generalize rv_sF (rv_sU (rv_sU τ_153 1 2 (nI (s.w.D.length + 1))) 1 4 (nI (s.w.nd + 1))) 23 (nI 0) = υ at hs1 hs2 g1 e3 h23
                    obtain ⟨dep, hdp⟩ := hth.2.2.2
                    have hdr := (hth.2.1.n16 (v := nI s.w.nd)).cpo hS3 hcp (by omega) hw
                    refine ⟨by rw [hs2.1 0 (by decide)]; rfl, fun _ => e3, ⟨hth.1.1.chD hs2 (by decide) (fun i i2 i4 => by rw [g1, if_neg i4, if_neg i2]; rfl) (by rw [g1, if_neg (by decide), if_pos rfl, List.length_append]; rfl) (by rw [g1, if_pos rfl]) (by rw [List.length_append]; show s.w.D.length + 1 ≤ 6; omega) (fun i C e => ?_) (fun i C e => ?_), hth.1.2.same hs2 (by decide)⟩, ?_, hth.2.2.1.same hs2 (by decide) (by decide), dep, hdp.same hs2 (by decide)⟩
                    · by_cases q : i = s.w.D.length
                      · rw [q, List.getElem?_append_right (Nat.le_refl _), Nat.sub_self] at e
                        cases e
                        rw [q]
                        exact ⟨(hB.cp hS3 hcp hC).same hs1 (by decide), hC⟩
                      · have hi1 : i < s.w.D.length := by
                          have hk9 := (List.getElem?_eq_some_iff.mp e).1
                          rw [List.length_append] at hk9
                          have hk8 : i < s.w.D.length + 1 := hk9
                          omega
                        rw [List.getElem?_append_left hi1] at e
                        obtain ⟨b1, b2⟩ := hth.1.1.deeds.2.2.2 i C e
                        exact ⟨((b1.n16 (by omega)).cpo hS3 hcp b2 (by omega)).same hs1 (by decide), b2⟩
                    · have hi1 := (List.getElem?_eq_some_iff.mp e).1
                      obtain ⟨b1, b2⟩ := hth.1.1.rules.2.2.2 i C e
                      exact ((b1.n16 (by omega)).cpo hS3 hcp b2 (by omega)).same hs1 (by decide)
                    · refine ⟨h23, Nat.zero_le _, ?_, ?_, ?_, fun e => absurd rfl e⟩
                      · rw [hs1.2.1 10 (by decide)]; exact hdr.2.2.1
                      · rw [hs1.2.1 11 (by decide)]; exact hdr.2.2.2.1
                      · rw [hs1.2.1 12 (by decide)]; exact hdr.2.2.2.2.1
              · skip
                refine rv_aload_n hX dX4_done_62 rfl ?_
                refine mv_ga hX (k := 1) (j := 1) gX4_7_X4 (by decide) rfl (by decide) dX4_done_63 ?_
                refine nv_iconst hX (m := 1) (by decide) dX4_done_66 ?_
                refine mv_ld hX (j := 1) (by decide) (by decide) rfl (by decide) (show _ < 11 by omega) dX4_done_67 ?_
                rw [h.1.1.rules.2.1]
                refine nv_bipush hX (m := 10) (by decide) dX4_done_68 ?_
                first | refine nv_icmp_ge hX 77 (by omega) (by omega) dX4_done_70 (by decide) (fun c_70 => ?_) (fun c_70 => ?_) | refine rv_icmp_ge hX 77 dX4_done_70 (by decide) (fun c_70 => ?_) (fun c_70 => ?_)
                · skip
                  refine nv_iconst hX (m := 0) (by decide) dX4_done_77 ?_
                  refine rv_goto hX 97 dX4_done_78 (by decide) ?_
                  refine rv_istore_n hX dX4_done_97 (rv_st_2 rfl) ?_
                  refine rv_aload_n hX dX4_done_98 rfl ?_
                  refine rv_iload_n hX dX4_done_99 rfl ?_
                  refine rv_if_eq hX 111 dX4_done_100 (by decide) (fun q => absurd q (by decide)) (fun _ => ?_)
                  refine rv_iload_n hX dX4_done_103 rfl ?_
                  refine rv_if_eq hX 111 dX4_done_104 (by decide) (fun _ => ?_) (fun q => absurd q (by decide))
                  refine nv_iconst hX (m := 1) (by decide) dX4_done_111 ?_
                  refine mv_callz hX iX4_266 rfl mdX4_goesWell (m_goesWellN hG (by decide) (by decide) (d := d - 1)) (by omega) rfl rfl (Nat.le_of_ble_eq_true rfl) dX4_done_112 (fun r_112 τ_112 h_112 => ?_)
                  obtain ⟨rfl, rfl⟩ := h_112
                  refine rv_if_ne hX 120 dX4_done_115 (by decide) (fun q => absurd q (by decide)) (fun _ => ?_)
                  refine nv_iconst hX (m := 0) (by decide) dX4_done_118 ?_
                  refine mv_reti hX hE dX4_done_119 ?_
                  have hno : wDr.ready s = false := by
                    cases e : wDr.ready s with
                    | false => rfl
                    | true =>
                      obtain ⟨a1, a2, a3, a4, a5, a6, a7⟩ := wDr.ready_spec.mp e
                      exfalso
                      first
                        | omega
                        | exact absurd ((hl.trans a3).symm.trans c_11) (by decide)
                        | exact a2 (List.eq_nil_of_length_eq_zero (by omega))
                        | exact absurd ((hs.trans a5).symm.trans c_45) (by decide)
                  unfold o_done
                  rw [if_pos hno]
                  exact h.th (by decide)
                · skip
                  refine nv_iconst hX (m := 1) (by decide) dX4_done_73 ?_
                  refine rv_goto hX 97 dX4_done_74 (by decide) ?_
                  refine rv_istore_n hX dX4_done_97 (rv_st_2 rfl) ?_
                  refine rv_aload_n hX dX4_done_98 rfl ?_
                  refine rv_iload_n hX dX4_done_99 rfl ?_
                  refine rv_if_eq hX 111 dX4_done_100 (by decide) (fun q => absurd q (by decide)) (fun _ => ?_)
                  refine rv_iload_n hX dX4_done_103 rfl ?_
                  refine rv_if_eq hX 111 dX4_done_104 (by decide) (fun q => absurd q (by decide)) (fun _ => ?_)
                  refine nv_iconst hX (m := 0) (by decide) dX4_done_107 ?_
                  refine rv_goto hX 112 dX4_done_108 (by decide) ?_
                  refine mv_callz hX iX4_266 rfl mdX4_goesWell (m_goesWell0 hG (d := d - 1)) (by omega) rfl rfl (Nat.le_of_ble_eq_true rfl) dX4_done_112 (fun r_112 τ_112 h_112 => ?_)
                  obtain ⟨rfl, rfl⟩ := h_112
                  refine rv_if_ne hX 120 dX4_done_115 (by decide) (fun _ => ?_) (fun q => absurd q (by decide))
                  have hyes : wDr.ready s = true := wDr.ready_spec.mpr ⟨hwh.1, hwh.2.1, hwh.2.2, by omega, by rw [← hs]; exact c_45, fun q => by omega, fun q => by omega⟩
                  have hsd : s.d.sound = true := by rw [← hs]; exact c_45
                  refine rv_aload_n hX dX4_done_120 rfl ?_
                  refine mv_gi hX (k := 23) gX4_302_X4 (by decide) rfl dX4_done_121 ?_
                  rw [show (rv_sF τ_42 0 (nI 0)).1 23 = nI s.d.k from h.2.1.1]
                  refine nv_iconst hX (m := 2) (by decide) dX4_done_124 ?_
                  first | refine nv_icmp_ne hX 179 (by omega) (by omega) dX4_done_125 (by decide) (fun c_125 => ?_) (fun c_125 => ?_) | refine rv_icmp_ne hX 179 dX4_done_125 (by decide) (fun c_125 => ?_) (fun c_125 => ?_)
                  · skip
                    have hC := wDr.C_wf hS3 hw hwh hsd (n := s.w.nr) (by omega)
                    have hne : s.d.k ≠ 0 := hwh.1
                    have hk1 : s.d.k = 1 := by omega
                    have hunf : o_done s = match (s.w.setR (s.w.R ++ [s.d.C s.w.nr]) (s.w.nr + 1)).stl with
                        | none => (1, 0, s)
                        | some w' => (0, nI s.w.nr, (s.setw w').setd s.d.off) := by
                      unfold o_done
                      rw [if_neg (by rw [hyes]; decide), if_neg (by omega)]
                      rfl
                    refine rv_aload_n hX dX4_done_179 rfl ?_
                    refine nv_iconst hX (m := 3) (by decide) dX4_done_180 ?_
                    refine mv_callv hX iX4_275 rfl mdX4_save (m_saveW hG (d := d - 1) (by omega) (h.thrown _) hb6) (by omega) rfl rfl (Nat.le_of_ble_eq_true rfl) dX4_done_181 (fun τ_181 h_181 => ?_)
                    obtain ⟨s1, s2, s3⟩ := h_181
                    refine rv_aload_n hX dX4_done_184 rfl ?_
                    refine mv_ga hX (k := 3) (j := 3) gX4_16_X4 (by decide) rfl (by decide) dX4_done_185 ?_
                    refine nv_bipush hX (m := 16) (by decide) dX4_done_188 ?_
                    refine rv_aload_n hX dX4_done_190 rfl ?_
                    refine mv_ga hX (k := 1) (j := 1) gX4_7_X4 (by decide) rfl (by decide) dX4_done_191 ?_
                    refine nv_iconst hX (m := 3) (by decide) dX4_done_194 ?_
                    refine mv_ld hX (j := 1) (by decide) (by decide) rfl (by decide) (show _ < 11 by omega) dX4_done_195 ?_
                    rw [s1.1.1.nr]
                    refine mv_st hX (j := 3) (by decide) (by decide) rfl (by decide) (show _ < 17 by omega) dX4_done_196 ?_
                    refine rv_aload_n hX dX4_done_197 rfl ?_
                    refine nv_bipush hX (m := 16) (by decide) dX4_done_198 ?_
                    refine rv_aload_n hX dX4_done_200 rfl ?_
                    refine mv_ga hX (k := 1) (j := 1) gX4_7_X4 (by decide) rfl (by decide) dX4_done_201 ?_
                    refine nv_iconst hX (m := 1) (by decide) dX4_done_204 ?_
                    refine mv_ld hX (j := 1) (by decide) (by decide) rfl (by decide) (show _ < 11 by omega) dX4_done_205 ?_
                    rw [show (rv_sU τ_181 3 16 (nI s.w.nr)).2.1 1 1 = nI s.w.R.length from s1.1.1.rules.2.1]
                    refine mv_callv hX iX4_326 rfl mdX4_copyBody (m_copyBody hG (d := d - 1) (by omega) (a := 16) (b := s.w.R.length) (by decide) (by omega) (by omega)) (by omega) rfl rfl (Nat.le_of_ble_eq_true rfl) dX4_done_206 (fun τ_206 h_206 => ?_)
                    have hcp := h_206
                    refine rv_aload_n hX dX4_done_209 rfl ?_
                    refine mv_ga hX (k := 1) (j := 1) gX4_7_X4 (by decide) rfl (by decide) dX4_done_210 ?_
                    refine nv_iconst hX (m := 1) (by decide) dX4_done_213 ?_
                    refine rv_dup2 hX dX4_done_214 rfl rfl ?_
                    refine mv_ld hX (j := 1) (by decide) (by decide) rfl (by decide) (show _ < 11 by omega) dX4_done_215 ?_
                    rw [hcp.2.2.2.2.2.1 1 (by decide), show (rv_sU τ_181 3 16 (nI s.w.nr)).2.1 1 1 = nI s.w.R.length from s1.1.1.rules.2.1]
                    refine nv_iconst hX (m := 1) (by decide) dX4_done_216 ?_
                    first | refine nv_iadd hX dX4_done_217 ?_ | refine rv_iadd hX dX4_done_217 ?_
                    refine mv_st hX (j := 1) (by decide) (by decide) rfl (by decide) (show _ < 11 by omega) dX4_done_218 ?_
                    refine rv_aload_n hX dX4_done_219 rfl ?_
                    refine mv_ga hX (k := 1) (j := 1) gX4_7_X4 (by decide) rfl (by decide) dX4_done_220 ?_
                    refine nv_iconst hX (m := 3) (by decide) dX4_done_223 ?_
                    refine rv_dup2 hX dX4_done_224 rfl rfl ?_
                    refine mv_ld hX (j := 1) (by decide) (by decide) rfl (by decide) (show _ < 11 by omega) dX4_done_225 ?_
                    rw [rv_sU_2, if_neg (fun q => absurd q.2 (by decide)), hcp.2.2.2.2.2.1 1 (by decide), show (rv_sU τ_181 3 16 (nI s.w.nr)).2.1 1 3 = nI s.w.nr from s1.1.1.nr]
                    refine nv_iconst hX (m := 1) (by decide) dX4_done_226 ?_
                    first | refine nv_iadd hX dX4_done_227 ?_ | refine rv_iadd hX dX4_done_227 ?_
                    refine mv_st hX (j := 1) (by decide) (by decide) rfl (by decide) (show _ < 11 by omega) dX4_done_228 ?_
                    have hB := mDraft.body hS3 (s1.2.1.n16 (v := nI s.w.nr)) hw hwh (n := s.w.nr) (by rw [rv_sU_2, if_pos ⟨rfl, rfl⟩])
                    have hs1 : rv_same [] [1] τ_206 (rv_sU (rv_sU τ_206 1 1 (nI (s.w.R.length + 1))) 1 3 (nI (s.w.nr + 1))) := (rv_same.u (by decide)).tr (.u (by decide))
                    have hs2 : rv_same [] [1, 3, 4, 5, 6, 7, 8, 9, 10, 11, 12] τ_181 (rv_sU (rv_sU τ_206 1 1 (nI (s.w.R.length + 1))) 1 3 (nI (s.w.nr + 1))) := ((rv_same.u (by decide)).tr (hcp.2.2.2.2.mn (by decide) (by decide))).tr (hs1.mn (by decide) (by decide))
                    have g1 : ∀ i, (rv_sU (rv_sU τ_206 1 1 (nI (s.w.R.length + 1))) 1 3 (nI (s.w.nr + 1))).2.1 1 i = if i = 3 then nI (s.w.nr + 1) else if i = 1 then nI (s.w.R.length + 1) else τ_181.2.1 1 i := fun i => by
                      rw [rv_sU_2]
                      by_cases q : i = 3
                      · rw [if_pos ⟨rfl, q⟩, if_pos q]
                      · rw [if_neg (fun a => q a.2), if_neg q, rv_sU_2]
                        by_cases q2 : i = 1
                        · rw [if_pos ⟨rfl, q2⟩, if_pos q2]
                        · rw [if_neg (fun a => q2 a.2), if_neg q2, hcp.2.2.2.2.2.1 1 (by decide)]
                          rfl
                    have e3 : (rv_sU (rv_sU τ_206 1 1 (nI (s.w.R.length + 1))) 1 3 (nI (s.w.nr + 1))).2.1 3 16 = nI s.w.nr := by
                      rw [hs1.2.1 3 (by decide), hcp.1 3 (by decide), if_neg (by omega), rv_sU_2, if_pos ⟨rfl, rfl⟩]
                    generalize rv_sU (rv_sU τ_206 1 1 (nI (s.w.R.length + 1))) 1 3 (nI (s.w.nr + 1)) = υ at hs1 hs2 g1 e3
                    obtain ⟨dep, hdp⟩ := s1.2.2.2
                    have hW : mW0 υ (s.w.setR (s.w.R ++ [s.d.C s.w.nr]) (s.w.nr + 1)) := by
                      refine s1.1.1.chR hs2 (by decide) (fun i i2 i4 => by rw [g1, if_neg i4, if_neg i2]) (by rw [g1, if_neg (by decide), if_pos rfl, List.length_append]; rfl) (by rw [g1, if_pos rfl]) (by rw [List.length_append]; show s.w.R.length + 1 ≤ 10; omega) (fun i C e => ?_) (fun i C e => ?_)
                      · by_cases q : i = s.w.R.length
                        · rw [q, List.getElem?_append_right (Nat.le_refl _), Nat.sub_self] at e
                          cases e
                          rw [q]
                          exact ⟨(hB.cp hS3 hcp hC).same hs1 (by decide), hC⟩
                        · have hi1 : i < s.w.R.length := by
                            have hk9 := (List.getElem?_eq_some_iff.mp e).1
                            rw [List.length_append] at hk9
                            have hk8 : i < s.w.R.length + 1 := hk9
                            omega
                          rw [List.getElem?_append_left hi1] at e
                          obtain ⟨b1, b2⟩ := s1.1.1.rules.2.2.2 i C e
                          exact ⟨((b1.n16 (by omega)).cpo hS3 hcp b2 (by omega)).same hs1 (by decide), b2⟩
                      · have hi1 := (List.getElem?_eq_some_iff.mp e).1
                        obtain ⟨b1, b2⟩ := s1.1.1.deeds.2.2.2 i C e
                        exact ((b1.n16 (by omega)).cpo hS3 hcp b2 (by omega)).same hs1 (by decide)
                    have hdr := ((s1.2.1.n16 (v := nI s.w.nr)).cpo hS3 hcp (by omega) hw).same hs1 (by decide) (by decide)
                    have hsv := s2.same hs2 (by decide)
                    have hbg := s1.2.2.1.same hs2 (by decide) (by decide)
                    have hen := s1.1.2.same hs2 (by decide)
                    have hdp2 := hdp.same hs2 (by decide)
                    have bad : ∀ (τ' τ'' : rv_S), rv_same [29, 30, 31, 32, 33, 34, 39] [1, 15, 16, 22, 23, 24, 25, 26, 27, 28, 29, 30, 31, 32, 33, 34] υ τ' → (s.w.setR (s.w.R ++ [s.d.C s.w.nr]) (s.w.nr + 1)).stl = none → (mW τ'' s.w ∧ rv_same [] [1, 2, 3, 4, 5, 6, 7, 8, 9, 10, 11, 12, 13, 14, 15, 16, 17] (rv_sF τ' 0 (nI 1)) τ'' ∧ ∀ (S : List Nat) (dr : wDr), mDraft (rv_sF τ' 0 (nI 1)) S dr → mDraft τ'' S dr) → ∀ r, mRes τ'' r (o_done s) := by
                      intro τ' τ'' hs hno ⟨b1, b2, b3⟩ r
                      rw [hunf, hno]
                      refine ⟨by rw [b2.1 0 (by decide)]; rfl, fun e => absurd e (show ¬ 1 = 0 by decide), b1, b3 _ _ ((hdr.same hs (by decide) (by decide)).same (.f (fs := [0]) (js := []) (by decide)) (by decide) (by decide)), ((hbg.same hs (by decide) (by decide)).same (.f (fs := [0]) (js := []) (by decide)) (by decide) (by decide)).same b2 (by decide) (by decide), dep, ((hdp2.same hs (by decide)).same (.f (fs := [0]) (js := []) (by decide)) (by decide)).same b2 (by decide)⟩
                    refine rv_aload_n hX dX4_done_229 rfl ?_
                    refine rv_aload_n hX dX4_done_230 rfl ?_
                    refine mv_callz hX iX4_257 rfl mdX4_findStrata (m_findStrata hG (d := d - 1) (by omega) hW.rules) (by omega) rfl rfl (Nat.le_of_ble_eq_true rfl) dX4_done_231 (fun r_231 τ_231 h_231 => ?_)
                    obtain ⟨f1, f2, f3, f4⟩ := h_231
                    first | refine zv_if_eq hX 248 dX4_done_234 (by decide) (fun c_234 => ?_) (fun c_234 => ?_) | refine nv_if_eq hX 248 (by omega) dX4_done_234 (by decide) (fun c_234 => ?_) (fun c_234 => ?_) | refine rv_if_eq hX 248 dX4_done_234 (by decide) (fun c_234 => ?_) (fun c_234 => ?_)
                    · skip
                      have hno : (s.w.setR (s.w.R ++ [s.d.C s.w.nr]) (s.w.nr + 1)).stl = none := by
                        unfold wW.stl
                        rw [sp_set_str ?_]
                        · rfl
                        · cases e : sp_strata (s.w.setR (s.w.R ++ [s.d.C s.w.nr]) (s.w.nr + 1)).R with
                          | none => rfl
                          | some st => have := (f2 st e).1; rw [c_234] at this; exact absurd this (by decide)
                      refine nv_iconst hX (m := 1) (by decide) dX4_done_248 ?_
                      refine mv_callz hX iX4_266 rfl mdX4_goesWell (m_goesWellN hG (by decide) (by decide) (d := d - 1)) (by omega) rfl rfl (Nat.le_of_ble_eq_true rfl) dX4_done_249 (fun r_249 τ_249 h_249 => ?_)
                      obtain ⟨rfl, rfl⟩ := h_249
                      refine rv_if_ne hX 262 dX4_done_252 (by decide) (fun q => absurd q (by decide)) (fun _ => ?_)
                      refine rv_aload_n hX dX4_done_255 rfl ?_
                      refine nv_iconst hX (m := 3) (by decide) dX4_done_256 ?_
                      refine mv_callv hX iX4_287 rfl mdX4_bringBack (m_bringW hG (d := d - 1) (by omega) (i := 3) (w := s.w) (Nat.le_refl _) (by first | exact ((hsv.same f1 (by decide)).same q1 (by decide)).same (.f (fs := [0]) (js := []) (by decide)) (by decide) | exact (hsv.same f1 (by decide)).same (.f (fs := [0]) (js := []) (by decide)) (by decide))) (by omega) rfl rfl (Nat.le_of_ble_eq_true rfl) dX4_done_257 (fun τ_257 h_257 => ?_)
                      have hbr := h_257
                      refine nv_iconst hX (m := 0) (by decide) dX4_done_260 ?_
                      refine mv_reti hX hE dX4_done_261 ?_
                      first
                      | exact bad _ _ ((f1.mn (by decide) (by decide)).tr q1) hno hbr _
                      | exact bad _ _ (f1.mn (by decide) (by decide)) hno hbr _
                    · skip
                      obtain ⟨st, hst⟩ : ∃ st, sp_strata (s.w.setR (s.w.R ++ [s.d.C s.w.nr]) (s.w.nr + 1)).R = some st := by
                        cases e : sp_strata (s.w.setR (s.w.R ++ [s.d.C s.w.nr]) (s.w.nr + 1)).R with
                        | none => have := f3 e; rw [c_234] at this; exact absurd this (by decide)
                        | some st => exact ⟨st, rfl⟩
                      refine rv_aload_n hX dX4_done_237 rfl ?_
                      refine mv_callz hX iX4_284 rfl mdX4_settle (m_settleW hG (d := d - 1) (by omega) (hW.same f1 (by decide)) hst (hwf.st (by omega)) ⟨dep, hdp2.same f1 (by decide)⟩) (by omega) rfl rfl (Nat.le_of_ble_eq_true rfl) dX4_done_238 (fun r_238 τ_238 h_238 => ?_)
                      obtain ⟨q1, q2, q3⟩ := h_238
                      first | refine zv_if_eq hX 248 dX4_done_241 (by decide) (fun c_241 => ?_) (fun c_241 => ?_) | refine nv_if_eq hX 248 (by omega) dX4_done_241 (by decide) (fun c_241 => ?_) (fun c_241 => ?_) | refine rv_if_eq hX 248 dX4_done_241 (by decide) (fun c_241 => ?_) (fun c_241 => ?_)
                      · skip
                        have hno : (s.w.setR (s.w.R ++ [s.d.C s.w.nr]) (s.w.nr + 1)).stl = none := by
                          rcases q3 with ⟨r1, -⟩ | ⟨-, r2⟩
                          · rw [c_241] at r1; exact absurd r1 (by decide)
                          · exact r2
                        refine nv_iconst hX (m := 1) (by decide) dX4_done_248 ?_
                        refine mv_callz hX iX4_266 rfl mdX4_goesWell (m_goesWellN hG (by decide) (by decide) (d := d - 1)) (by omega) rfl rfl (Nat.le_of_ble_eq_true rfl) dX4_done_249 (fun r_249 τ_249 h_249 => ?_)
                        obtain ⟨rfl, rfl⟩ := h_249
                        refine rv_if_ne hX 262 dX4_done_252 (by decide) (fun q => absurd q (by decide)) (fun _ => ?_)
                        refine rv_aload_n hX dX4_done_255 rfl ?_
                        refine nv_iconst hX (m := 3) (by decide) dX4_done_256 ?_
                        refine mv_callv hX iX4_287 rfl mdX4_bringBack (m_bringW hG (d := d - 1) (by omega) (i := 3) (w := s.w) (Nat.le_refl _) (by first | exact ((hsv.same f1 (by decide)).same q1 (by decide)).same (.f (fs := [0]) (js := []) (by decide)) (by decide) | exact (hsv.same f1 (by decide)).same (.f (fs := [0]) (js := []) (by decide)) (by decide))) (by omega) rfl rfl (Nat.le_of_ble_eq_true rfl) dX4_done_257 (fun τ_257 h_257 => ?_)
                        have hbr := h_257
                        refine nv_iconst hX (m := 0) (by decide) dX4_done_260 ?_
                        refine mv_reti hX hE dX4_done_261 ?_
                        first
                        | exact bad _ _ ((f1.mn (by decide) (by decide)).tr q1) hno hbr _
                        | exact bad _ _ (f1.mn (by decide) (by decide)) hno hbr _
                      · skip
                        obtain ⟨w', hst1, hw1⟩ : ∃ w', (s.w.setR (s.w.R ++ [s.d.C s.w.nr]) (s.w.nr + 1)).stl = some w' ∧ mW0 τ_238 w' := by
                          rcases q3 with ⟨-, r2⟩ | ⟨r1, -⟩
                          · exact r2
                          · rw [c_241] at r1; exact absurd r1 (by decide)
                        refine nv_iconst hX (m := 0) (by decide) dX4_done_244 ?_
                        refine rv_goto hX 249 dX4_done_245 (by decide) ?_
                        refine mv_callz hX iX4_266 rfl mdX4_goesWell (m_goesWell0 hG (d := d - 1)) (by omega) rfl rfl (Nat.le_of_ble_eq_true rfl) dX4_done_249 (fun r_249 τ_249 h_249 => ?_)
                        obtain ⟨rfl, rfl⟩ := h_249
                        refine rv_if_ne hX 262 dX4_done_252 (by decide) (fun _ => ?_) (fun q => absurd q (by decide))
                        refine rv_aload_n hX dX4_done_262 rfl ?_
                        refine nv_iconst hX (m := 0) (by decide) dX4_done_263 ?_
                        refine mv_pi hX (k := 23) pX4_302_X4 (by decide) rfl rfl rfl dX4_done_264 ?_
                        refine rv_aload_n hX dX4_done_267 rfl ?_
                        refine mv_ga hX (k := 3) (j := 3) gX4_16_X4 (by decide) rfl (by decide) dX4_done_268 ?_
                        refine nv_bipush hX (m := 16) (by decide) dX4_done_271 ?_
                        refine mv_ld hX (j := 3) (by decide) (by decide) rfl (by decide) (show _ < 17 by omega) dX4_done_273 ?_
                        refine mv_reti hX hE dX4_done_274 ?_
                        rw [hunf, hst1]
                        obtain ⟨F9, -, rfl⟩ := wW.stl_spec hst1
                        have hall := (f1.mn (fs' := [29, 30, 31, 32, 33, 34, 39]) (js' := [1, 15, 16, 22, 23, 24, 25, 26, 27, 28, 29, 30, 31, 32, 33, 34]) (by decide) (by decide)).tr q1
                        obtain ⟨dep3, hd3⟩ := q2
                        have hs9 : rv_same [0, 23] [] τ_238 (rv_sF (rv_sF τ_238 0 (nI 0)) 23 (nI 0)) := (rv_same.f (by decide)).tr (.f (by decide))
                        have hdr9 := hdr.same hall (by decide) (by decide)
                        exact ⟨rfl, fun _ => by show τ_238.2.1 3 16 = nI s.w.nr; rw [hall.2.1 3 (by decide)]; exact e3, ⟨hw1.same hs9 (by decide), (hen.same hall (by decide)).same hs9 (by decide)⟩, ⟨rfl, Nat.zero_le _, hdr9.2.2.1, hdr9.2.2.2.1, hdr9.2.2.2.2.1, fun e => absurd rfl e⟩, (hbg.same hall (by decide) (by decide)).same hs9 (by decide) (by decide), dep3, hd3.same hs9 (by decide)⟩
                  · skip
                    have hunf : o_done s = (0, nI s.w.nd, (s.setw (s.w.setD (s.w.D ++ [s.d.C s.w.nd]) (s.w.nd + 1))).setd s.d.off) := by
                      unfold o_done
                      rw [if_neg (by rw [hyes]; decide), if_pos (by omega)]
                    refine rv_aload_n hX dX4_done_128 rfl ?_
                    refine mv_ga hX (k := 3) (j := 3) gX4_16_X4 (by decide) rfl (by decide) dX4_done_129 ?_
                    refine nv_bipush hX (m := 16) (by decide) dX4_done_132 ?_
                    refine rv_aload_n hX dX4_done_134 rfl ?_
                    refine mv_ga hX (k := 1) (j := 1) gX4_7_X4 (by decide) rfl (by decide) dX4_done_135 ?_
                    refine nv_iconst hX (m := 4) (by decide) dX4_done_138 ?_
                    refine mv_ld hX (j := 1) (by decide) (by decide) rfl (by decide) (show _ < 11 by omega) dX4_done_139 ?_
                    rw [show (rv_sF τ_42 0 (nI 0)).2.1 1 4 = nI s.w.nd from h.1.1.nd]
                    refine mv_st hX (j := 3) (by decide) (by decide) rfl (by decide) (show _ < 17 by omega) dX4_done_140 ?_
                    refine rv_aload_n hX dX4_done_141 rfl ?_
                    refine nv_bipush hX (m := 16) (by decide) dX4_done_142 ?_
                    refine nv_bipush hX (m := 10) (by decide) dX4_done_144 ?_
                    refine rv_aload_n hX dX4_done_146 rfl ?_
                    refine mv_ga hX (k := 1) (j := 1) gX4_7_X4 (by decide) rfl (by decide) dX4_done_147 ?_
                    refine nv_iconst hX (m := 2) (by decide) dX4_done_150 ?_
                    refine mv_ld hX (j := 1) (by decide) (by decide) rfl (by decide) (show _ < 11 by omega) dX4_done_151 ?_
                    rw [show (rv_sU (rv_sF τ_42 0 (nI 0)) 3 16 (nI s.w.nd)).2.1 1 2 = nI s.w.D.length from h.1.1.deeds.2.1]
                    first | refine nv_iadd hX dX4_done_152 ?_ | refine rv_iadd hX dX4_done_152 ?_
                    refine mv_callv hX iX4_326 rfl mdX4_copyBody (m_copyBody hG (d := d - 1) (by omega) (a := 16) (b := 10 + s.w.D.length) (by decide) (by omega) (by omega)) (by omega) rfl rfl (Nat.le_of_ble_eq_true rfl) dX4_done_153 (fun τ_153 h_153 => ?_)
                    have hcp := h_153
                    refine rv_aload_n hX dX4_done_156 rfl ?_
                    refine mv_ga hX (k := 1) (j := 1) gX4_7_X4 (by decide) rfl (by decide) dX4_done_157 ?_
                    refine nv_iconst hX (m := 2) (by decide) dX4_done_160 ?_
                    refine rv_dup2 hX dX4_done_161 rfl rfl ?_
                    refine mv_ld hX (j := 1) (by decide) (by decide) rfl (by decide) (show _ < 11 by omega) dX4_done_162 ?_
                    rw [hcp.2.2.2.2.2.1 1 (by decide), show (rv_sU (rv_sF τ_42 0 (nI 0)) 3 16 (nI s.w.nd)).2.1 1 2 = nI s.w.D.length from h.1.1.deeds.2.1]
                    refine nv_iconst hX (m := 1) (by decide) dX4_done_163 ?_
                    first | refine nv_iadd hX dX4_done_164 ?_ | refine rv_iadd hX dX4_done_164 ?_
                    refine mv_st hX (j := 1) (by decide) (by decide) rfl (by decide) (show _ < 11 by omega) dX4_done_165 ?_
                    refine rv_aload_n hX dX4_done_166 rfl ?_
                    refine mv_ga hX (k := 1) (j := 1) gX4_7_X4 (by decide) rfl (by decide) dX4_done_167 ?_
                    refine nv_iconst hX (m := 4) (by decide) dX4_done_170 ?_
                    refine rv_dup2 hX dX4_done_171 rfl rfl ?_
                    refine mv_ld hX (j := 1) (by decide) (by decide) rfl (by decide) (show _ < 11 by omega) dX4_done_172 ?_
                    rw [rv_sU_2, if_neg (fun q => absurd q.2 (by decide)), hcp.2.2.2.2.2.1 1 (by decide), show (rv_sU (rv_sF τ_42 0 (nI 0)) 3 16 (nI s.w.nd)).2.1 1 4 = nI s.w.nd from h.1.1.nd]
                    refine nv_iconst hX (m := 1) (by decide) dX4_done_173 ?_
                    first | refine nv_iadd hX dX4_done_174 ?_ | refine rv_iadd hX dX4_done_174 ?_
                    refine mv_st hX (j := 1) (by decide) (by decide) rfl (by decide) (show _ < 11 by omega) dX4_done_175 ?_
                    refine rv_goto hX 262 dX4_done_176 (by decide) ?_
                    refine rv_aload_n hX dX4_done_262 rfl ?_
                    refine nv_iconst hX (m := 0) (by decide) dX4_done_263 ?_
                    refine mv_pi hX (k := 23) pX4_302_X4 (by decide) rfl rfl rfl dX4_done_264 ?_
                    refine rv_aload_n hX dX4_done_267 rfl ?_
                    refine mv_ga hX (k := 3) (j := 3) gX4_16_X4 (by decide) rfl (by decide) dX4_done_268 ?_
                    refine nv_bipush hX (m := 16) (by decide) dX4_done_271 ?_
                    refine mv_ld hX (j := 3) (by decide) (by decide) rfl (by decide) (show _ < 17 by omega) dX4_done_273 ?_
                    refine mv_reti hX hE dX4_done_274 ?_
                    rw [hunf]
                    have hth := h.thrown (nI 0)
                    have hC := wDr.C_wf hS3 hw hwh hsd (n := s.w.nd) (by omega)
                    have hB := mDraft.body hS3 (hth.2.1.n16 (v := nI s.w.nd)) hw hwh (n := s.w.nd) (by rw [rv_sU_2, if_pos ⟨rfl, rfl⟩])
                    have hs1 : rv_same [23] [1] τ_153 (rv_sF (rv_sU (rv_sU τ_153 1 2 (nI (s.w.D.length + 1))) 1 4 (nI (s.w.nd + 1))) 23 (nI 0)) := ((rv_same.u (by decide)).tr (.u (by decide))).tr (.f (by decide))
                    have hs2 : rv_same [23] [1, 3, 4, 5, 6, 7, 8, 9, 10, 11, 12] (rv_sF τ_42 0 (nI 0)) (rv_sF (rv_sU (rv_sU τ_153 1 2 (nI (s.w.D.length + 1))) 1 4 (nI (s.w.nd + 1))) 23 (nI 0)) := ((rv_same.u (by decide)).tr (hcp.2.2.2.2.mn (by decide) (by decide))).tr (hs1.mn (by decide) (by decide))
                    have g1 : ∀ i, (rv_sF (rv_sU (rv_sU τ_153 1 2 (nI (s.w.D.length + 1))) 1 4 (nI (s.w.nd + 1))) 23 (nI 0)).2.1 1 i = if i = 4 then nI (s.w.nd + 1) else if i = 2 then nI (s.w.D.length + 1) else τ_42.2.1 1 i := fun i => by
                      rw [rv_sF_2, rv_sU_2]
                      by_cases q : i = 4
                      · rw [if_pos ⟨rfl, q⟩, if_pos q]
                      · rw [if_neg (fun a => q a.2), if_neg q, rv_sU_2]
                        by_cases q2 : i = 2
                        · rw [if_pos ⟨rfl, q2⟩, if_pos q2]
                        · rw [if_neg (fun a => q2 a.2), if_neg q2, hcp.2.2.2.2.2.1 1 (by decide)]
                          rfl
                    have e3 : (rv_sF (rv_sU (rv_sU τ_153 1 2 (nI (s.w.D.length + 1))) 1 4 (nI (s.w.nd + 1))) 23 (nI 0)).2.1 3 16 = nI s.w.nd := by
                      rw [hs1.2.1 3 (by decide), hcp.1 3 (by decide), if_neg (by omega), rv_sU_2, if_pos ⟨rfl, rfl⟩]
                    have h23 : (rv_sF (rv_sU (rv_sU τ_153 1 2 (nI (s.w.D.length + 1))) 1 4 (nI (s.w.nd + 1))) 23 (nI 0)).1 23 = nI 0 := rfl
                    generalize rv_sF (rv_sU (rv_sU τ_153 1 2 (nI (s.w.D.length + 1))) 1 4 (nI (s.w.nd + 1))) 23 (nI 0) = υ at hs1 hs2 g1 e3 h23
                    obtain ⟨dep, hdp⟩ := hth.2.2.2
                    have hdr := (hth.2.1.n16 (v := nI s.w.nd)).cpo hS3 hcp (by omega) hw
                    refine ⟨by rw [hs2.1 0 (by decide)]; rfl, fun _ => e3, ⟨hth.1.1.chD hs2 (by decide) (fun i i2 i4 => by rw [g1, if_neg i4, if_neg i2]; rfl) (by rw [g1, if_neg (by decide), if_pos rfl, List.length_append]; rfl) (by rw [g1, if_pos rfl]) (by rw [List.length_append]; show s.w.D.length + 1 ≤ 6; omega) (fun i C e => ?_) (fun i C e => ?_), hth.1.2.same hs2 (by decide)⟩, ?_, hth.2.2.1.same hs2 (by decide) (by decide), dep, hdp.same hs2 (by decide)⟩
                    · by_cases q : i = s.w.D.length
                      · rw [q, List.getElem?_append_right (Nat.le_refl _), Nat.sub_self] at e
                        cases e
                        rw [q]
                        exact ⟨(hB.cp hS3 hcp hC).same hs1 (by decide), hC⟩
                      · have hi1 : i < s.w.D.length := by
                          have hk9 := (List.getElem?_eq_some_iff.mp e).1
                          rw [List.length_append] at hk9
                          have hk8 : i < s.w.D.length + 1 := hk9
                          omega
                        rw [List.getElem?_append_left hi1] at e
                        obtain ⟨b1, b2⟩ := hth.1.1.deeds.2.2.2 i C e
                        exact ⟨((b1.n16 (by omega)).cpo hS3 hcp b2 (by omega)).same hs1 (by decide), b2⟩
                    · have hi1 := (List.getElem?_eq_some_iff.mp e).1
                      obtain ⟨b1, b2⟩ := hth.1.1.rules.2.2.2 i C e
                      exact ((b1.n16 (by omega)).cpo hS3 hcp b2 (by omega)).same hs1 (by decide)
                    · refine ⟨h23, Nat.zero_le _, ?_, ?_, ?_, fun e => absurd rfl e⟩
                      · rw [hs1.2.1 10 (by decide)]; exact hdr.2.2.1
                      · rw [hs1.2.1 11 (by decide)]; exact hdr.2.2.2.1
                      · rw [hs1.2.1 12 (by decide)]; exact hdr.2.2.2.2.1
