/-! THE REFERENCE: the stack, transactions, the agenda, matches asked for -/
set_option maxRecDepth 100000
theorem m_now {G : rv_G} (hG : rv_GK G) {d : Nat} {σ : rv_S} {s : wS} (h : mSt σ s) : mC G d yX4_now wX4_now [] σ (mPi (fun r τ => mRes τ r (o_now s))) := by
  refine mv_start hG (by decide +kernel) (Nat.le_of_ble_eq_true rfl) (fun X Hb o hX1 hX hE => ?_)
  subst hX1
  show rv_V X (rv_mh Hb o _) 0 [some (.ref o)] []
  refine rv_aload_n hX dX4_now_0 rfl ?_
  refine nv_iconst hX (m := 0) (by decide) dX4_now_1 ?_
  refine mv_pi hX (k := 0) pX4_131_X4 (by decide) rfl rfl rfl dX4_now_2 ?_
  refine rv_aload_n hX dX4_now_5 rfl ?_
  refine mv_ga hX (k := 1) (j := 1) gX4_7_X4 (by decide) rfl (by decide) dX4_now_6 ?_
  refine nv_bipush hX (m := 9) (by decide) dX4_now_9 ?_
  refine mv_ld hX (j := 1) (by decide) (by decide) rfl (by decide) (show _ < 11 by omega) dX4_now_11 ?_
  refine mv_reti hX hE dX4_now_12 ?_
  exact ⟨rfl, fun _ => h.1.1.now, h.thrown _⟩
theorem m_focused {G : rv_G} (hG : rv_GK G) {d : Nat} {σ : rv_S} {s : wS} (h : mSt σ s) : mC G d yX4_focused wX4_focused [] σ (mPi (fun r τ => mRes τ r (o_focused s))) := by
  refine mv_start hG (by decide +kernel) (Nat.le_of_ble_eq_true rfl) (fun X Hb o hX1 hX hE => ?_)
  subst hX1
  show rv_V X (rv_mh Hb o _) 0 [some (.ref o)] []
  have hK := h.1.1.stk
  have hK1 := hK.2.1
  have hK8 := hK.2.2.1
  obtain ⟨m, hm1, hm2⟩ := sp_last_get (l := s.w.K) (fun e => by rw [e] at hK1; exact absurd hK1 (by decide))
  refine rv_aload_n hX dX4_focused_0 rfl ?_
  refine nv_iconst hX (m := 0) (by decide) dX4_focused_1 ?_
  refine mv_pi hX (k := 0) pX4_131_X4 (by decide) rfl rfl rfl dX4_focused_2 ?_
  refine rv_aload_n hX dX4_focused_5 rfl ?_
  refine mv_ga hX (k := 17) (j := 17) gX4_58_X4 (by decide) rfl (by decide) dX4_focused_6 ?_
  refine rv_aload_n hX dX4_focused_9 rfl ?_
  refine mv_ga hX (k := 1) (j := 1) gX4_7_X4 (by decide) rfl (by decide) dX4_focused_10 ?_
  refine nv_bipush hX (m := 8) (by decide) dX4_focused_13 ?_
  refine mv_ld hX (j := 1) (by decide) (by decide) rfl (by decide) (show _ < 11 by omega) dX4_focused_15 ?_
  rw [show (rv_sF σ 0 (nI 0)).2.1 1 8 = nI s.w.K.length from hK.1]
  refine nv_iconst hX (m := 1) (by decide) dX4_focused_16 ?_
  first | refine nv_isub hX (by omega) dX4_focused_17 ?_ | refine rv_isub hX dX4_focused_17 ?_
  refine mv_ld hX (j := 17) (by decide) (by decide) rfl (by decide) (show _ < 8 by omega) dX4_focused_18 ?_
  refine mv_reti hX hE dX4_focused_19 ?_
  refine ⟨rfl, fun _ => ?_, h.thrown _⟩
  show σ.2.1 17 (s.w.K.length - 1) = nI (s.w.K.getLastD 0)
  rw [(hK.2.2.2 _ m hm2).1, List.getLastD_eq_getLast?, hm1]
  rfl
theorem m_focus {G : rv_G} (hG : rv_GK G) {d : Nat} (hd : 2 ≤ d) {σ : rv_S} {s : wS} (h : mSt σ s) {m : Int32} : mC G d yX4_focus wX4_focus [.int m] σ (mPi (fun r τ => mRes τ r (o_focus s m))) := by
  refine mv_start hG (by decide +kernel) (Nat.le_of_ble_eq_true rfl) (fun X Hb o hX1 hX hE => ?_)
  subst hX1
  show rv_V X (rv_mh Hb o _) 0 [some (.ref o), some (.int m)] []
  have hK := h.1.1.stk
  have hK1 := hK.2.1
  have hK8 := hK.2.2.1
  refine rv_aload_n hX dX4_focus_0 rfl ?_
  refine rv_iload_n hX dX4_focus_1 rfl ?_
  refine nv_iconst hX (m := 0) (by decide) dX4_focus_2 ?_
  refine nv_iconst hX (m := 3) (by decide) dX4_focus_3 ?_
  refine sv_callz hX iX4_135 mdX4_in (m_in hG (d := d - 1) (v := m)) (by omega) rfl rfl (Nat.le_of_ble_eq_true rfl) dX4_focus_4 (fun r_4 h_4 => ?_)
  have hm := h_4
  first | refine zv_if_ne hX 14 dX4_focus_7 (by decide) (fun c_7 => ?_) (fun c_7 => ?_) | refine nv_if_ne hX 14 (by omega) dX4_focus_7 (by decide) (fun c_7 => ?_) (fun c_7 => ?_) | refine rv_if_ne hX 14 dX4_focus_7 (by decide) (fun c_7 => ?_) (fun c_7 => ?_)
  · skip
    refine rv_aload_n hX dX4_focus_14 rfl ?_
    refine mv_ga hX (k := 1) (j := 1) gX4_7_X4 (by decide) rfl (by decide) dX4_focus_15 ?_
    refine nv_bipush hX (m := 8) (by decide) dX4_focus_18 ?_
    refine mv_ld hX (j := 1) (by decide) (by decide) rfl (by decide) (show _ < 11 by omega) dX4_focus_20 ?_
    rw [hK.1]
    refine nv_bipush hX (m := 8) (by decide) dX4_focus_21 ?_
    first | refine nv_icmp_ne hX 30 (by omega) (by omega) dX4_focus_23 (by decide) (fun c_23 => ?_) (fun c_23 => ?_) | refine rv_icmp_ne hX 30 dX4_focus_23 (by decide) (fun c_23 => ?_) (fun c_23 => ?_)
    · skip
      refine nv_iconst hX (m := 0) (by decide) dX4_focus_30 ?_
      refine mv_callz hX iX4_266 rfl mdX4_goesWell (m_goesWell0 hG (d := d - 1)) (by omega) rfl rfl (Nat.le_of_ble_eq_true rfl) dX4_focus_31 (fun r_31 τ_31 h_31 => ?_)
      obtain ⟨rfl, rfl⟩ := h_31
      refine rv_if_ne hX 39 dX4_focus_34 (by decide) (fun _ => ?_) (fun q => absurd q (by decide))
      obtain ⟨n, n1, n2, rfl, n3⟩ := w_rng_nat (by decide) (by decide) (hm.mp c_7)
      refine rv_aload_n hX dX4_focus_39 rfl ?_
      refine mv_ga hX (k := 17) (j := 17) gX4_58_X4 (by decide) rfl (by decide) dX4_focus_40 ?_
      refine rv_aload_n hX dX4_focus_43 rfl ?_
      refine mv_ga hX (k := 1) (j := 1) gX4_7_X4 (by decide) rfl (by decide) dX4_focus_44 ?_
      refine nv_bipush hX (m := 8) (by decide) dX4_focus_47 ?_
      refine mv_ld hX (j := 1) (by decide) (by decide) rfl (by decide) (show _ < 11 by omega) dX4_focus_49 ?_
      rw [show (rv_sF σ 0 (nI 0)).2.1 1 8 = nI s.w.K.length from hK.1]
      refine rv_iload_n hX dX4_focus_50 rfl ?_
      refine mv_st hX (j := 17) (by decide) (by decide) rfl (by decide) (show _ < 8 by omega) dX4_focus_51 ?_
      refine rv_aload_n hX dX4_focus_52 rfl ?_
      refine mv_ga hX (k := 1) (j := 1) gX4_7_X4 (by decide) rfl (by decide) dX4_focus_53 ?_
      refine nv_bipush hX (m := 8) (by decide) dX4_focus_56 ?_
      refine rv_dup2 hX dX4_focus_58 rfl rfl ?_
      refine mv_ld hX (j := 1) (by decide) (by decide) rfl (by decide) (show _ < 11 by omega) dX4_focus_59 ?_
      rw [show (rv_sU (rv_sF σ 0 (nI 0)) 17 s.w.K.length (nI n)).2.1 1 8 = nI s.w.K.length from by rw [rv_sU_2, if_neg (fun q => absurd q.1 (by decide))]; exact hK.1]
      refine nv_iconst hX (m := 1) (by decide) dX4_focus_60 ?_
      first | refine nv_iadd hX dX4_focus_61 ?_ | refine rv_iadd hX dX4_focus_61 ?_
      refine mv_st hX (j := 1) (by decide) (by decide) rfl (by decide) (show _ < 11 by omega) dX4_focus_62 ?_
      refine rv_aload_n hX dX4_focus_63 rfl ?_
      refine mv_ga hX (k := 1) (j := 1) gX4_7_X4 (by decide) rfl (by decide) dX4_focus_64 ?_
      refine nv_bipush hX (m := 8) (by decide) dX4_focus_67 ?_
      refine mv_ld hX (j := 1) (by decide) (by decide) rfl (by decide) (show _ < 11 by omega) dX4_focus_69 ?_
      rw [rv_sU_2, if_pos ⟨rfl, rfl⟩]
      refine mv_reti hX hE dX4_focus_70 ?_
      unfold o_focus
      rw [if_neg (fun q => q (hm.mp c_7)), if_neg (by omega), n3]
      have hs : rv_same [0] [1, 17] σ (rv_sU (rv_sU (rv_sF σ 0 (nI 0)) 17 s.w.K.length (nI n)) 1 8 (nI (s.w.K.length + 1))) := ((rv_same.f (by decide)).tr (.u (by decide))).tr (.u (by decide))
      have h1 : ∀ i, (rv_sU (rv_sU (rv_sF σ 0 (nI 0)) 17 s.w.K.length (nI n)) 1 8 (nI (s.w.K.length + 1))).2.1 1 i = if i = 8 then nI (s.w.K.length + 1) else σ.2.1 1 i := fun i => by
        rw [rv_sU_2]
        by_cases q : i = 8
        · rw [if_pos ⟨rfl, q⟩, if_pos q]
        · rw [if_neg (fun a => q a.2), if_neg q, rv_sU_2, if_neg (fun q => absurd q.1 (by decide))]
          rfl
      have h17 : ∀ i, (rv_sU (rv_sU (rv_sF σ 0 (nI 0)) 17 s.w.K.length (nI n)) 1 8 (nI (s.w.K.length + 1))).2.1 17 i = if i = s.w.K.length then nI n else σ.2.1 17 i := fun i => by
        rw [rv_sU_2, if_neg (fun q => absurd q.1 (by decide)), rv_sU_2]
        by_cases q : i = s.w.K.length
        · rw [if_pos ⟨rfl, q⟩, if_pos q]
        · rw [if_neg (fun a => q a.2), if_neg q]
          rfl
      have h0 : (rv_sU (rv_sU (rv_sF σ 0 (nI 0)) 17 s.w.K.length (nI n)) 1 8 (nI (s.w.K.length + 1))).1 0 = nI 0 := rfl
      generalize rv_sU (rv_sU (rv_sF σ 0 (nI 0)) 17 s.w.K.length (nI n)) 1 8 (nI (s.w.K.length + 1)) = τ at hs h1 h17 h0
      obtain ⟨dep, hdp⟩ := h.2.2.2
      have e1 : ∀ i, i ≠ 8 → τ.2.1 1 i = σ.2.1 1 i := fun i hi => by rw [h1, if_neg hi]
      have hW := h.1.1
      refine ⟨h0, fun _ => rfl, ⟨⟨hW.rules.same2 hs (e1 0 (by decide)) (e1 1 (by decide)) (by decide), hW.deeds.same2 hs (e1 0 (by decide)) (e1 2 (by decide)) (by decide), by rw [e1 3 (by decide)]; exact hW.nr, by rw [e1 4 (by decide)]; exact hW.nd, hW.tl.same2 hs (e1 5 (by decide)) (by decide), ⟨by rw [e1 6 (by decide)]; exact hW.facts.1, hW.facts.2.1, hW.facts.2.2.1, fun k f e => by rw [hs.2.1 15 (by decide)]; exact hW.facts.2.2.2 k f e⟩, hW.tags.same hs (by decide), by rw [e1 7 (by decide)]; exact hW.g, ⟨?_, ?_, ?_, fun k x e => ?_⟩, by rw [e1 9 (by decide)]; exact hW.now, by rw [e1 10 (by decide)]; exact hW.fd⟩, h.1.2.same hs (by decide)⟩, h.2.1.same hs (by decide) (by decide), h.2.2.1.same hs (by decide) (by decide), dep, hdp.same hs (by decide)⟩
      · rw [h1, if_pos rfl]
        show _ = nI (s.w.K ++ [n]).length
        rw [List.length_append]
        rfl
      · show 1 ≤ (s.w.K ++ [n]).length
        rw [List.length_append]
        omega
      · show (s.w.K ++ [n]).length ≤ 8
        rw [List.length_append]
        show s.w.K.length + 1 ≤ 8
        omega
      · have e' : (s.w.K ++ [n])[k]? = some x := e
        rw [h17]
        by_cases q : k = s.w.K.length
        · rw [q, List.getElem?_append_right (Nat.le_refl _), Nat.sub_self] at e'
          cases e'
          rw [if_pos q]
          exact ⟨rfl, by omega⟩
        · have hk : k < s.w.K.length := by
            have hk9 := (List.getElem?_eq_some_iff.mp e').1
            rw [List.length_append] at hk9
            have hk8 : k < s.w.K.length + 1 := hk9
            omega
          rw [List.getElem?_append_left hk] at e'
          rw [if_neg q]
          exact hK.2.2.2 k x e'
    · skip
      refine nv_iconst hX (m := 2) (by decide) dX4_focus_26 ?_
      refine rv_goto hX 31 dX4_focus_27 (by decide) ?_
      refine mv_callz hX iX4_266 rfl mdX4_goesWell (m_goesWellN hG (by decide) (by decide) (d := d - 1)) (by omega) rfl rfl (Nat.le_of_ble_eq_true rfl) dX4_focus_31 (fun r_31 τ_31 h_31 => ?_)
      obtain ⟨rfl, rfl⟩ := h_31
      refine rv_if_ne hX 39 dX4_focus_34 (by decide) (fun q => absurd q (by decide)) (fun _ => ?_)
      refine nv_iconst hX (m := 0) (by decide) dX4_focus_37 ?_
      refine mv_reti hX hE dX4_focus_38 ?_
      unfold o_focus
      first
        | (rw [if_pos (fun q => absurd ((hm.mpr q).symm.trans c_7) (by decide))]
           exact h.th (by decide))
        | (rw [if_neg (fun q => q (hm.mp c_7)), if_pos (by omega)]
           exact h.th (by decide))
  · skip
    refine nv_iconst hX (m := 1) (by decide) dX4_focus_10 ?_
    refine rv_goto hX 31 dX4_focus_11 (by decide) ?_
    refine mv_callz hX iX4_266 rfl mdX4_goesWell (m_goesWellN hG (by decide) (by decide) (d := d - 1)) (by omega) rfl rfl (Nat.le_of_ble_eq_true rfl) dX4_focus_31 (fun r_31 τ_31 h_31 => ?_)
    obtain ⟨rfl, rfl⟩ := h_31
    refine rv_if_ne hX 39 dX4_focus_34 (by decide) (fun q => absurd q (by decide)) (fun _ => ?_)
    refine nv_iconst hX (m := 0) (by decide) dX4_focus_37 ?_
    refine mv_reti hX hE dX4_focus_38 ?_
    unfold o_focus
    first
      | (rw [if_pos (fun q => absurd ((hm.mpr q).symm.trans c_7) (by decide))]
         exact h.th (by decide))
      | (rw [if_neg (fun q => q (hm.mp c_7)), if_pos (by omega)]
         exact h.th (by decide))
theorem m_begin {G : rv_G} (hG : rv_GK G) {d : Nat} (hd : 2 ≤ d) {σ : rv_S} {s : wS} (h : mSt σ s) : mC G d yX4_begin wX4_begin [] σ (mPi (fun r τ => mRes τ r (o_begin s))) := by
  refine mv_start hG (by decide +kernel) (Nat.le_of_ble_eq_true rfl) (fun X Hb o hX1 hX hE => ?_)
  subst hX1
  show rv_V X (rv_mh Hb o _) 0 [some (.ref o)] []
  have hk2 := h.2.1.2.1
  have hb3 := h.2.2.1.2.1
  refine rv_aload_n hX dX4_begin_0 rfl ?_
  refine rv_aload_n hX dX4_begin_1 rfl ?_
  refine mv_gi hX (k := 23) gX4_302_X4 (by decide) rfl dX4_begin_2 ?_
  rw [h.2.1.1]
  first | refine nv_if_gt hX 16 (by omega) dX4_begin_5 (by decide) (fun c_5 => ?_) (fun c_5 => ?_) | refine rv_if_gt hX 16 dX4_begin_5 (by decide) (fun c_5 => ?_) (fun c_5 => ?_)
  · skip
    refine nv_iconst hX (m := 1) (by decide) dX4_begin_16 ?_
    refine rv_goto hX 21 dX4_begin_17 (by decide) ?_
    refine mv_callz hX iX4_266 rfl mdX4_goesWell (m_goesWellN hG (by decide) (by decide) (d := d - 1)) (by omega) rfl rfl (Nat.le_of_ble_eq_true rfl) dX4_begin_21 (fun r_21 τ_21 h_21 => ?_)
    obtain ⟨rfl, rfl⟩ := h_21
    refine rv_if_ne hX 29 dX4_begin_24 (by decide) (fun q => absurd q (by decide)) (fun _ => ?_)
    refine nv_iconst hX (m := 0) (by decide) dX4_begin_27 ?_
    refine mv_reti hX hE dX4_begin_28 ?_
    unfold o_begin
    rw [if_pos (show 0 < s.d.k ∨ s.b.length = 3 by omega)]
    exact h.th (by decide)
  · skip
    refine rv_aload_n hX dX4_begin_8 rfl ?_
    refine mv_gi hX (k := 22) gX4_441_X4 (by decide) rfl dX4_begin_9 ?_
    rw [h.2.2.1.1]
    refine nv_iconst hX (m := 3) (by decide) dX4_begin_12 ?_
    first | refine nv_icmp_ne hX 20 (by omega) (by omega) dX4_begin_13 (by decide) (fun c_13 => ?_) (fun c_13 => ?_) | refine rv_icmp_ne hX 20 dX4_begin_13 (by decide) (fun c_13 => ?_) (fun c_13 => ?_)
    · skip
      refine nv_iconst hX (m := 0) (by decide) dX4_begin_20 ?_
      refine mv_callz hX iX4_266 rfl mdX4_goesWell (m_goesWell0 hG (d := d - 1)) (by omega) rfl rfl (Nat.le_of_ble_eq_true rfl) dX4_begin_21 (fun r_21 τ_21 h_21 => ?_)
      obtain ⟨rfl, rfl⟩ := h_21
      refine rv_if_ne hX 29 dX4_begin_24 (by decide) (fun _ => ?_) (fun q => absurd q (by decide))
      refine rv_aload_n hX dX4_begin_29 rfl ?_
      refine rv_aload_n hX dX4_begin_30 rfl ?_
      refine mv_gi hX (k := 22) gX4_441_X4 (by decide) rfl dX4_begin_31 ?_
      rw [show (rv_sF σ 0 (nI 0)).1 22 = nI s.b.length from h.2.2.1.1]
      refine mv_callv hX iX4_275 rfl mdX4_save (m_save hG (d := d - 1) (by omega) (w := s.b.length) (by omega)) (by omega) rfl rfl (Nat.le_of_ble_eq_true rfl) dX4_begin_34 (fun τ_34 h_34 => ?_)
      obtain ⟨s1, s2, s3⟩ := h_34
      refine rv_aload_n hX dX4_begin_37 rfl ?_
      refine rv_dup hX dX4_begin_38 rfl ?_
      refine mv_gi hX (k := 22) gX4_441_X4 (by decide) rfl dX4_begin_39 ?_
      rw [show τ_34.1 22 = nI s.b.length from by rw [s3.1 22 (by decide)]; exact h.2.2.1.1]
      refine nv_iconst hX (m := 1) (by decide) dX4_begin_42 ?_
      first | refine nv_iadd hX dX4_begin_43 ?_ | refine rv_iadd hX dX4_begin_43 ?_
      refine mv_pi hX (k := 22) pX4_441_X4 (by decide) rfl rfl rfl dX4_begin_44 ?_
      refine rv_aload_n hX dX4_begin_47 rfl ?_
      refine mv_gi hX (k := 22) gX4_441_X4 (by decide) rfl dX4_begin_48 ?_
      refine mv_reti hX hE dX4_begin_51 ?_
      unfold o_begin
      rw [if_neg (show ¬ (0 < s.d.k ∨ s.b.length = 3) by omega)]
      have hth := h.thrown (nI 0)
      obtain ⟨dep, hdp⟩ := hth.2.2.2
      have hs : rv_same [22] [] τ_34 (rv_sF τ_34 22 (nI (s.b.length + 1))) := .f (by decide)
      have hs2 : rv_same [22] [19, 20, 21] (rv_sF σ 0 (nI 0)) (rv_sF τ_34 22 (nI (s.b.length + 1))) := (s3.mn (by decide) (by decide)).tr (hs.mn (by decide) (by decide))
      have hbg := hth.2.2.1.out s2 s3 (Nat.le_refl _)
      refine ⟨by rw [hs2.1 0 (by decide)]; rfl, fun _ => rfl, ⟨hth.1.1.same hs2 (by decide), hth.1.2.same hs2 (by decide)⟩, hth.2.1.same hs2 (by decide) (by decide), ⟨?_, ?_, fun i w e => ?_⟩, dep, hdp.same hs2 (by decide)⟩
      · show nI (s.b.length + 1) = nI (s.b ++ [s.w]).length
        rw [List.length_append]
        rfl
      · show (s.b ++ [s.w]).length ≤ 3
        rw [List.length_append]
        show s.b.length + 1 ≤ 3
        omega
      · have e' : (s.b ++ [s.w])[i]? = some w := e
        by_cases q : i = s.b.length
        · rw [q, List.getElem?_append_right (Nat.le_refl _), Nat.sub_self] at e'
          cases e'
          rw [q]
          exact ⟨_, hth.1.1, s1.same hs (by decide), hth.1.2.same hs2 (by decide)⟩
        · have hk : i < s.b.length := by
            have hk9 := (List.getElem?_eq_some_iff.mp e').1
            rw [List.length_append] at hk9
            have hk8 : i < s.b.length + 1 := hk9
            omega
          rw [List.getElem?_append_left hk] at e'
          obtain ⟨υ, a, b, c⟩ := hbg.2.2 i w e'
          exact ⟨υ, a, b.same hs (by decide), c.same hs (by decide)⟩
    · skip
      refine nv_iconst hX (m := 1) (by decide) dX4_begin_16 ?_
      refine rv_goto hX 21 dX4_begin_17 (by decide) ?_
      refine mv_callz hX iX4_266 rfl mdX4_goesWell (m_goesWellN hG (by decide) (by decide) (d := d - 1)) (by omega) rfl rfl (Nat.le_of_ble_eq_true rfl) dX4_begin_21 (fun r_21 τ_21 h_21 => ?_)
      obtain ⟨rfl, rfl⟩ := h_21
      refine rv_if_ne hX 29 dX4_begin_24 (by decide) (fun q => absurd q (by decide)) (fun _ => ?_)
      refine nv_iconst hX (m := 0) (by decide) dX4_begin_27 ?_
      refine mv_reti hX hE dX4_begin_28 ?_
      unfold o_begin
      rw [if_pos (show 0 < s.d.k ∨ s.b.length = 3 by omega)]
      exact h.th (by decide)
theorem m_commit {G : rv_G} (hG : rv_GK G) {d : Nat} (hd : 1 ≤ d) {σ : rv_S} {s : wS} (h : mSt σ s) : mC G d yX4_commit wX4_commit [] σ (mPi (fun r τ => mRes τ r (o_commit s))) := by
  refine mv_start hG (by decide +kernel) (Nat.le_of_ble_eq_true rfl) (fun X Hb o hX1 hX hE => ?_)
  subst hX1
  show rv_V X (rv_mh Hb o _) 0 [some (.ref o)] []
  have hk2 := h.2.1.2.1
  have hb3 := h.2.2.1.2.1
  refine rv_aload_n hX dX4_commit_0 rfl ?_
  refine rv_aload_n hX dX4_commit_1 rfl ?_
  refine mv_gi hX (k := 23) gX4_302_X4 (by decide) rfl dX4_commit_2 ?_
  rw [h.2.1.1]
  first | refine nv_if_gt hX 15 (by omega) dX4_commit_5 (by decide) (fun c_5 => ?_) (fun c_5 => ?_) | refine rv_if_gt hX 15 dX4_commit_5 (by decide) (fun c_5 => ?_) (fun c_5 => ?_)
  · skip
    refine nv_iconst hX (m := 1) (by decide) dX4_commit_15 ?_
    refine rv_goto hX 20 dX4_commit_16 (by decide) ?_
    refine mv_callz hX iX4_266 rfl mdX4_goesWell (m_goesWellN hG (by decide) (by decide) (d := d - 1)) (by omega) rfl rfl (Nat.le_of_ble_eq_true rfl) dX4_commit_20 (fun r_20 τ_20 h_20 => ?_)
    obtain ⟨rfl, rfl⟩ := h_20
    refine rv_if_ne hX 28 dX4_commit_23 (by decide) (fun q => absurd q (by decide)) (fun _ => ?_)
    refine nv_iconst hX (m := 0) (by decide) dX4_commit_26 ?_
    refine mv_reti hX hE dX4_commit_27 ?_
    unfold o_commit
    rw [if_pos (show 0 < s.d.k ∨ s.b.length = 0 by omega)]
    exact h.th (by decide)
  · skip
    refine rv_aload_n hX dX4_commit_8 rfl ?_
    refine mv_gi hX (k := 22) gX4_441_X4 (by decide) rfl dX4_commit_9 ?_
    rw [h.2.2.1.1]
    first | refine zv_if_ne hX 19 dX4_commit_12 (by decide) (fun c_12 => ?_) (fun c_12 => ?_) | refine nv_if_ne hX 19 (by omega) dX4_commit_12 (by decide) (fun c_12 => ?_) (fun c_12 => ?_) | refine rv_if_ne hX 19 dX4_commit_12 (by decide) (fun c_12 => ?_) (fun c_12 => ?_)
    · skip
      refine nv_iconst hX (m := 0) (by decide) dX4_commit_19 ?_
      refine mv_callz hX iX4_266 rfl mdX4_goesWell (m_goesWell0 hG (d := d - 1)) (by omega) rfl rfl (Nat.le_of_ble_eq_true rfl) dX4_commit_20 (fun r_20 τ_20 h_20 => ?_)
      obtain ⟨rfl, rfl⟩ := h_20
      refine rv_if_ne hX 28 dX4_commit_23 (by decide) (fun _ => ?_) (fun q => absurd q (by decide))
      refine rv_aload_n hX dX4_commit_28 rfl ?_
      refine rv_dup hX dX4_commit_29 rfl ?_
      refine mv_gi hX (k := 22) gX4_441_X4 (by decide) rfl dX4_commit_30 ?_
      rw [show (rv_sF σ 0 (nI 0)).1 22 = nI s.b.length from h.2.2.1.1]
      refine nv_iconst hX (m := 1) (by decide) dX4_commit_33 ?_
      first | refine nv_isub hX (by omega) dX4_commit_34 ?_ | refine rv_isub hX dX4_commit_34 ?_
      refine mv_pi hX (k := 22) pX4_441_X4 (by decide) rfl rfl rfl dX4_commit_35 ?_
      refine rv_aload_n hX dX4_commit_38 rfl ?_
      refine mv_gi hX (k := 22) gX4_441_X4 (by decide) rfl dX4_commit_39 ?_
      refine mv_reti hX hE dX4_commit_42 ?_
      unfold o_commit
      rw [if_neg (show ¬ (0 < s.d.k ∨ s.b.length = 0) by omega)]
      have hth := h.thrown (nI 0)
      obtain ⟨dep, hdp⟩ := hth.2.2.2
      have hs : rv_same [22] [] (rv_sF σ 0 (nI 0)) (rv_sF (rv_sF σ 0 (nI 0)) 22 (nI (s.b.length - 1))) := .f (by decide)
      refine ⟨rfl, fun _ => rfl, ⟨hth.1.1.same hs (by decide), hth.1.2.same hs (by decide)⟩, hth.2.1.same hs (by decide) (by decide), ⟨?_, ?_, fun i w e => ?_⟩, dep, hdp.same hs (by decide)⟩
      · show nI (s.b.length - 1) = nI s.b.dropLast.length
        rw [List.length_dropLast]
      · show s.b.dropLast.length ≤ 3
        rw [List.length_dropLast]
        omega
      · have e' : s.b.dropLast[i]? = some w := e
        rw [List.dropLast_eq_take, List.getElem?_take] at e'
        split at e'
        · obtain ⟨υ, a, b, c⟩ := hth.2.2.1.2.2 i w e'
          exact ⟨υ, a, b.same hs (by decide), c.same hs (by decide)⟩
        · cases e'
    · skip
      refine nv_iconst hX (m := 1) (by decide) dX4_commit_15 ?_
      refine rv_goto hX 20 dX4_commit_16 (by decide) ?_
      refine mv_callz hX iX4_266 rfl mdX4_goesWell (m_goesWellN hG (by decide) (by decide) (d := d - 1)) (by omega) rfl rfl (Nat.le_of_ble_eq_true rfl) dX4_commit_20 (fun r_20 τ_20 h_20 => ?_)
      obtain ⟨rfl, rfl⟩ := h_20
      refine rv_if_ne hX 28 dX4_commit_23 (by decide) (fun q => absurd q (by decide)) (fun _ => ?_)
      refine nv_iconst hX (m := 0) (by decide) dX4_commit_26 ?_
      refine mv_reti hX hE dX4_commit_27 ?_
      unfold o_commit
      rw [if_pos (show 0 < s.d.k ∨ s.b.length = 0 by omega)]
      exact h.th (by decide)
theorem m_rollBack {G : rv_G} (hG : rv_GK G) {d : Nat} (hd : 2 ≤ d) {σ : rv_S} {s : wS} (h : mSt σ s) (hB : ∀ w, w ∈ s.b → wB6 w) : mC G d yX4_rollBack wX4_rollBack [] σ (mPi (fun r τ => mRes τ r (o_rollBack s))) := by
  refine mv_start hG (by decide +kernel) (Nat.le_of_ble_eq_true rfl) (fun X Hb o hX1 hX hE => ?_)
  subst hX1
  show rv_V X (rv_mh Hb o _) 0 [some (.ref o)] []
  have hk2 := h.2.1.2.1
  have hb3 := h.2.2.1.2.1
  have hnil : s.b.length = 0 → s.b.getLast? = none := fun e => by rw [List.eq_nil_of_length_eq_zero e]; rfl
  refine rv_aload_n hX dX4_rollBack_0 rfl ?_
  refine rv_aload_n hX dX4_rollBack_1 rfl ?_
  refine mv_gi hX (k := 23) gX4_302_X4 (by decide) rfl dX4_rollBack_2 ?_
  rw [h.2.1.1]
  first | refine nv_if_gt hX 15 (by omega) dX4_rollBack_5 (by decide) (fun c_5 => ?_) (fun c_5 => ?_) | refine rv_if_gt hX 15 dX4_rollBack_5 (by decide) (fun c_5 => ?_) (fun c_5 => ?_)
  · skip
    refine nv_iconst hX (m := 1) (by decide) dX4_rollBack_15 ?_
    refine rv_goto hX 20 dX4_rollBack_16 (by decide) ?_
    refine mv_callz hX iX4_266 rfl mdX4_goesWell (m_goesWellN hG (by decide) (by decide) (d := d - 1)) (by omega) rfl rfl (Nat.le_of_ble_eq_true rfl) dX4_rollBack_20 (fun r_20 τ_20 h_20 => ?_)
    obtain ⟨rfl, rfl⟩ := h_20
    refine rv_if_ne hX 28 dX4_rollBack_23 (by decide) (fun q => absurd q (by decide)) (fun _ => ?_)
    refine nv_iconst hX (m := 0) (by decide) dX4_rollBack_26 ?_
    refine mv_reti hX hE dX4_rollBack_27 ?_
    unfold o_rollBack
    first
      | (rw [if_pos (show 0 < s.d.k by omega)]
         exact h.th (by decide))
      | (rw [if_neg (show ¬ 0 < s.d.k by omega), hnil (by omega)]
         exact h.th (by decide))
  · skip
    refine rv_aload_n hX dX4_rollBack_8 rfl ?_
    refine mv_gi hX (k := 22) gX4_441_X4 (by decide) rfl dX4_rollBack_9 ?_
    rw [h.2.2.1.1]
    first | refine zv_if_ne hX 19 dX4_rollBack_12 (by decide) (fun c_12 => ?_) (fun c_12 => ?_) | refine nv_if_ne hX 19 (by omega) dX4_rollBack_12 (by decide) (fun c_12 => ?_) (fun c_12 => ?_) | refine rv_if_ne hX 19 dX4_rollBack_12 (by decide) (fun c_12 => ?_) (fun c_12 => ?_)
    · skip
      refine nv_iconst hX (m := 0) (by decide) dX4_rollBack_19 ?_
      refine mv_callz hX iX4_266 rfl mdX4_goesWell (m_goesWell0 hG (d := d - 1)) (by omega) rfl rfl (Nat.le_of_ble_eq_true rfl) dX4_rollBack_20 (fun r_20 τ_20 h_20 => ?_)
      obtain ⟨rfl, rfl⟩ := h_20
      refine rv_if_ne hX 28 dX4_rollBack_23 (by decide) (fun _ => ?_) (fun q => absurd q (by decide))
      refine rv_aload_n hX dX4_rollBack_28 rfl ?_
      refine rv_dup hX dX4_rollBack_29 rfl ?_
      refine mv_gi hX (k := 22) gX4_441_X4 (by decide) rfl dX4_rollBack_30 ?_
      rw [show (rv_sF σ 0 (nI 0)).1 22 = nI s.b.length from h.2.2.1.1]
      refine nv_iconst hX (m := 1) (by decide) dX4_rollBack_33 ?_
      first | refine nv_isub hX (by omega) dX4_rollBack_34 ?_ | refine rv_isub hX dX4_rollBack_34 ?_
      refine mv_pi hX (k := 22) pX4_441_X4 (by decide) rfl rfl rfl dX4_rollBack_35 ?_
      obtain ⟨w, w1, w2⟩ := sp_last_get (l := s.b) (fun e => by rw [e] at c_12; exact absurd c_12 (by decide))
      obtain ⟨υ, a, b, c⟩ := h.2.2.1.2.2 _ w w2
      have hth := h.thrown (nI 0)
      have hs : rv_same [22] [] (rv_sF σ 0 (nI 0)) (rv_sF (rv_sF σ 0 (nI 0)) 22 (nI (s.b.length - 1))) := .f (by decide)
      have hs0 : rv_same [0, 22] [] σ (rv_sF (rv_sF σ 0 (nI 0)) 22 (nI (s.b.length - 1))) := (rv_same.f (by decide)).tr (.f (by decide))
      have hbw := hB w (List.mem_of_getElem? w2)
      refine rv_aload_n hX dX4_rollBack_38 rfl ?_
      refine rv_aload_n hX dX4_rollBack_39 rfl ?_
      refine mv_gi hX (k := 22) gX4_441_X4 (by decide) rfl dX4_rollBack_40 ?_
      refine mv_callv hX iX4_287 rfl mdX4_bringBack (m_bringW hG (d := d - 1) (by omega) (i := s.b.length - 1) (w := w) (by omega) ⟨⟨υ, a, b.same hs0 (by decide)⟩, c.same hs0 (by decide), hbw⟩) (by omega) rfl rfl (Nat.le_of_ble_eq_true rfl) dX4_rollBack_43 (fun τ_43 h_43 => ?_)
      obtain ⟨b1, b2, b3⟩ := h_43
      refine rv_aload_n hX dX4_rollBack_46 rfl ?_
      refine mv_ga hX (k := 1) (j := 1) gX4_7_X4 (by decide) rfl (by decide) dX4_rollBack_47 ?_
      refine nv_bipush hX (m := 6) (by decide) dX4_rollBack_50 ?_
      refine mv_ld hX (j := 1) (by decide) (by decide) rfl (by decide) (show _ < 11 by omega) dX4_rollBack_52 ?_
      refine mv_reti hX hE dX4_rollBack_53 ?_
      unfold o_rollBack
      rw [if_neg (show ¬ 0 < s.d.k by omega), w1]
      obtain ⟨dep, hdp⟩ := hth.2.2.2
      have hd0 := hth.2.1.same hs (by decide) (by decide)
      have hk0 : s.d.k = 0 := by omega
      obtain ⟨d1, d2, d3, d4, d5, d6⟩ := b3 _ _ hd0
      refine ⟨by rw [b2.1 0 (by decide)]; rfl, fun _ => b1.1.facts.1, b1, ⟨d1, d2, d3, d4, d5, fun e => absurd hk0 e⟩, ⟨?_, ?_, fun i v e => ?_⟩, dep, (hdp.same hs (by decide)).same b2 (by decide)⟩
      · rw [b2.1 22 (by decide)]
        show nI (s.b.length - 1) = nI s.b.dropLast.length
        rw [List.length_dropLast]
      · show s.b.dropLast.length ≤ 3
        rw [List.length_dropLast]
        omega
      · have e' : s.b.dropLast[i]? = some v := e
        rw [List.dropLast_eq_take, List.getElem?_take] at e'
        split at e'
        · obtain ⟨υ, a, b, c⟩ := hth.2.2.1.2.2 i v e'
          exact ⟨υ, a, (b.same hs (by decide)).same b2 (by decide), (c.same hs (by decide)).same b2 (by decide)⟩
        · cases e'
    · skip
      refine nv_iconst hX (m := 1) (by decide) dX4_rollBack_15 ?_
      refine rv_goto hX 20 dX4_rollBack_16 (by decide) ?_
      refine mv_callz hX iX4_266 rfl mdX4_goesWell (m_goesWellN hG (by decide) (by decide) (d := d - 1)) (by omega) rfl rfl (Nat.le_of_ble_eq_true rfl) dX4_rollBack_20 (fun r_20 τ_20 h_20 => ?_)
      obtain ⟨rfl, rfl⟩ := h_20
      refine rv_if_ne hX 28 dX4_rollBack_23 (by decide) (fun q => absurd q (by decide)) (fun _ => ?_)
      refine nv_iconst hX (m := 0) (by decide) dX4_rollBack_26 ?_
      refine mv_reti hX hE dX4_rollBack_27 ?_
      unfold o_rollBack
      first
        | (rw [if_pos (show 0 < s.d.k by omega)]
           exact h.th (by decide))
        | (rw [if_neg (show ¬ 0 < s.d.k by omega), hnil (by omega)]
           exact h.th (by decide))
theorem wfW.tv {N : Nat} (hN : N ≤ 24) {w : wW} (h : wfW N w) : ∀ k, w.tv k < 2000000 := fun k => by
  unfold wW.tv
  rw [List.getD_eq_getElem?_getD]
  cases e : w.A[k]? with
  | none => decide
  | some t =>
    have h1 := (h.A.2.2.1 t (List.mem_of_getElem? e)).2
    have h2 := h.A.2.2.2
    show t < 2000000
    omega
theorem mW0.tv {σ : rv_S} {w : wW} (h : mW0 σ w) (hA : w.A.length = w.F.length) : ∀ k, k < w.F.length → σ.2.1 16 k = nI (w.tv k) := fun k hk => by
  have e := sp_S_getD (S := w.A) (k := k) (by omega)
  exact h.tags k _ e
theorem m_agenda {G : rv_G} (hG : rv_GK G) {d : Nat} (hd : 7 ≤ d) {σ : rv_S} {s : wS} {N : Nat} (hN : N ≤ 24) (h : mSt σ s) (hwf : wfW N s.w) {m : Int32} : mC G d yX4_agenda wX4_agenda [.int m] σ (mPi (fun r τ => mRes τ r (o_agenda s m))) := by
  refine mv_start hG (by decide +kernel) (Nat.le_of_ble_eq_true rfl) (fun X Hb o hX1 hX hE => ?_)
  subst hX1
  show rv_V X (rv_mh Hb o _) 0 [some (.ref o), some (.int m)] []
  have hth := h.thrown (nI 0)
  obtain ⟨dep, hdp⟩ := hth.2.2.2
  refine rv_aload_n hX dX4_agenda_0 rfl ?_
  refine rv_iload_n hX dX4_agenda_1 rfl ?_
  refine nv_iconst hX (m := 0) (by decide) dX4_agenda_2 ?_
  refine nv_iconst hX (m := 3) (by decide) dX4_agenda_3 ?_
  refine sv_callz hX iX4_135 mdX4_in (m_in hG (d := d - 1) (v := m)) (by omega) rfl rfl (Nat.le_of_ble_eq_true rfl) dX4_agenda_4 (fun r_4 h_4 => ?_)
  have hm := h_4
  first | refine zv_if_eq hX 14 dX4_agenda_7 (by decide) (fun c_7 => ?_) (fun c_7 => ?_) | refine nv_if_eq hX 14 (by omega) dX4_agenda_7 (by decide) (fun c_7 => ?_) (fun c_7 => ?_) | refine rv_if_eq hX 14 dX4_agenda_7 (by decide) (fun c_7 => ?_) (fun c_7 => ?_)
  · skip
    refine nv_iconst hX (m := 1) (by decide) dX4_agenda_14 ?_
    refine mv_callz hX iX4_266 rfl mdX4_goesWell (m_goesWellN hG (by decide) (by decide) (d := d - 1)) (by omega) rfl rfl (Nat.le_of_ble_eq_true rfl) dX4_agenda_15 (fun r_15 τ_15 h_15 => ?_)
    obtain ⟨rfl, rfl⟩ := h_15
    refine rv_if_eq hX 29 dX4_agenda_18 (by decide) (fun _ => ?_) (fun q => absurd q (by decide))
    refine nv_iconst hX (m := 0) (by decide) dX4_agenda_29 ?_
    refine mv_reti hX hE dX4_agenda_30 ?_
    unfold o_agenda
    first
      | (rw [if_pos (fun q => absurd ((hm.mpr q).symm.trans c_7) (by decide))]
         exact h.th (by decide))
      | (rw [if_neg (fun q => q (hm.mp c_7)), n3]
         exact ⟨by rw [b1.1 0 (by decide)]; rfl, fun _ => rfl, hth.same b1 (by decide) (by decide) ⟨dep, hdp.same b1 (by decide)⟩⟩)
  · skip
    refine nv_iconst hX (m := 0) (by decide) dX4_agenda_10 ?_
    refine rv_goto hX 15 dX4_agenda_11 (by decide) ?_
    refine mv_callz hX iX4_266 rfl mdX4_goesWell (m_goesWell0 hG (d := d - 1)) (by omega) rfl rfl (Nat.le_of_ble_eq_true rfl) dX4_agenda_15 (fun r_15 τ_15 h_15 => ?_)
    obtain ⟨rfl, rfl⟩ := h_15
    refine rv_if_eq hX 29 dX4_agenda_18 (by decide) (fun q => absurd q (by decide)) (fun _ => ?_)
    obtain ⟨n, n1, n2, rfl, n3⟩ := w_rng_nat (by decide) (by decide) (hm.mp c_7)
    refine rv_aload_n hX dX4_agenda_21 rfl ?_
    refine rv_iload_n hX dX4_agenda_22 rfl ?_
    refine mv_calli hX iX4_429 rfl mdX4_findBest (m_findBest hG (d := d - 1) (by omega) hth.1.1.deeds hth.1.1.facts (by omega) (hth.1.1.tv hwf.A.1) (hwf.tv hN) hth.1.mfd) (by omega) rfl rfl (Nat.le_of_ble_eq_true rfl) dX4_agenda_23 (fun r_23 τ_23 h_23 => ?_)
    obtain ⟨b1, b2, b3, rfl⟩ := h_23
    refine rv_goto hX 30 dX4_agenda_26 (by decide) ?_
    refine mv_reti hX hE dX4_agenda_30 ?_
    unfold o_agenda
    first
      | (rw [if_pos (fun q => absurd ((hm.mpr q).symm.trans c_7) (by decide))]
         exact h.th (by decide))
      | (rw [if_neg (fun q => q (hm.mp c_7)), n3]
         exact ⟨by rw [b1.1 0 (by decide)]; rfl, fun _ => rfl, hth.same b1 (by decide) (by decide) ⟨dep, hdp.same b1 (by decide)⟩⟩)
theorem wfW.bcl {N : Nat} {w : wW} (h : wfW N w) : ∀ m, (sp_bst w.F w.tv w.E w.D m w.D.length).2 < 2147483648 := fun m => by
  have h1 := sp_bst_len (F := w.F) (tv := w.tv) (D := w.E) (Ds := w.D) (m := m) (k := w.D.length) h.F60.2 (fun C hC => (h.D.2.1 C hC).1)
  have := h.D.1
  omega
theorem m_next {G : rv_G} (hG : rv_GK G) {d : Nat} (hd : 8 ≤ d) {σ : rv_S} {s : wS} {N : Nat} (hN : N ≤ 24) (h : mSt σ s) (hwf : wfW N s.w) : mC G d yX4_next wX4_next [] σ (mPi (fun r τ => mRes τ r (o_next s))) := by
  refine mv_start hG (by decide +kernel) (Nat.le_of_ble_eq_true rfl) (fun X Hb o hX1 hX hE => ?_)
  subst hX1
  show rv_V X (rv_mh Hb o _) 0 [some (.ref o)] []
  have hth := h.thrown (nI 0)
  obtain ⟨dep, hdp⟩ := hth.2.2.2
  have hK8 := hwf.K.2.1
  have hD6 := hwf.D.1
  refine rv_aload_n hX dX4_next_0 rfl ?_
  refine nv_iconst hX (m := 0) (by decide) dX4_next_1 ?_
  refine mv_pi hX (k := 0) pX4_131_X4 (by decide) rfl rfl rfl dX4_next_2 ?_
  refine rv_aload_n hX dX4_next_5 rfl ?_
  refine mv_calli hX iX4_432 rfl mdX4_findNext (m_findNext hG (d := d - 1) (by omega) hth.1.1.deeds hth.1.1.facts hth.1.1.stk (hth.1.1.tv hwf.A.1) (hwf.tv hN) hth.1.mfd hwf.bcl) (by omega) rfl rfl (Nat.le_of_ble_eq_true rfl) dX4_next_6 (fun r_6 τ_6 h_6 => ?_)
  obtain ⟨b1, rfl, b3⟩ := h_6
  have hm1 := rv_oi_m1 (x := s.w.nxt) (fun a e => by have := (wW.act_spec e).1; omega)
  refine rv_iconst hX (v := -1) dX4_next_9 (by decide) ?_
  first | refine nv_icmp_ne hX 17 (by omega) (by omega) dX4_next_10 (by decide) (fun c_10 => ?_) (fun c_10 => ?_) | refine rv_icmp_ne hX 17 dX4_next_10 (by decide) (fun c_10 => ?_) (fun c_10 => ?_)
  · skip
    obtain ⟨k, hk⟩ : ∃ k, s.w.nxt = some k := by
      cases e : s.w.nxt with
      | none => exact absurd (hm1.mpr e) c_10
      | some k => exact ⟨k, rfl⟩
    obtain ⟨hkK, a, a1, a2, C, q, a3, a4, a5, a6⟩ := wW.act_spec hk
    have hb := b3 k hk
    rw [show (sp_bst s.w.F s.w.tv s.w.E s.w.D (s.w.K.getD k 0) s.w.D.length).1 = some a from a1] at hb
    obtain ⟨hb1, -⟩ := hb
    have hal := (List.getElem?_eq_some_iff.mp a3).1
    refine rv_aload_n hX dX4_next_17 rfl ?_
    refine mv_ga hX (k := 3) (j := 3) gX4_16_X4 (by decide) rfl (by decide) dX4_next_18 ?_
    refine rv_aload_n hX dX4_next_21 rfl ?_
    refine mv_gi hX (k := 52) gX4_411_X4 (by decide) rfl dX4_next_22 ?_
    rw [hb1]
    refine mv_ld hX (j := 3) (by decide) (by decide) rfl (by decide) (show _ < 17 by omega) dX4_next_25 ?_
    try rw [(((hth.1.1.deeds.same b1 (by decide)).2.2.2 a.1 C a3).1).num]
    refine mv_reti hX hE dX4_next_26 ?_
    refine ⟨by rw [b1.1 0 (by decide)]; rfl, fun _ => ?_, hth.same b1 (by decide) (by decide) ⟨dep, hdp.same b1 (by decide)⟩⟩
    unfold o_next
    first
      | (rw [a2]
         show nI C.num = nI ((s.w.D.map (fun C => C.num)).getD a.1 0)
         rw [sp_getD (show (s.w.D.map (fun C => C.num))[a.1]? = some C.num by rw [List.getElem?_map, a3]; rfl)])
      | (rw [show s.w.act = none from by unfold wW.act; rw [hxn]; rfl])
  · skip
    have hxn := hm1.mp c_10
    refine rv_iconst hX (v := -1) dX4_next_13 (by decide) ?_
    refine rv_goto hX 26 dX4_next_14 (by decide) ?_
    try rw [(((hth.1.1.deeds.same b1 (by decide)).2.2.2 a.1 C a3).1).num]
    refine mv_reti hX hE dX4_next_26 ?_
    refine ⟨by rw [b1.1 0 (by decide)]; rfl, fun _ => ?_, hth.same b1 (by decide) (by decide) ⟨dep, hdp.same b1 (by decide)⟩⟩
    unfold o_next
    first
      | (rw [a2]
         show nI C.num = nI ((s.w.D.map (fun C => C.num)).getD a.1 0)
         rw [sp_getD (show (s.w.D.map (fun C => C.num))[a.1]? = some C.num by rw [List.getElem?_map, a3]; rfl)])
      | (rw [show s.w.act = none from by unfold wW.act; rw [hxn]; rfl])
theorem m_nextFact {G : rv_G} (hG : rv_GK G) {d : Nat} (hd : 8 ≤ d) {σ : rv_S} {s : wS} {N : Nat} (hN : N ≤ 24) (h : mSt σ s) (hwf : wfW N s.w) : mC G d yX4_nextFact wX4_nextFact [] σ (mPi (fun r τ => mRes τ r (o_nextFact s))) := by
  refine mv_start hG (by decide +kernel) (Nat.le_of_ble_eq_true rfl) (fun X Hb o hX1 hX hE => ?_)
  subst hX1
  show rv_V X (rv_mh Hb o _) 0 [some (.ref o)] []
  have hth := h.thrown (nI 0)
  obtain ⟨dep, hdp⟩ := hth.2.2.2
  have hK8 := hwf.K.2.1
  refine rv_aload_n hX dX4_nextFact_0 rfl ?_
  refine nv_iconst hX (m := 0) (by decide) dX4_nextFact_1 ?_
  refine mv_pi hX (k := 0) pX4_131_X4 (by decide) rfl rfl rfl dX4_nextFact_2 ?_
  refine rv_aload_n hX dX4_nextFact_5 rfl ?_
  refine mv_calli hX iX4_432 rfl mdX4_findNext (m_findNext hG (d := d - 1) (by omega) hth.1.1.deeds hth.1.1.facts hth.1.1.stk (hth.1.1.tv hwf.A.1) (hwf.tv hN) hth.1.mfd hwf.bcl) (by omega) rfl rfl (Nat.le_of_ble_eq_true rfl) dX4_nextFact_6 (fun r_6 τ_6 h_6 => ?_)
  obtain ⟨b1, rfl, b3⟩ := h_6
  have hm1 := rv_oi_m1 (x := s.w.nxt) (fun a e => by have := (wW.act_spec e).1; omega)
  refine rv_iconst hX (v := -1) dX4_nextFact_9 (by decide) ?_
  first | refine nv_icmp_ne hX 17 (by omega) (by omega) dX4_nextFact_10 (by decide) (fun c_10 => ?_) (fun c_10 => ?_) | refine rv_icmp_ne hX 17 dX4_nextFact_10 (by decide) (fun c_10 => ?_) (fun c_10 => ?_)
  · skip
    obtain ⟨k, hk⟩ : ∃ k, s.w.nxt = some k := by
      cases e : s.w.nxt with
      | none => exact absurd (hm1.mpr e) c_10
      | some k => exact ⟨k, rfl⟩
    obtain ⟨hkK, a, a1, a2, -⟩ := wW.act_spec hk
    have hb := b3 k hk
    rw [show (sp_bst s.w.F s.w.tv s.w.E s.w.D (s.w.K.getD k 0) s.w.D.length).1 = some a from a1] at hb
    refine rv_aload_n hX dX4_nextFact_17 rfl ?_
    refine mv_gi hX (k := 54) gX4_426_X4 (by decide) rfl dX4_nextFact_18 ?_
    refine mv_reti hX hE dX4_nextFact_21 ?_
    refine ⟨by rw [b1.1 0 (by decide)]; rfl, fun _ => ?_, hth.same b1 (by decide) (by decide) ⟨dep, hdp.same b1 (by decide)⟩⟩
    unfold o_nextFact
    first
      | (rw [a2]
         exact hb.2.2.1)
      | (rw [show s.w.act = none from by unfold wW.act; rw [hxn]; rfl])
  · skip
    have hxn := hm1.mp c_10
    refine rv_iconst hX (v := -1) dX4_nextFact_13 (by decide) ?_
    refine rv_goto hX 21 dX4_nextFact_14 (by decide) ?_
    refine mv_reti hX hE dX4_nextFact_21 ?_
    refine ⟨by rw [b1.1 0 (by decide)]; rfl, fun _ => ?_, hth.same b1 (by decide) (by decide) ⟨dep, hdp.same b1 (by decide)⟩⟩
    unfold o_nextFact
    first
      | (rw [a2]
         exact hb.2.2.1)
      | (rw [show s.w.act = none from by unfold wW.act; rw [hxn]; rfl])
def o_matches (s : wS) (r len : Int32) : wA := match (sp_find s.w.R r).bind (fun k => s.w.R[k]?) with
  | none => (1, 0, s)
  | some C => if ¬ w_rng 1 C.its.length len then (2, 0, s) else (0, nI (sp_m s.w.F (C.its.take len.toNatClampNeg) (fun _ => none)).length, s)
theorem m_matches {G : rv_G} (hG : rv_GK G) {d : Nat} (hd : 8 ≤ d) {σ : rv_S} {s : wS} {N : Nat} (h : mSt σ s) (hwf : wfW N s.w) {r len : Int32} : mC G d yX4_matches wX4_matches [.int r, .int len] σ (mPi (fun x τ => mRes τ x (o_matches s r len))) := by
  refine mv_start hG (by decide +kernel) (Nat.le_of_ble_eq_true rfl) (fun X Hb o hX1 hX hE => ?_)
  subst hX1
  show rv_V X (rv_mh Hb o _) 0 [some (.ref o), some (.int r), some (.int len), none] []
  have hRw : ∀ C, C ∈ s.w.R → sp_wfC s.w.S C := fun C hC => (hwf.R.2.1 C hC).1
  have hR10 := hwf.R.1
  refine rv_aload_n hX dX4_matches_0 rfl ?_
  refine rv_iload_n hX dX4_matches_1 rfl ?_
  refine mv_calli hX iX4_332 rfl mdX4_ruleAt (m_ruleAt hG (d := d - 1) (by omega) h.1.1.rules) (by omega) rfl rfl (Nat.le_of_ble_eq_true rfl) dX4_matches_2 (fun r_2 τ_2 h_2 => ?_)
  obtain ⟨rfl, x, hx, rfl⟩ := h_2
  have hx' := hx.fn hwf.R.2.2.1 (fun C hC => (hRw C hC).num)
  have hxl : ∀ a, x = some a → ∃ C, s.w.R[a]? = some C := fun a e => by
    rcases hx with ⟨q1, -⟩ | ⟨i, C, q1, q2, -⟩
    · rw [q1] at e; cases e
    · rw [q1] at e; cases e; exact ⟨C, q2⟩
  have hm1 := rv_oi_m1 (x := x) (fun a e => by obtain ⟨C, hC⟩ := hxl a e; have := (List.getElem?_eq_some_iff.mp hC).1; omega)
  refine rv_istore_n hX dX4_matches_5 (rv_st_3 rfl) ?_
  refine rv_aload_n hX dX4_matches_6 rfl ?_
  refine rv_iload_n hX dX4_matches_7 rfl ?_
  refine rv_iconst hX (v := -1) dX4_matches_8 (by decide) ?_
  first | refine nv_icmp_ne hX 16 (by omega) (by omega) dX4_matches_9 (by decide) (fun c_9 => ?_) (fun c_9 => ?_) | refine rv_icmp_ne hX 16 dX4_matches_9 (by decide) (fun c_9 => ?_) (fun c_9 => ?_)
  · skip
    obtain ⟨p, rfl⟩ : ∃ p, x = some p := by
      cases x with
      | none => exact absurd rfl c_9
      | some p => exact ⟨p, rfl⟩
    obtain ⟨C, hC⟩ := hxl p rfl
    have hpl := (List.getElem?_eq_some_iff.mp hC).1
    have hyes : (sp_find s.w.R r).bind (fun k => s.w.R[k]?) = some C := by rw [← hx']; exact hC
    have hwC := hRw C (List.mem_of_getElem? hC)
    have hlen := hwC.len
    rw [show rv_oi (some p) = nI p from rfl]
    obtain ⟨hB1, hB2⟩ := h.1.1.rules.2.2.2 p C hC
    refine rv_iload_n hX dX4_matches_16 rfl ?_
    refine nv_iconst hX (m := 1) (by decide) dX4_matches_17 ?_
    refine rv_aload_n hX dX4_matches_18 rfl ?_
    refine mv_ga hX (k := 6) (j := 6) gX4_25_X4 (by decide) rfl (by decide) dX4_matches_19 ?_
    refine rv_iload_n hX dX4_matches_22 rfl ?_
    refine mv_ld hX (j := 6) (by decide) (by decide) rfl (by decide) (show _ < 17 by omega) dX4_matches_23 ?_
    rw [hB1.len]
    refine sv_callz hX iX4_135 mdX4_in (m_in hG (d := d - 1) (v := len)) (by omega) rfl rfl (Nat.le_of_ble_eq_true rfl) dX4_matches_24 (fun r_24 h_24 => ?_)
    have hk := h_24
    first | refine zv_if_eq hX 34 dX4_matches_27 (by decide) (fun c_27 => ?_) (fun c_27 => ?_) | refine nv_if_eq hX 34 (by omega) dX4_matches_27 (by decide) (fun c_27 => ?_) (fun c_27 => ?_) | refine rv_if_eq hX 34 dX4_matches_27 (by decide) (fun c_27 => ?_) (fun c_27 => ?_)
    · skip
      refine nv_iconst hX (m := 2) (by decide) dX4_matches_34 ?_
      refine mv_callz hX iX4_266 rfl mdX4_goesWell (m_goesWellN hG (by decide) (by decide) (d := d - 1)) (by omega) rfl rfl (Nat.le_of_ble_eq_true rfl) dX4_matches_35 (fun r_35 τ_35 h_35 => ?_)
      obtain ⟨rfl, rfl⟩ := h_35
      refine rv_if_ne hX 43 dX4_matches_38 (by decide) (fun q => absurd q (by decide)) (fun _ => ?_)
      refine nv_iconst hX (m := 0) (by decide) dX4_matches_41 ?_
      refine mv_reti hX hE dX4_matches_42 ?_
      unfold o_matches
      first
        | (rw [hno]
           exact h.th (by decide))
        | (rw [hyes]
           show mRes _ _ (if ¬ w_rng 1 C.its.length len then _ else _)
           rw [if_pos (fun q => absurd ((hk.mpr q).symm.trans c_27) (by decide))]
           exact h.th (by decide))
    · skip
      refine nv_iconst hX (m := 0) (by decide) dX4_matches_30 ?_
      refine rv_goto hX 35 dX4_matches_31 (by decide) ?_
      refine mv_callz hX iX4_266 rfl mdX4_goesWell (m_goesWell0 hG (d := d - 1)) (by omega) rfl rfl (Nat.le_of_ble_eq_true rfl) dX4_matches_35 (fun r_35 τ_35 h_35 => ?_)
      obtain ⟨rfl, rfl⟩ := h_35
      refine rv_if_ne hX 43 dX4_matches_38 (by decide) (fun _ => ?_) (fun q => absurd q (by decide))
      obtain ⟨n, n1, n2, rfl, n3⟩ := w_rng_nat (by omega) (by omega) (hk.mp c_27)
      have hth := h.thrown (nI 0)
      refine rv_aload_n hX dX4_matches_43 rfl ?_
      refine mv_callv hX iX4_211 rfl mdX4_forget (m_forget hG (d := d - 1)) (by omega) rfl rfl (Nat.le_of_ble_eq_true rfl) dX4_matches_44 (fun τ_44 h_44 => ?_)
      obtain ⟨f1, f2, f3⟩ := h_44
      refine rv_aload_n hX dX4_matches_47 rfl ?_
      refine rv_iload_n hX dX4_matches_48 rfl ?_
      refine rv_iload_n hX dX4_matches_49 rfl ?_
      refine mv_callv hX iX4_214 rfl mdX4_beginMatches (m_beginMatches hG (d := d - 1)) (by omega) rfl rfl (Nat.le_of_ble_eq_true rfl) dX4_matches_50 (fun τ_50 h_50 => ?_)
      obtain ⟨g1, g2, g3, g4, g5, g6⟩ := h_50
      have hS3 := (f3.mn (fs' := [31, 32, 33, 34]) (js' := [26, 27, 28, 29]) (by decide) (by decide)).tr (g6.mn (fs' := [31, 32, 33, 34]) (js' := [26, 27, 28, 29]) (by decide) (by decide))
      have hBF : mBF τ_50 s.w.S s.w.F p C := ⟨hth.1.1.rel.same hS3 (by decide) (by decide), hth.1.1.facts.same hS3 (by decide) (by decide), (hth.1.1.rules.2.2.2 p C hC).1.same hS3 (by decide), hwC, by omega⟩
      refine rv_aload_n hX dX4_matches_53 rfl ?_
      refine mv_calli hX iX4_393 rfl mdX4_countMatches (m_countMatches hG (d := d - 1) (by omega) (hBF.cfg n2 g1 g2 g5) (Or.inl ⟨_, ⟨f1.same g6 (by decide), f2.same g6 (by decide), g3, g4, sp_okA_take (sp_snd.okA hwC.its (sp_has_none _) hwC.snd)⟩, rfl⟩)) (by omega) rfl rfl (Nat.le_of_ble_eq_true rfl) dX4_matches_54 (fun r_54 τ_54 h_54 => ?_)
      obtain ⟨k1, rfl⟩ := h_54
      refine mv_reti hX hE dX4_matches_57 ?_
      unfold o_matches
      rw [hyes]
      show mRes _ _ (if ¬ w_rng 1 C.its.length (nI n) then _ else _)
      rw [if_neg (fun q => q (hk.mp c_27)), n3]
      obtain ⟨dep, hdp⟩ := hth.2.2.2
      have hS4 := hS3.tr (k1.mn (fs' := [31, 32, 33, 34]) (js' := [26, 27, 28, 29]) (by decide) (by decide))
      exact ⟨by rw [hS4.1 0 (by decide)]; rfl, fun _ => rfl, hth.same hS4 (by decide) (by decide) ⟨dep, hdp.same hS4 (by decide)⟩⟩
  · skip
    have hno : (sp_find s.w.R r).bind (fun k => s.w.R[k]?) = none := by rw [← hx', hm1.mp c_9]; rfl
    refine nv_iconst hX (m := 1) (by decide) dX4_matches_12 ?_
    refine rv_goto hX 35 dX4_matches_13 (by decide) ?_
    refine mv_callz hX iX4_266 rfl mdX4_goesWell (m_goesWellN hG (by decide) (by decide) (d := d - 1)) (by omega) rfl rfl (Nat.le_of_ble_eq_true rfl) dX4_matches_35 (fun r_35 τ_35 h_35 => ?_)
    obtain ⟨rfl, rfl⟩ := h_35
    refine rv_if_ne hX 43 dX4_matches_38 (by decide) (fun q => absurd q (by decide)) (fun _ => ?_)
    refine nv_iconst hX (m := 0) (by decide) dX4_matches_41 ?_
    refine mv_reti hX hE dX4_matches_42 ?_
    unfold o_matches
    first
      | (rw [hno]
         exact h.th (by decide))
      | (rw [hyes]
         show mRes _ _ (if ¬ w_rng 1 C.its.length len then _ else _)
         rw [if_pos (fun q => absurd ((hk.mpr q).symm.trans c_27) (by decide))]
         exact h.th (by decide))
