/-! THE REFERENCE: plans and work asked for -/
set_option maxRecDepth 100000
theorem w_in_idx {p : Int32} {n : Nat} (hn : n < 2147483648) : (nI 0 ≤ p ∧ p ≤ nI n - nI 1) ↔ ∃ k, w_idx p n = some k := by
  rw [w_in_iff hn]
  constructor
  · rintro ⟨k, h1, rfl⟩
    exact ⟨k, w_idx_nI h1 hn⟩
  · rintro ⟨k, h⟩
    exact ⟨k, w_idx_some hn h⟩
theorem m_planAt {G : rv_G} (hG : rv_GK G) {d : Nat} (hd : 8 ≤ d) {σ : rv_S} {s : wS} {N : Nat} (h : mSt σ s) (hwf : wfW N s.w) {r p : Int32} : mC G d yX4_planAt wX4_planAt [.int r, .int p] σ (mPi (fun x τ => mRes τ x (o_planAt s r p))) := by
  refine mv_start hG (by decide +kernel) (Nat.le_of_ble_eq_true rfl) (fun X Hb o hX1 hX hE => ?_)
  subst hX1
  show rv_V X (rv_mh Hb o _) 0 [some (.ref o), some (.int r), some (.int p), none] []
  have hRw : ∀ C, C ∈ s.w.R → sp_wfC s.w.S C := fun C hC => (hwf.R.2.1 C hC).1
  have hR10 := hwf.R.1
  refine rv_aload_n hX dX4_planAt_0 rfl ?_
  refine rv_iload_n hX dX4_planAt_1 rfl ?_
  refine mv_calli hX iX4_332 rfl mdX4_ruleAt (m_ruleAt hG (d := d - 1) (by omega) h.1.1.rules) (by omega) rfl rfl (Nat.le_of_ble_eq_true rfl) dX4_planAt_2 (fun r_2 τ_2 h_2 => ?_)
  obtain ⟨rfl, x, hx, rfl⟩ := h_2
  have hx' := mRuleAt hwf.R.2.2.1 (fun C hC => (hRw C hC).num) hx
  have hm1 := rv_oi_m1 (x := x) (fun a e => by
    rcases hx' with ⟨q, -⟩ | ⟨i, C, q, hC, -⟩
    · rw [q] at e; cases e
    · rw [q] at e; cases e; have := (List.getElem?_eq_some_iff.mp hC).1; omega)
  refine rv_istore_n hX dX4_planAt_5 (rv_st_3 rfl) ?_
  refine rv_aload_n hX dX4_planAt_6 rfl ?_
  refine rv_iload_n hX dX4_planAt_7 rfl ?_
  refine rv_iconst hX (v := -1) dX4_planAt_8 (by decide) ?_
  first | refine nv_icmp_eq hX 31 (by omega) (by omega) dX4_planAt_9 (by decide) (fun c_9 => ?_) (fun c_9 => ?_) | refine rv_icmp_eq hX 31 dX4_planAt_9 (by decide) (fun c_9 => ?_) (fun c_9 => ?_)
  · skip
    have hno : s.w.rule r = none := by
      rcases hx' with ⟨-, q⟩ | ⟨i, C, q, -, -⟩
      · exact q
      · rw [hm1.mp c_9] at q; cases q
    refine nv_iconst hX (m := 1) (by decide) dX4_planAt_31 ?_
    refine mv_callz hX iX4_266 rfl mdX4_goesWell (m_goesWellN hG (by decide) (by decide) (d := d - 1)) (by omega) rfl rfl (Nat.le_of_ble_eq_true rfl) dX4_planAt_32 (fun r_32 τ_32 h_32 => ?_)
    obtain ⟨rfl, rfl⟩ := h_32
    refine rv_if_ne hX 40 dX4_planAt_35 (by decide) (fun q => absurd q (by decide)) (fun _ => ?_)
    refine nv_iconst hX (m := 0) (by decide) dX4_planAt_38 ?_
    refine mv_reti hX hE dX4_planAt_39 ?_
    unfold o_planAt
    first
      | (rw [hno]
         exact h.th (by decide))
      | (have hn : w_idx p (sp_aix C.its).length = none := by
           cases e : w_idx p (sp_aix C.its).length with
           | none => rfl
           | some k => exact absurd ((hkk.mpr ⟨k, e⟩).symm.trans c_24) (by decide)
         rw [hyes]
         show mRes _ _ (match w_idx p (sp_aix C.its).length with | none => _ | some k => _)
         rw [hn]
         exact h.th (by decide))
  · skip
    obtain ⟨b, C, rfl, hC, hyes⟩ : ∃ b C, x = some b ∧ s.w.R[b]? = some C ∧ s.w.rule r = some C := by
      rcases hx' with ⟨q, -⟩ | q
      · exact absurd (hm1.mpr q) c_9
      · exact q
    have hbl := (List.getElem?_eq_some_iff.mp hC).1
    have hwC := hRw C (List.mem_of_getElem? hC)
    obtain ⟨hB1, hB2⟩ := h.1.1.rules.2.2.2 b C hC
    have hlen := hwC.len
    have hat : (sp_aix C.its).length ≤ 3 := by rw [sp_aix_len]; exact hwC.atoms
    rw [show rv_oi (some b) = nI b from rfl]
    refine rv_iload_n hX dX4_planAt_12 rfl ?_
    refine nv_iconst hX (m := 0) (by decide) dX4_planAt_13 ?_
    refine rv_aload_n hX dX4_planAt_14 rfl ?_
    refine rv_iload_n hX dX4_planAt_15 rfl ?_
    refine mv_calli hX iX4_317 rfl mdX4_atomsOf (m_atomsOf hG (d := d - 1) (by omega) (b := b) (by omega) (by omega) hB1.len (fun i it e => ⟨(hB1.its i it e).1, (hwC.its it (List.mem_of_getElem? e)).1⟩)) (by omega) rfl rfl (Nat.le_of_ble_eq_true rfl) dX4_planAt_16 (fun r_16 τ_16 h_16 => ?_)
    obtain ⟨rfl, rfl⟩ := h_16
    rw [← sp_aix_len]
    refine nv_iconst hX (m := 1) (by decide) dX4_planAt_19 ?_
    first | refine nv_isub hX (by omega) dX4_planAt_20 ?_ | refine rv_isub hX dX4_planAt_20 ?_
    refine sv_callz hX iX4_135 mdX4_in (m_in hG (d := d - 1) (v := p)) (by omega) rfl rfl (Nat.le_of_ble_eq_true rfl) dX4_planAt_21 (fun r_21 h_21 => ?_)
    have hk := h_21
    have hkk := hk.trans (w_in_idx (p := p) (n := (sp_aix C.its).length) (by omega))
    first | refine zv_if_eq hX 31 dX4_planAt_24 (by decide) (fun c_24 => ?_) (fun c_24 => ?_) | refine nv_if_eq hX 31 (by omega) dX4_planAt_24 (by decide) (fun c_24 => ?_) (fun c_24 => ?_) | refine rv_if_eq hX 31 dX4_planAt_24 (by decide) (fun c_24 => ?_) (fun c_24 => ?_)
    · skip
      refine nv_iconst hX (m := 1) (by decide) dX4_planAt_31 ?_
      refine mv_callz hX iX4_266 rfl mdX4_goesWell (m_goesWellN hG (by decide) (by decide) (d := d - 1)) (by omega) rfl rfl (Nat.le_of_ble_eq_true rfl) dX4_planAt_32 (fun r_32 τ_32 h_32 => ?_)
      obtain ⟨rfl, rfl⟩ := h_32
      refine rv_if_ne hX 40 dX4_planAt_35 (by decide) (fun q => absurd q (by decide)) (fun _ => ?_)
      refine nv_iconst hX (m := 0) (by decide) dX4_planAt_38 ?_
      refine mv_reti hX hE dX4_planAt_39 ?_
      unfold o_planAt
      first
        | (rw [hno]
           exact h.th (by decide))
        | (have hn : w_idx p (sp_aix C.its).length = none := by
             cases e : w_idx p (sp_aix C.its).length with
             | none => rfl
             | some k => exact absurd ((hkk.mpr ⟨k, e⟩).symm.trans c_24) (by decide)
           rw [hyes]
           show mRes _ _ (match w_idx p (sp_aix C.its).length with | none => _ | some k => _)
           rw [hn]
           exact h.th (by decide))
    · skip
      refine nv_iconst hX (m := 0) (by decide) dX4_planAt_27 ?_
      refine rv_goto hX 32 dX4_planAt_28 (by decide) ?_
      refine mv_callz hX iX4_266 rfl mdX4_goesWell (m_goesWell0 hG (d := d - 1)) (by omega) rfl rfl (Nat.le_of_ble_eq_true rfl) dX4_planAt_32 (fun r_32 τ_32 h_32 => ?_)
      obtain ⟨rfl, rfl⟩ := h_32
      refine rv_if_ne hX 40 dX4_planAt_35 (by decide) (fun _ => ?_) (fun q => absurd q (by decide))
      obtain ⟨k, hk2⟩ := hkk.mp c_24
      obtain ⟨hk3, rfl⟩ := w_idx_some (by omega) hk2
      have hth := h.thrown (nI 0)
      have hBF : mBF (rv_sF τ_16 0 (nI 0)) s.w.S s.w.F b C := ⟨hth.1.1.rel, hth.1.1.facts, (hth.1.1.rules.2.2.2 b C hC).1, hwC, by omega⟩
      refine rv_aload_n hX dX4_planAt_40 rfl ?_
      refine rv_iload_n hX dX4_planAt_41 rfl ?_
      refine mv_callv hX iX4_405 rfl mdX4_findPlan (m_findPlan hG (d := d - 1) (by omega) hBF) (by omega) rfl rfl (Nat.le_of_ble_eq_true rfl) dX4_planAt_42 (fun τ_42 h_42 => ?_)
      obtain ⟨f1, f2⟩ := h_42
      refine rv_aload_n hX dX4_planAt_45 rfl ?_
      refine mv_ga hX (k := 51) (j := 39) gX4_125_X4 (by decide) rfl (by decide) dX4_planAt_46 ?_
      refine rv_iload_n hX dX4_planAt_49 rfl ?_
      refine mv_ld hX (j := 39) (by decide) (by decide) rfl (by decide) (show _ < 3 by omega) dX4_planAt_50 ?_
      refine mv_reti hX hE dX4_planAt_51 ?_
      unfold o_planAt
      rw [hyes]
      show mRes _ _ (match w_idx (nI k) (sp_aix C.its).length with | none => _ | some k => _)
      rw [hk2]
      obtain ⟨dep, hdp⟩ := hth.2.2.2
      refine ⟨by rw [f1.1 0 (by decide)]; rfl, fun _ => ?_, hth.same f1 (by decide) (by decide) ⟨dep, hdp.same f1 (by decide)⟩⟩
      exact f2 k _ (sp_S_getD (by unfold sp_plan; rw [sp_pl_len]; exact hk3))
