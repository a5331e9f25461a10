/-! THE REFERENCE: depths and reasons asked for -/
set_option maxRecDepth 100000
theorem wfW.cl {N : Nat} {w : wW} (h : wfW N w) : ∀ C, C ∈ w.R → ∀ f, f ∈ sp_give w.F C → f ∈ w.F := by
  obtain ⟨st, hst, h2⟩ := sp_set_spec h.set
  exact sp_stl_closed h.S.2 (fun C hC => (h.R.2.1 C hC).1) hst h2
theorem wfW.der {N : Nat} {w : wW} (h : wfW N w) : ∀ f, f ∈ w.F → ∃ n, sp_D w.R w.F w.kT n f := by
  obtain ⟨st, hst, h2⟩ := sp_set_spec h.set
  exact sp_stl_D h.S.2 (fun C hC => (h.R.2.1 C hC).1) hst h2
theorem sp_atk_len {its : List sp_I} : ∀ {ks : List Nat}, (sp_atk its ks).length ≤ its.length := by
  induction its with
  | nil => intro ks; cases ks <;> exact Nat.le_refl _
  | cons it its ih =>
    intro ks
    cases ks with
    | nil => exact Nat.zero_le _
    | cons k ks =>
      show (if it.1 = 0 then k :: sp_atk its ks else sp_atk its ks).length ≤ its.length + 1
      split
      · exact Nat.succ_le_succ ih
      · exact Nat.le_succ_of_le ih
theorem sp_why1_len {F : List Nat} {C : sp_C} {dep : Nat → Nat} {f dp : Nat} {L : List Nat} (h60 : F.length ≤ 60) (h6 : C.its.length ≤ 6) (h : sp_why1 F C dep f dp = some L) : L.length ≤ 60 := by
  unfold sp_why1 at h
  split at h
  · obtain ⟨q, -, e⟩ := Option.map_eq_some_iff.mp h
    rw [← e]
    unfold sp_fs
    rw [List.length_map]
    have := sp_atk_len (its := C.its) (ks := q.1)
    omega
  · obtain ⟨q, -, e⟩ := Option.map_eq_some_iff.mp h
    rw [← e]
    exact Nat.le_trans sp_bitsk_len h60
theorem sp_rsn_len {S : List Nat} {R : List sp_C} {F : List Nat} {T : List (Nat × Nat)} {f : Nat} {x : Option Nat} {L : List Nat} (h60 : F.length ≤ 60) (hR : ∀ C, C ∈ R → sp_wfC S C) (h : sp_rsn R F T f x L) : L.length ≤ 60 ∧ ∀ j, x = some j → ∃ C, R[j]? = some C := by
  rcases h with ⟨-, rfl, rfl⟩ | ⟨-, k, dep, -, -, -, h5⟩
  · exact ⟨Nat.zero_le _, fun j e => by cases e⟩
  · rcases h5 with ⟨j, rfl, C, h6, h7, -⟩ | ⟨rfl, rfl, -⟩
    · exact ⟨sp_why1_len h60 (hR C (List.mem_of_getElem? h6)).len.2 h7, fun i e => by cases e; exact ⟨C, h6⟩⟩
    · exact ⟨Nat.zero_le _, fun j e => by cases e⟩
noncomputable def o_depth (s : wS) (f : Int32) : wA := if sp_fault s.w.S f ≠ 0 then (sp_fault s.w.S f, 0, s) else (0, (match sp_ix s.w.F f.toNatClampNeg with
  | none => -1
  | some _ => nI (sp_dpt s.w.R s.w.F s.w.kT f.toNatClampNeg)), s)
noncomputable def o_why (s : wS) (f : Int32) : wA := if sp_fault s.w.S f ≠ 0 then (sp_fault s.w.S f, 0, s) else (0, (match sp_at s.w.T f.toNatClampNeg with
  | some _ => nI 1000
  | none => match (sp_rsnF s.w.R s.w.F s.w.kT f.toNatClampNeg).1 with
    | none => -1
    | some j => nI ((s.w.R.map (fun C => C.num)).getD j 0)), s)
noncomputable def o_reasons (s : wS) (f : Int32) : wA := if sp_fault s.w.S f ≠ 0 then (sp_fault s.w.S f, 0, s) else (0, nI (sp_rsnF s.w.R s.w.F s.w.kT f.toNatClampNeg).2.length, s)
noncomputable def o_reasonAt (s : wS) (f p : Int32) : wA := if sp_fault s.w.S f ≠ 0 then (sp_fault s.w.S f, 0, s) else match w_idx p (sp_rsnF s.w.R s.w.F s.w.kT f.toNatClampNeg).2.length with
  | none => (1, 0, s)
  | some k => (0, nI ((sp_rsnF s.w.R s.w.F s.w.kT f.toNatClampNeg).2.getD k 0), s)
theorem m_depth {G : rv_G} (hG : rv_GK G) {d : Nat} (hd : 9 ≤ d) {σ : rv_S} {s : wS} {N : Nat} (h : mSt σ s) (hwf : wfW N s.w) {f : Int32} : mC G d yX4_depth wX4_depth [.int f] σ (mPi (fun r τ => mRes τ r (o_depth s f))) := by
  refine mv_start hG (by decide +kernel) (Nat.le_of_ble_eq_true rfl) (fun X Hb o hX1 hX hE => ?_)
  subst hX1
  show rv_V X (rv_mh Hb o _) 0 [some (.ref o), some (.int f), none] []
  have hle := sp_fault_le s.w.S f
  have hsr := hwf.F60
  refine rv_aload_n hX dX4_depth_0 rfl ?_
  refine rv_aload_n hX dX4_depth_1 rfl ?_
  refine rv_iload_n hX dX4_depth_2 rfl ?_
  refine mv_calli hX iX4_272 rfl mdX4_faultOf (m_faultOf hG (d := d - 1) (by omega) h.1.1.rel) (by omega) rfl rfl (Nat.le_of_ble_eq_true rfl) dX4_depth_3 (fun r_3 τ_3 h_3 => ?_)
  obtain ⟨rfl, rfl⟩ := h_3
  refine mv_callz hX iX4_266 rfl mdX4_goesWell (m_goesWell hG (d := d - 1) (n := sp_fault s.w.S f) (by omega)) (by omega) rfl rfl (Nat.le_of_ble_eq_true rfl) dX4_depth_6 (fun r_6 τ_6 h_6 => ?_)
  obtain ⟨rfl, hw⟩ := h_6
  first | refine zv_if_ne hX 14 dX4_depth_9 (by decide) (fun c_9 => ?_) (fun c_9 => ?_) | refine nv_if_ne hX 14 (by omega) dX4_depth_9 (by decide) (fun c_9 => ?_) (fun c_9 => ?_) | refine rv_if_ne hX 14 dX4_depth_9 (by decide) (fun c_9 => ?_) (fun c_9 => ?_)
  · skip
    have h0 : sp_fault s.w.S f = 0 := by
      rw [hw] at c_9
      exact of_decide_eq_true c_9
    obtain ⟨n, n8, rfl, n3, n4⟩ := sp_fault_0 h.1.1.rel.2.1 h0
    have hth := h.thrown (nI (sp_fault s.w.S (nI n)))
    obtain ⟨dep0, hdp0⟩ := hth.2.2.2
    refine rv_aload_n hX dX4_depth_14 rfl ?_
    refine rv_iload_n hX dX4_depth_15 rfl ?_
    refine mv_calli hX iX4_192 rfl mdX4_indexOf (m_indexOf hG (d := d - 1) hth.1.1.facts n8) (by omega) rfl rfl (Nat.le_of_ble_eq_true rfl) dX4_depth_16 (fun r_16 τ_16 h_16 => ?_)
    obtain ⟨e16, hix⟩ := h_16
    rw [e16]
    obtain ⟨x, hx1, hx2, hx3⟩ : ∃ x, sp_ix s.w.F n = x ∧ r_16 = rv_oi x ∧ ∀ a, x = some a → s.w.F[a]? = some n := by
      rcases hix with ⟨i1, i2⟩ | ⟨k, i1, i2⟩
      · exact ⟨none, sp_ix_none i1, i2, fun a e => by cases e⟩
      · exact ⟨some k, sp_ix_some hsr.1 i1, i2, fun a e => by cases e; exact i1⟩
    subst hx2
    have hm1 := rv_oi_m1 (x := x) (fun a e => by have := (List.getElem?_eq_some_iff.mp (hx3 a e)).1; omega)
    refine rv_istore_n hX dX4_depth_19 (rv_st_2 rfl) ?_
    refine rv_aload_n hX dX4_depth_20 rfl ?_
    refine mv_callv hX iX4_341 rfl mdX4_findDepths (m_findDepths hG (d := d - 1) (by omega) hth.1.1.rules hth.1.1.facts hsr.1 hsr.2 hth.1.1.tl hwf.cl hdp0) (by omega) rfl rfl (Nat.le_of_ble_eq_true rfl) dX4_depth_21 (fun τ_21 h_21 => ?_)
    obtain ⟨d1, dep, d2, d3⟩ := h_21
    refine rv_iload_n hX dX4_depth_24 rfl ?_
    refine rv_iconst hX (v := -1) dX4_depth_25 (by decide) ?_
    first | refine nv_icmp_ne hX 33 (by omega) (by omega) dX4_depth_26 (by decide) (fun c_26 => ?_) (fun c_26 => ?_) | refine rv_icmp_ne hX 33 dX4_depth_26 (by decide) (fun c_26 => ?_) (fun c_26 => ?_)
    · skip
      obtain ⟨k, rfl⟩ : ∃ k, x = some k := by
        cases x with
        | none => exact absurd rfl c_26
        | some k => exact ⟨k, rfl⟩
      have hkF := hx3 k rfl
      have hkl := (List.getElem?_eq_some_iff.mp hkF).1
      rw [show rv_oi (some k) = nI k from rfl]
      refine rv_aload_n hX dX4_depth_33 rfl ?_
      refine mv_ga hX (k := 45) (j := 35) gX4_113_X4 (by decide) rfl (by decide) dX4_depth_34 ?_
      refine rv_iload_n hX dX4_depth_37 rfl ?_
      refine mv_ld hX (j := 35) (by decide) (by decide) rfl (by decide) (show _ < 62 by omega) dX4_depth_38 ?_
      try rw [d2.1 k (by omega), sp_isd_dpt d3 hsr.1 hsr.2 hkF (hwf.der n (List.mem_of_getElem? hkF))]
      refine mv_reti hX hE dX4_depth_39 ?_
      unfold o_depth
      rw [if_neg (fun q => q h0), nI_clamp (by omega), hx1]
      have hsd := hth.same d1 (by decide) (by decide) ⟨dep, d2⟩
      refine ⟨by rw [d1.1 0 (by decide)]; show nI (sp_fault s.w.S (nI n)) = nI 0; rw [h0], fun _ => ?_, hsd⟩
      first
        | (subst hxn; rfl)
        | rfl
    · skip
      have hxn := hm1.mp c_26
      refine rv_iconst hX (v := -1) dX4_depth_29 (by decide) ?_
      refine rv_goto hX 39 dX4_depth_30 (by decide) ?_
      try rw [d2.1 k (by omega), sp_isd_dpt d3 hsr.1 hsr.2 hkF (hwf.der n (List.mem_of_getElem? hkF))]
      refine mv_reti hX hE dX4_depth_39 ?_
      unfold o_depth
      rw [if_neg (fun q => q h0), nI_clamp (by omega), hx1]
      have hsd := hth.same d1 (by decide) (by decide) ⟨dep, d2⟩
      refine ⟨by rw [d1.1 0 (by decide)]; show nI (sp_fault s.w.S (nI n)) = nI 0; rw [h0], fun _ => ?_, hsd⟩
      first
        | (subst hxn; rfl)
        | rfl
  · skip
    have hne : sp_fault s.w.S f ≠ 0 := fun q => by rw [hw, q] at c_9; exact absurd c_9 (by decide)
    refine nv_iconst hX (m := 0) (by decide) dX4_depth_12 ?_
    refine mv_reti hX hE dX4_depth_13 ?_
    unfold o_depth
    rw [if_pos hne]
    exact h.th hne
theorem m_why {G : rv_G} (hG : rv_GK G) {d : Nat} (hd : 10 ≤ d) {σ : rv_S} {s : wS} {N : Nat} (h : mSt σ s) (hwf : wfW N s.w) {f : Int32} : mC G d yX4_why wX4_why [.int f] σ (mPi (fun r τ => mRes τ r (o_why s f))) := by
  refine mv_start hG (by decide +kernel) (Nat.le_of_ble_eq_true rfl) (fun X Hb o hX1 hX hE => ?_)
  subst hX1
  show rv_V X (rv_mh Hb o _) 0 [some (.ref o), some (.int f), none] []
  have hle := sp_fault_le s.w.S f
  have hsr := hwf.F60
  have hRw : ∀ C, C ∈ s.w.R → sp_wfC s.w.S C := fun C hC => (hwf.R.2.1 C hC).1
  have hR10 := hwf.R.1
  have hT61 := h.1.1.tl.2.1
  refine rv_aload_n hX dX4_why_0 rfl ?_
  refine rv_aload_n hX dX4_why_1 rfl ?_
  refine rv_iload_n hX dX4_why_2 rfl ?_
  refine mv_calli hX iX4_272 rfl mdX4_faultOf (m_faultOf hG (d := d - 1) (by omega) h.1.1.rel) (by omega) rfl rfl (Nat.le_of_ble_eq_true rfl) dX4_why_3 (fun r_3 τ_3 h_3 => ?_)
  obtain ⟨rfl, rfl⟩ := h_3
  refine mv_callz hX iX4_266 rfl mdX4_goesWell (m_goesWell hG (d := d - 1) (n := sp_fault s.w.S f) (by omega)) (by omega) rfl rfl (Nat.le_of_ble_eq_true rfl) dX4_why_6 (fun r_6 τ_6 h_6 => ?_)
  obtain ⟨rfl, hw⟩ := h_6
  first | refine zv_if_ne hX 14 dX4_why_9 (by decide) (fun c_9 => ?_) (fun c_9 => ?_) | refine nv_if_ne hX 14 (by omega) dX4_why_9 (by decide) (fun c_9 => ?_) (fun c_9 => ?_) | refine rv_if_ne hX 14 dX4_why_9 (by decide) (fun c_9 => ?_) (fun c_9 => ?_)
  · skip
    have h0 : sp_fault s.w.S f = 0 := by
      rw [hw] at c_9
      exact of_decide_eq_true c_9
    obtain ⟨n, n8, rfl, n3, n4⟩ := sp_fault_0 h.1.1.rel.2.1 h0
    have hth := h.thrown (nI (sp_fault s.w.S (nI n)))
    obtain ⟨dep0, hdp0⟩ := hth.2.2.2
    refine rv_aload_n hX dX4_why_14 rfl ?_
    refine rv_iload_n hX dX4_why_15 rfl ?_
    refine mv_calli hX iX4_269 rfl mdX4_toldAt (m_toldAt hG (d := d - 1) hth.1.1.tl n8) (by omega) rfl rfl (Nat.le_of_ble_eq_true rfl) dX4_why_16 (fun r_16 τ_16 h_16 => ?_)
    obtain ⟨e16, x, hx, rfl⟩ := h_16
    rw [e16]
    have hx' := hx.fn hwf.T.1
    have hxl := hx.mem.2
    have hm1 := rv_oi_m1 (x := x) (fun a e => by have := hxl a e; omega)
    refine rv_iconst hX (v := -1) dX4_why_19 (by decide) ?_
    first | refine nv_icmp_eq hX 27 (by omega) (by omega) dX4_why_20 (by decide) (fun c_20 => ?_) (fun c_20 => ?_) | refine rv_icmp_eq hX 27 dX4_why_20 (by decide) (fun c_20 => ?_) (fun c_20 => ?_)
    · skip
      refine rv_aload_n hX dX4_why_27 rfl ?_
      refine rv_iload_n hX dX4_why_28 rfl ?_
      refine mv_calli hX iX4_354 rfl mdX4_findReasons (m_findReasons hG (d := d - 1) (by omega) hth.1.1.rules hth.1.1.facts hsr.1 hsr.2 hth.1.1.tl hwf.cl hdp0 n8) (by omega) rfl rfl (Nat.le_of_ble_eq_true rfl) dX4_why_29 (fun r_29 τ_29 h_29 => ?_)
      obtain ⟨g1, g2, y, L, g3, rfl, g4⟩ := h_29
      have hfn := g3.fn hsr.1 hsr.2 hwf.der
      obtain ⟨hL60, hyR⟩ := sp_rsn_len hsr.2 hRw g3
      have hy1 := rv_oi_m1 (x := y) (fun a e => by obtain ⟨C, hC⟩ := hyR a e; have := (List.getElem?_eq_some_iff.mp hC).1; omega)
      refine rv_istore_n hX dX4_why_32 (rv_st_2 rfl) ?_
      refine rv_iload_n hX dX4_why_33 rfl ?_
      refine rv_iconst hX (v := -1) dX4_why_34 (by decide) ?_
      first | refine nv_icmp_ne hX 42 (by omega) (by omega) dX4_why_35 (by decide) (fun c_35 => ?_) (fun c_35 => ?_) | refine rv_icmp_ne hX 42 dX4_why_35 (by decide) (fun c_35 => ?_) (fun c_35 => ?_)
      · skip
        obtain ⟨j, rfl⟩ : ∃ j, y = some j := by
          cases y with
          | none => exact absurd rfl c_35
          | some j => exact ⟨j, rfl⟩
        obtain ⟨C, hC⟩ := hyR j rfl
        have hjl := (List.getElem?_eq_some_iff.mp hC).1
        rw [show rv_oi (some j) = nI j from rfl]
        refine rv_aload_n hX dX4_why_42 rfl ?_
        refine mv_ga hX (k := 3) (j := 3) gX4_16_X4 (by decide) rfl (by decide) dX4_why_43 ?_
        refine rv_iload_n hX dX4_why_46 rfl ?_
        refine mv_ld hX (j := 3) (by decide) (by decide) rfl (by decide) (show _ < 17 by omega) dX4_why_47 ?_
        try rw [((hth.1.1.rules.same g1 (by decide)).2.2.2 j C hC).1.num]
        refine mv_reti hX hE dX4_why_48 ?_
        unfold o_why
        rw [if_neg (fun q => q h0), nI_clamp (by omega), ← hx', hm1.mp c_20]
        refine ⟨by rw [g1.1 0 (by decide)]; show nI (sp_fault s.w.S (nI n)) = nI 0; rw [h0], fun _ => ?_, hth.same g1 (by decide) (by decide) g2⟩
        rw [show (sp_rsnF s.w.R s.w.F s.w.kT n) = _ from hfn.symm]
        first
          | (have hy0 := hy1.mp c_35
             subst hy0
             rfl)
          | (show nI C.num = nI ((s.w.R.map (fun C => C.num)).getD j 0)
             rw [sp_getD (show (s.w.R.map (fun C => C.num))[j]? = some C.num by rw [List.getElem?_map, hC]; rfl)])
      · skip
        refine rv_iconst hX (v := -1) dX4_why_38 (by decide) ?_
        refine rv_goto hX 48 dX4_why_39 (by decide) ?_
        try rw [((hth.1.1.rules.same g1 (by decide)).2.2.2 j C hC).1.num]
        refine mv_reti hX hE dX4_why_48 ?_
        unfold o_why
        rw [if_neg (fun q => q h0), nI_clamp (by omega), ← hx', hm1.mp c_20]
        refine ⟨by rw [g1.1 0 (by decide)]; show nI (sp_fault s.w.S (nI n)) = nI 0; rw [h0], fun _ => ?_, hth.same g1 (by decide) (by decide) g2⟩
        rw [show (sp_rsnF s.w.R s.w.F s.w.kT n) = _ from hfn.symm]
        first
          | (have hy0 := hy1.mp c_35
             subst hy0
             rfl)
          | (show nI C.num = nI ((s.w.R.map (fun C => C.num)).getD j 0)
             rw [sp_getD (show (s.w.R.map (fun C => C.num))[j]? = some C.num by rw [List.getElem?_map, hC]; rfl)])
    · skip
      refine nv_sipush hX (m := 1000) (by decide) dX4_why_23 ?_
      refine mv_reti hX hE dX4_why_26 ?_
      unfold o_why
      rw [if_neg (fun q => q h0), nI_clamp (by omega), ← hx']
      refine ⟨by show nI (sp_fault s.w.S (nI n)) = nI 0; rw [h0], fun _ => ?_, hth⟩
      cases x with
      | none => exact absurd rfl c_20
      | some k => rfl
  · skip
    have hne : sp_fault s.w.S f ≠ 0 := fun q => by rw [hw, q] at c_9; exact absurd c_9 (by decide)
    refine nv_iconst hX (m := 0) (by decide) dX4_why_12 ?_
    refine mv_reti hX hE dX4_why_13 ?_
    unfold o_why
    rw [if_pos hne]
    exact h.th hne
theorem m_reasons {G : rv_G} (hG : rv_GK G) {d : Nat} (hd : 10 ≤ d) {σ : rv_S} {s : wS} {N : Nat} (h : mSt σ s) (hwf : wfW N s.w) {f : Int32} : mC G d yX4_reasons wX4_reasons [.int f] σ (mPi (fun r τ => mRes τ r (o_reasons s f))) := by
  refine mv_start hG (by decide +kernel) (Nat.le_of_ble_eq_true rfl) (fun X Hb o hX1 hX hE => ?_)
  subst hX1
  show rv_V X (rv_mh Hb o _) 0 [some (.ref o), some (.int f), none] []
  have hle := sp_fault_le s.w.S f
  have hsr := hwf.F60
  refine rv_aload_n hX dX4_reasons_0 rfl ?_
  refine rv_aload_n hX dX4_reasons_1 rfl ?_
  refine rv_iload_n hX dX4_reasons_2 rfl ?_
  refine mv_calli hX iX4_272 rfl mdX4_faultOf (m_faultOf hG (d := d - 1) (by omega) h.1.1.rel) (by omega) rfl rfl (Nat.le_of_ble_eq_true rfl) dX4_reasons_3 (fun r_3 τ_3 h_3 => ?_)
  obtain ⟨rfl, rfl⟩ := h_3
  refine mv_callz hX iX4_266 rfl mdX4_goesWell (m_goesWell hG (d := d - 1) (n := sp_fault s.w.S f) (by omega)) (by omega) rfl rfl (Nat.le_of_ble_eq_true rfl) dX4_reasons_6 (fun r_6 τ_6 h_6 => ?_)
  obtain ⟨rfl, hw⟩ := h_6
  first | refine zv_if_ne hX 14 dX4_reasons_9 (by decide) (fun c_9 => ?_) (fun c_9 => ?_) | refine nv_if_ne hX 14 (by omega) dX4_reasons_9 (by decide) (fun c_9 => ?_) (fun c_9 => ?_) | refine rv_if_ne hX 14 dX4_reasons_9 (by decide) (fun c_9 => ?_) (fun c_9 => ?_)
  · skip
    have h0 : sp_fault s.w.S f = 0 := by
      rw [hw] at c_9
      exact of_decide_eq_true c_9
    obtain ⟨n, n8, rfl, n3, n4⟩ := sp_fault_0 h.1.1.rel.2.1 h0
    have hth := h.thrown (nI (sp_fault s.w.S (nI n)))
    obtain ⟨dep0, hdp0⟩ := hth.2.2.2
    refine rv_aload_n hX dX4_reasons_14 rfl ?_
    refine rv_iload_n hX dX4_reasons_15 rfl ?_
    refine mv_calli hX iX4_354 rfl mdX4_findReasons (m_findReasons hG (d := d - 1) (by omega) hth.1.1.rules hth.1.1.facts hsr.1 hsr.2 hth.1.1.tl hwf.cl hdp0 n8) (by omega) rfl rfl (Nat.le_of_ble_eq_true rfl) dX4_reasons_16 (fun r_16 τ_16 h_16 => ?_)
    obtain ⟨g1, g2, y, L, g3, g5, g4⟩ := h_16
    refine rv_istore_n hX dX4_reasons_19 (rv_st_2 rfl) ?_
    refine rv_aload_n hX dX4_reasons_20 rfl ?_
    refine mv_gi hX (k := 48) gX4_344_X4 (by decide) rfl dX4_reasons_21 ?_
    refine mv_reti hX hE dX4_reasons_24 ?_
    unfold o_reasons
    rw [if_neg (fun q => q h0), nI_clamp (by omega)]
    refine ⟨by rw [g1.1 0 (by decide)]; show nI (sp_fault s.w.S (nI n)) = nI 0; rw [h0], fun _ => ?_, hth.same g1 (by decide) (by decide) g2⟩
    rw [show (sp_rsnF s.w.R s.w.F s.w.kT n) = (y, L) from (g3.fn hsr.1 hsr.2 hwf.der).symm]
    exact g4.1
  · skip
    have hne : sp_fault s.w.S f ≠ 0 := fun q => by rw [hw, q] at c_9; exact absurd c_9 (by decide)
    refine nv_iconst hX (m := 0) (by decide) dX4_reasons_12 ?_
    refine mv_reti hX hE dX4_reasons_13 ?_
    unfold o_reasons
    rw [if_pos hne]
    exact h.th hne
theorem m_reasonAt {G : rv_G} (hG : rv_GK G) {d : Nat} (hd : 10 ≤ d) {σ : rv_S} {s : wS} {N : Nat} (h : mSt σ s) (hwf : wfW N s.w) {f p : Int32} : mC G d yX4_reasonAt wX4_reasonAt [.int f, .int p] σ (mPi (fun r τ => mRes τ r (o_reasonAt s f p))) := by
  refine mv_start hG (by decide +kernel) (Nat.le_of_ble_eq_true rfl) (fun X Hb o hX1 hX hE => ?_)
  subst hX1
  show rv_V X (rv_mh Hb o _) 0 [some (.ref o), some (.int f), some (.int p), none, none, none] []
  have hle := sp_fault_le s.w.S f
  have hsr := hwf.F60
  have hRw : ∀ C, C ∈ s.w.R → sp_wfC s.w.S C := fun C hC => (hwf.R.2.1 C hC).1
  refine rv_aload_n hX dX4_reasonAt_0 rfl ?_
  refine rv_iload_n hX dX4_reasonAt_1 rfl ?_
  refine mv_calli hX iX4_272 rfl mdX4_faultOf (m_faultOf hG (d := d - 1) (by omega) h.1.1.rel) (by omega) rfl rfl (Nat.le_of_ble_eq_true rfl) dX4_reasonAt_2 (fun r_2 τ_2 h_2 => ?_)
  obtain ⟨rfl, rfl⟩ := h_2
  refine rv_istore_n hX dX4_reasonAt_5 (rv_st_3 rfl) ?_
  refine rv_iload_n hX dX4_reasonAt_6 rfl ?_
  first | refine zv_if_ne hX 18 dX4_reasonAt_7 (by decide) (fun c_7 => ?_) (fun c_7 => ?_) | refine nv_if_ne hX 18 (by omega) dX4_reasonAt_7 (by decide) (fun c_7 => ?_) (fun c_7 => ?_) | refine rv_if_ne hX 18 dX4_reasonAt_7 (by decide) (fun c_7 => ?_) (fun c_7 => ?_)
  · skip
    refine rv_iconst hX (v := -1) dX4_reasonAt_18 (by decide) ?_
    refine rv_istore hX dX4_reasonAt_19 (rv_st_4 rfl) ?_
    refine rv_iload_n hX dX4_reasonAt_21 rfl ?_
    first | refine zv_if_ne hX 43 dX4_reasonAt_22 (by decide) (fun c_22 => ?_) (fun c_22 => ?_) | refine nv_if_ne hX 43 (by omega) dX4_reasonAt_22 (by decide) (fun c_22 => ?_) (fun c_22 => ?_) | refine rv_if_ne hX 43 dX4_reasonAt_22 (by decide) (fun c_22 => ?_) (fun c_22 => ?_)
    · skip
      refine nv_iconst hX (m := 0) (by decide) dX4_reasonAt_43 ?_
      refine rv_istore hX dX4_reasonAt_44 (rv_st_5 rfl) ?_
      refine rv_aload_n hX dX4_reasonAt_46 rfl ?_
      refine rv_iload_n hX dX4_reasonAt_47 rfl ?_
      first | refine nv_if_le hX 55 (by omega) dX4_reasonAt_48 (by decide) (fun c_48 => ?_) (fun c_48 => ?_) | refine rv_if_le hX 55 dX4_reasonAt_48 (by decide) (fun c_48 => ?_) (fun c_48 => ?_)
      · skip
        omega
        --done
      · skip
        refine rv_iload_n hX dX4_reasonAt_51 rfl ?_
        refine rv_goto hX 65 dX4_reasonAt_52 (by decide) ?_
        refine mv_callz hX iX4_266 rfl mdX4_goesWell (m_goesWellN hG (by omega) (by omega) (d := d - 1)) (by omega) rfl rfl (Nat.le_of_ble_eq_true rfl) dX4_reasonAt_65 (fun r_65 τ_65 h_65 => ?_)
        obtain ⟨rfl, rfl⟩ := h_65
        refine rv_if_eq hX 80 dX4_reasonAt_68 (by decide) (fun _ => ?_) (fun q => absurd q (by decide))
        refine nv_iconst hX (m := 0) (by decide) dX4_reasonAt_80 ?_
        refine mv_reti hX hE dX4_reasonAt_81 ?_
        unfold o_reasonAt
        rw [if_pos (show sp_fault s.w.S f ≠ 0 by omega)]
        exact h.th (by omega)
    · skip
      omega
      --done
  · skip
    have h0 : sp_fault s.w.S f = 0 := by omega
    obtain ⟨n, n8, rfl, n3, n4⟩ := sp_fault_0 h.1.1.rel.2.1 h0
    obtain ⟨dep0, hdp0⟩ := h.2.2.2
    refine rv_aload_n hX dX4_reasonAt_10 rfl ?_
    refine rv_iload_n hX dX4_reasonAt_11 rfl ?_
    refine mv_calli hX iX4_354 rfl mdX4_findReasons (m_findReasons hG (d := d - 1) (by omega) h.1.1.rules h.1.1.facts hsr.1 hsr.2 h.1.1.tl hwf.cl hdp0 n8) (by omega) rfl rfl (Nat.le_of_ble_eq_true rfl) dX4_reasonAt_12 (fun r_12 τ_12 h_12 => ?_)
    obtain ⟨g1, g2, y, L, g3, g5, g4⟩ := h_12
    have hfn : (sp_rsnF s.w.R s.w.F s.w.kT n) = (y, L) := (g3.fn hsr.1 hsr.2 hwf.der).symm
    obtain ⟨hL60, -⟩ := sp_rsn_len hsr.2 hRw g3
    have hS := h.same g1 (by decide) (by decide) g2
    refine rv_goto hX 19 dX4_reasonAt_15 (by decide) ?_
    refine rv_istore hX dX4_reasonAt_19 (rv_st_4 rfl) ?_
    refine rv_iload_n hX dX4_reasonAt_21 rfl ?_
    first | refine zv_if_ne hX 43 dX4_reasonAt_22 (by decide) (fun c_22 => ?_) (fun c_22 => ?_) | refine nv_if_ne hX 43 (by omega) dX4_reasonAt_22 (by decide) (fun c_22 => ?_) (fun c_22 => ?_) | refine rv_if_ne hX 43 dX4_reasonAt_22 (by decide) (fun c_22 => ?_) (fun c_22 => ?_)
    · skip
      omega
      --done
    · skip
      refine rv_iload_n hX dX4_reasonAt_25 rfl ?_
      refine nv_iconst hX (m := 0) (by decide) dX4_reasonAt_26 ?_
      refine rv_aload_n hX dX4_reasonAt_27 rfl ?_
      refine mv_gi hX (k := 48) gX4_344_X4 (by decide) rfl dX4_reasonAt_28 ?_
      rw [g4.1]
      refine nv_iconst hX (m := 1) (by decide) dX4_reasonAt_31 ?_
      refine rv_isub hX dX4_reasonAt_32 ?_
      refine sv_callz hX iX4_135 mdX4_in (m_in hG (d := d - 1) (v := p)) (by omega) rfl rfl (Nat.le_of_ble_eq_true rfl) dX4_reasonAt_33 (fun r_33 h_33 => ?_)
      have hk := h_33
      first | refine zv_if_eq hX 43 dX4_reasonAt_36 (by decide) (fun c_36 => ?_) (fun c_36 => ?_) | refine nv_if_eq hX 43 (by omega) dX4_reasonAt_36 (by decide) (fun c_36 => ?_) (fun c_36 => ?_) | refine rv_if_eq hX 43 dX4_reasonAt_36 (by decide) (fun c_36 => ?_) (fun c_36 => ?_)
      · skip
        have hno : w_idx p L.length = none := w_idx_no (by omega) (fun q => absurd ((hk.mpr ((w_in_iff (by omega)).mpr q)).symm.trans c_36) (by decide))
        refine nv_iconst hX (m := 0) (by decide) dX4_reasonAt_43 ?_
        refine rv_istore hX dX4_reasonAt_44 (rv_st_5 rfl) ?_
        refine rv_aload_n hX dX4_reasonAt_46 rfl ?_
        refine rv_iload_n hX dX4_reasonAt_47 rfl ?_
        first | refine nv_if_le hX 55 (by omega) dX4_reasonAt_48 (by decide) (fun c_48 => ?_) (fun c_48 => ?_) | refine rv_if_le hX 55 dX4_reasonAt_48 (by decide) (fun c_48 => ?_) (fun c_48 => ?_)
        · skip
          refine rv_iload hX dX4_reasonAt_55 rfl ?_
          refine rv_if_eq hX 64 dX4_reasonAt_57 (by decide) (fun _ => ?_) (fun q => absurd q (by decide))
          refine nv_iconst hX (m := 1) (by decide) dX4_reasonAt_64 ?_
          refine mv_callz hX iX4_266 rfl mdX4_goesWell (m_goesWellN hG (by decide) (by decide) (d := d - 1)) (by omega) rfl rfl (Nat.le_of_ble_eq_true rfl) dX4_reasonAt_65 (fun r_65 τ_65 h_65 => ?_)
          obtain ⟨rfl, rfl⟩ := h_65
          refine rv_if_eq hX 80 dX4_reasonAt_68 (by decide) (fun _ => ?_) (fun q => absurd q (by decide))
          refine nv_iconst hX (m := 0) (by decide) dX4_reasonAt_80 ?_
          refine mv_reti hX hE dX4_reasonAt_81 ?_
          unfold o_reasonAt
          rw [if_neg (fun q => q h0), nI_clamp (by omega), hfn]
          first
            | (rw [hno]
               exact hS.th (by decide))
            | (rw [hyes]
               refine ⟨rfl, fun _ => ?_, hS.thrown _⟩
               obtain ⟨x, hx⟩ : ∃ x, L[k]? = some x := ⟨L[k], List.getElem?_eq_getElem hk1⟩
               show _ = nI (L.getD k 0)
               rw [sp_getD hx]
               exact g4.2 k x hx)
        · skip
          omega
          --done
      · skip
        obtain ⟨k, hk1, rfl⟩ := (w_in_iff (by omega)).mp (hk.mp c_36)
        have hyes := w_idx_nI hk1 (by omega)
        refine nv_iconst hX (m := 1) (by decide) dX4_reasonAt_39 ?_
        refine rv_goto hX 44 dX4_reasonAt_40 (by decide) ?_
        refine rv_istore hX dX4_reasonAt_44 (rv_st_5 rfl) ?_
        refine rv_aload_n hX dX4_reasonAt_46 rfl ?_
        refine rv_iload_n hX dX4_reasonAt_47 rfl ?_
        first | refine nv_if_le hX 55 (by omega) dX4_reasonAt_48 (by decide) (fun c_48 => ?_) (fun c_48 => ?_) | refine rv_if_le hX 55 dX4_reasonAt_48 (by decide) (fun c_48 => ?_) (fun c_48 => ?_)
        · skip
          refine rv_iload hX dX4_reasonAt_55 rfl ?_
          refine rv_if_eq hX 64 dX4_reasonAt_57 (by decide) (fun q => absurd q (by decide)) (fun _ => ?_)
          refine nv_iconst hX (m := 0) (by decide) dX4_reasonAt_60 ?_
          refine rv_goto hX 65 dX4_reasonAt_61 (by decide) ?_
          refine mv_callz hX iX4_266 rfl mdX4_goesWell (m_goesWell0 hG (d := d - 1)) (by omega) rfl rfl (Nat.le_of_ble_eq_true rfl) dX4_reasonAt_65 (fun r_65 τ_65 h_65 => ?_)
          obtain ⟨rfl, rfl⟩ := h_65
          refine rv_if_eq hX 80 dX4_reasonAt_68 (by decide) (fun q => absurd q (by decide)) (fun _ => ?_)
          refine rv_aload_n hX dX4_reasonAt_71 rfl ?_
          refine mv_ga hX (k := 47) (j := 37) gX4_119_X4 (by decide) rfl (by decide) dX4_reasonAt_72 ?_
          refine rv_iload_n hX dX4_reasonAt_75 rfl ?_
          refine mv_ld hX (j := 37) (by decide) (by decide) rfl (by decide) (show _ < 62 by omega) dX4_reasonAt_76 ?_
          refine rv_goto hX 81 dX4_reasonAt_77 (by decide) ?_
          refine mv_reti hX hE dX4_reasonAt_81 ?_
          unfold o_reasonAt
          rw [if_neg (fun q => q h0), nI_clamp (by omega), hfn]
          first
            | (rw [hno]
               exact hS.th (by decide))
            | (rw [hyes]
               refine ⟨rfl, fun _ => ?_, hS.thrown _⟩
               obtain ⟨x, hx⟩ : ∃ x, L[k]? = some x := ⟨L[k], List.getElem?_eq_getElem hk1⟩
               show _ = nI (L.getD k 0)
               rw [sp_getD hx]
               exact g4.2 k x hx)
        · skip
          omega
          --done
