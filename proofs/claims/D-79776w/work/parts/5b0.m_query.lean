/-! THE REFERENCE: what depends on what, why not, matches -/
set_option maxRecDepth 100000
noncomputable def cdec (p : Prop) : Bool := @decide p (Classical.propDecidable p)
theorem cdec_t {p : Prop} (h : p) : cdec p = true := (@decide_eq_true_iff p (Classical.propDecidable p)).mpr h
theorem cdec_f {p : Prop} (h : ¬ p) : cdec p = false := (@decide_eq_false_iff_not p (Classical.propDecidable p)).mpr h
theorem cdec_iff {p : Prop} : cdec p = true ↔ p := @decide_eq_true_iff p (Classical.propDecidable p)
noncomputable def o_dependsOn (s : wS) (f g : Int32) : wA := if sp_fault s.w.S f = 1 ∨ sp_fault s.w.S g = 1 then (1, 0, s) else if 0 < sp_fault s.w.S f + sp_fault s.w.S g then (2, 0, s) else (0, rv_z (cdec (∃ i j, sp_ix s.w.F f.toNatClampNeg = some i ∧ sp_ix s.w.F g.toNatClampNeg = some j ∧ Relation.TransGen (sp_dir s.w.R s.w.F) i j)), s)
theorem m_dependsOn {G : rv_G} (hG : rv_GK G) {d : Nat} (hd : 9 ≤ d) {σ : rv_S} {s : wS} {N : Nat} (h : mSt σ s) (hwf : wfW N s.w) {f g : Int32} : mC G d yX4_dependsOn wX4_dependsOn [.int f, .int g] σ (mPz (fun r τ => mRes τ (rv_z r) (o_dependsOn s f g))) := by
  refine mv_start hG (by decide +kernel) (Nat.le_of_ble_eq_true rfl) (fun X Hb o hX1 hX hE => ?_)
  subst hX1
  show rv_V X (rv_mh Hb o _) 0 [some (.ref o), some (.int f), some (.int g), none, none, none] []
  have hle := sp_fault_le s.w.S f
  have hlg := sp_fault_le s.w.S g
  have hsr := hwf.F60
  refine rv_aload_n hX dX4_dependsOn_0 rfl ?_
  refine rv_iload_n hX dX4_dependsOn_1 rfl ?_
  refine mv_calli hX iX4_272 rfl mdX4_faultOf (m_faultOf hG (d := d - 1) (by omega) h.1.1.rel) (by omega) rfl rfl (Nat.le_of_ble_eq_true rfl) dX4_dependsOn_2 (fun r_2 τ_2 h_2 => ?_)
  obtain ⟨rfl, rfl⟩ := h_2
  refine nv_iconst hX (m := 1) (by decide) dX4_dependsOn_5 ?_
  first | refine nv_icmp_eq hX 18 (by omega) (by omega) dX4_dependsOn_6 (by decide) (fun c_6 => ?_) (fun c_6 => ?_) | refine rv_icmp_eq hX 18 dX4_dependsOn_6 (by decide) (fun c_6 => ?_) (fun c_6 => ?_)
  · skip
    refine nv_iconst hX (m := 1) (by decide) dX4_dependsOn_18 ?_
    refine rv_goto hX 41 dX4_dependsOn_19 (by decide) ?_
    refine rv_istore_n hX dX4_dependsOn_41 (rv_st_3 rfl) ?_
    refine rv_aload_n hX dX4_dependsOn_42 rfl ?_
    refine rv_iload_n hX dX4_dependsOn_43 rfl ?_
    refine mv_callz hX iX4_266 rfl mdX4_goesWell (m_goesWellN hG (by decide) (by decide) (d := d - 1)) (by omega) rfl rfl (Nat.le_of_ble_eq_true rfl) dX4_dependsOn_44 (fun r_44 τ_44 h_44 => ?_)
    obtain ⟨rfl, rfl⟩ := h_44
    refine rv_if_ne hX 52 dX4_dependsOn_47 (by decide) (fun q => absurd q (by decide)) (fun _ => ?_)
    refine nv_iconst hX (m := 0) (by decide) dX4_dependsOn_50 ?_
    refine mv_retz hX hE (b := false) rfl dX4_dependsOn_51 ?_
    unfold o_dependsOn
    first
      | (rw [if_pos (show sp_fault s.w.S f = 1 ∨ sp_fault s.w.S g = 1 by omega)]
         exact h.th (by decide))
      | (rw [if_neg (show ¬ (sp_fault s.w.S f = 1 ∨ sp_fault s.w.S g = 1) by omega), if_pos (by omega)]
         exact h.th (by decide))
  · skip
    refine rv_aload_n hX dX4_dependsOn_9 rfl ?_
    refine rv_iload_n hX dX4_dependsOn_10 rfl ?_
    refine mv_calli hX iX4_272 rfl mdX4_faultOf (m_faultOf hG (d := d - 1) (by omega) h.1.1.rel) (by omega) rfl rfl (Nat.le_of_ble_eq_true rfl) dX4_dependsOn_11 (fun r_11 τ_11 h_11 => ?_)
    obtain ⟨rfl, rfl⟩ := h_11
    refine nv_iconst hX (m := 1) (by decide) dX4_dependsOn_14 ?_
    first | refine nv_icmp_ne hX 22 (by omega) (by omega) dX4_dependsOn_15 (by decide) (fun c_15 => ?_) (fun c_15 => ?_) | refine rv_icmp_ne hX 22 dX4_dependsOn_15 (by decide) (fun c_15 => ?_) (fun c_15 => ?_)
    · skip
      refine rv_aload_n hX dX4_dependsOn_22 rfl ?_
      refine rv_iload_n hX dX4_dependsOn_23 rfl ?_
      refine mv_calli hX iX4_272 rfl mdX4_faultOf (m_faultOf hG (d := d - 1) (by omega) h.1.1.rel) (by omega) rfl rfl (Nat.le_of_ble_eq_true rfl) dX4_dependsOn_24 (fun r_24 τ_24 h_24 => ?_)
      obtain ⟨rfl, rfl⟩ := h_24
      refine rv_aload_n hX dX4_dependsOn_27 rfl ?_
      refine rv_iload_n hX dX4_dependsOn_28 rfl ?_
      refine mv_calli hX iX4_272 rfl mdX4_faultOf (m_faultOf hG (d := d - 1) (by omega) h.1.1.rel) (by omega) rfl rfl (Nat.le_of_ble_eq_true rfl) dX4_dependsOn_29 (fun r_29 τ_29 h_29 => ?_)
      obtain ⟨rfl, rfl⟩ := h_29
      first | refine nv_iadd hX dX4_dependsOn_32 ?_ | refine rv_iadd hX dX4_dependsOn_32 ?_
      first | refine nv_if_le hX 40 (by omega) dX4_dependsOn_33 (by decide) (fun c_33 => ?_) (fun c_33 => ?_) | refine rv_if_le hX 40 dX4_dependsOn_33 (by decide) (fun c_33 => ?_) (fun c_33 => ?_)
      · skip
        refine nv_iconst hX (m := 0) (by decide) dX4_dependsOn_40 ?_
        refine rv_istore_n hX dX4_dependsOn_41 (rv_st_3 rfl) ?_
        refine rv_aload_n hX dX4_dependsOn_42 rfl ?_
        refine rv_iload_n hX dX4_dependsOn_43 rfl ?_
        refine mv_callz hX iX4_266 rfl mdX4_goesWell (m_goesWell0 hG (d := d - 1)) (by omega) rfl rfl (Nat.le_of_ble_eq_true rfl) dX4_dependsOn_44 (fun r_44 τ_44 h_44 => ?_)
        obtain ⟨rfl, rfl⟩ := h_44
        refine rv_if_ne hX 52 dX4_dependsOn_47 (by decide) (fun _ => ?_) (fun q => absurd q (by decide))
        obtain ⟨n, n8, rfl, n3, n4⟩ := sp_fault_0 h.1.1.rel.2.1 (show sp_fault s.w.S f = 0 by omega)
        obtain ⟨m, m8, rfl, m3, m4⟩ := sp_fault_0 h.1.1.rel.2.1 (show sp_fault s.w.S g = 0 by omega)
        have hunf : o_dependsOn s (nI n) (nI m) = (0, rv_z (cdec (∃ i j, sp_ix s.w.F n = some i ∧ sp_ix s.w.F m = some j ∧ Relation.TransGen (sp_dir s.w.R s.w.F) i j)), s) := by
          unfold o_dependsOn
          rw [if_neg (by omega), if_neg (by omega), nI_clamp (by omega), nI_clamp (by omega)]
        have hth := h.thrown (nI 0)
        obtain ⟨dep0, hdp0⟩ := hth.2.2.2
        have ixs : ∀ a r, ((a ∉ s.w.F ∧ r = -1) ∨ ∃ k, s.w.F[k]? = some a ∧ r = nI k) → ∃ x, sp_ix s.w.F a = x ∧ r = rv_oi x ∧ ∀ b, x = some b → b < s.w.F.length := fun a r hix => by
          rcases hix with ⟨i1, i2⟩ | ⟨k, i1, i2⟩
          · exact ⟨none, sp_ix_none i1, i2, fun a e => by cases e⟩
          · exact ⟨some k, sp_ix_some hsr.1 i1, i2, fun a e => by cases e; exact (List.getElem?_eq_some_iff.mp i1).1⟩
        refine rv_aload_n hX dX4_dependsOn_52 rfl ?_
        refine rv_iload_n hX dX4_dependsOn_53 rfl ?_
        refine mv_calli hX iX4_192 rfl mdX4_indexOf (m_indexOf hG (d := d - 1) hth.1.1.facts n8) (by omega) rfl rfl (Nat.le_of_ble_eq_true rfl) dX4_dependsOn_54 (fun r_54 τ_54 h_54 => ?_)
        obtain ⟨e54, hix⟩ := h_54
        rw [e54]
        obtain ⟨x, hx1, rfl, hx3⟩ := ixs _ _ hix
        have hm1 := rv_oi_m1 (x := x) (fun a e => by have := hx3 a e; omega)
        refine rv_istore hX dX4_dependsOn_57 (rv_st_4 rfl) ?_
        refine rv_aload_n hX dX4_dependsOn_59 rfl ?_
        refine rv_iload_n hX dX4_dependsOn_60 rfl ?_
        refine mv_calli hX iX4_192 rfl mdX4_indexOf (m_indexOf hG (d := d - 1) hth.1.1.facts m8) (by omega) rfl rfl (Nat.le_of_ble_eq_true rfl) dX4_dependsOn_61 (fun r_61 τ_61 h_61 => ?_)
        obtain ⟨e61, hiy⟩ := h_61
        rw [e61]
        obtain ⟨y, hy1, rfl, hy3⟩ := ixs _ _ hiy
        have hm2 := rv_oi_m1 (x := y) (fun a e => by have := hy3 a e; omega)
        refine rv_istore hX dX4_dependsOn_64 (rv_st_5 rfl) ?_
        refine rv_iload hX dX4_dependsOn_66 rfl ?_
        refine rv_iconst hX (v := -1) dX4_dependsOn_68 (by decide) ?_
        first | refine nv_icmp_eq hX 78 (by omega) (by omega) dX4_dependsOn_69 (by decide) (fun c_69 => ?_) (fun c_69 => ?_) | refine rv_icmp_eq hX 78 dX4_dependsOn_69 (by decide) (fun c_69 => ?_) (fun c_69 => ?_)
        · skip
          refine nv_iconst hX (m := 0) (by decide) dX4_dependsOn_78 ?_
          refine mv_retz hX hE (b := false) rfl dX4_dependsOn_79 ?_
          rw [hunf]
          refine ⟨rfl, fun _ => ?_, hth⟩
          rw [cdec_f]
          rintro ⟨i, j, a, b, -⟩
          first
            | (rw [hx1, hm1.mp c_69] at a; cases a)
            | (rw [hy1, hm2.mp c_75] at b; cases b)
        · skip
          refine rv_iload hX dX4_dependsOn_72 rfl ?_
          refine rv_iconst hX (v := -1) dX4_dependsOn_74 (by decide) ?_
          first | refine nv_icmp_ne hX 80 (by omega) (by omega) dX4_dependsOn_75 (by decide) (fun c_75 => ?_) (fun c_75 => ?_) | refine rv_icmp_ne hX 80 dX4_dependsOn_75 (by decide) (fun c_75 => ?_) (fun c_75 => ?_)
          · skip
            obtain ⟨i, rfl⟩ : ∃ i, x = some i := by
              cases x with
              | none => exact absurd rfl c_69
              | some i => exact ⟨i, rfl⟩
            obtain ⟨j, rfl⟩ : ∃ j, y = some j := by
              cases y with
              | none => exact absurd rfl c_75
              | some j => exact ⟨j, rfl⟩
            have hi := hx3 i rfl
            have hj := hy3 j rfl
            rw [show rv_oi (some i) = nI i from rfl, show rv_oi (some j) = nI j from rfl]
            refine rv_aload_n hX dX4_dependsOn_80 rfl ?_
            refine mv_callv hX iX4_357 rfl mdX4_findRests (m_findRests hG (d := d - 1) (by omega) hth.1.1.rules hth.1.1.facts hsr.1 hsr.2 hwf.cl hdp0) (by omega) rfl rfl (Nat.le_of_ble_eq_true rfl) dX4_dependsOn_81 (fun τ_81 h_81 => ?_)
            obtain ⟨r1, r2⟩ := h_81
            refine rv_aload_n hX dX4_dependsOn_84 rfl ?_
            refine mv_ga hX (k := 46) (j := 36) gX4_116_X4 (by decide) rfl (by decide) dX4_dependsOn_85 ?_
            refine rv_iload hX dX4_dependsOn_88 rfl ?_
            refine mv_lld hX (j := 36) (by decide) (by decide) rfl (by decide) (show _ < 62 by omega) dX4_dependsOn_90 ?_
            refine rv_iload hX dX4_dependsOn_91 rfl ?_
            refine rv_lshr hX dX4_dependsOn_93 ?_
            refine rv_lconst hX (v := 1) dX4_dependsOn_94 rfl ?_
            refine rv_land hX dX4_dependsOn_95 ?_
            refine rv_lconst hX (v := 1) dX4_dependsOn_96 rfl ?_
            have hiff : Relation.TransGen (sp_dir s.w.R s.w.F) i j ↔ lg_cmp ((τ_81.2.2 36 i >>> ((nI j).toInt64 &&& 63)) &&& 1) 1 = 0 := by
              rw [lb_cmp, lb_test (by omega)]
              exact (r2 i hi j).symm
            refine rv_lcmp hX dX4_dependsOn_97 ?_
            first | refine zv_if_ne hX 105 dX4_dependsOn_98 (by decide) (fun c_98 => ?_) (fun c_98 => ?_) | refine nv_if_ne hX 105 (by omega) dX4_dependsOn_98 (by decide) (fun c_98 => ?_) (fun c_98 => ?_) | refine rv_if_ne hX 105 dX4_dependsOn_98 (by decide) (fun c_98 => ?_) (fun c_98 => ?_)
            · skip
              have hb : cdec (∃ i j, sp_ix s.w.F n = some i ∧ sp_ix s.w.F m = some j ∧ Relation.TransGen (sp_dir s.w.R s.w.F) i j) = false := cdec_f (by
                rintro ⟨i', j', a, b, c⟩
                rw [hx1] at a
                rw [hy1] at b
                cases a
                cases b
                exact c_98 (hiff.mp c))
              refine nv_iconst hX (m := 0) (by decide) dX4_dependsOn_105 ?_
              refine mv_retz hX hE (b := false) rfl dX4_dependsOn_106 ?_
              rw [hunf, hb]
              exact ⟨by rw [r1.1 0 (by decide)]; rfl, fun _ => rfl, hth.same r1 (by decide) (by decide) ⟨dep0, hdp0.same r1 (by decide)⟩⟩
            · skip
              have hb : cdec (∃ i j, sp_ix s.w.F n = some i ∧ sp_ix s.w.F m = some j ∧ Relation.TransGen (sp_dir s.w.R s.w.F) i j) = true := cdec_t ⟨i, j, hx1, hy1, hiff.mpr c_98⟩
              refine nv_iconst hX (m := 1) (by decide) dX4_dependsOn_101 ?_
              refine rv_goto hX 106 dX4_dependsOn_102 (by decide) ?_
              refine mv_retz hX hE (b := true) rfl dX4_dependsOn_106 ?_
              rw [hunf, hb]
              exact ⟨by rw [r1.1 0 (by decide)]; rfl, fun _ => rfl, hth.same r1 (by decide) (by decide) ⟨dep0, hdp0.same r1 (by decide)⟩⟩
          · skip
            refine nv_iconst hX (m := 0) (by decide) dX4_dependsOn_78 ?_
            refine mv_retz hX hE (b := false) rfl dX4_dependsOn_79 ?_
            rw [hunf]
            refine ⟨rfl, fun _ => ?_, hth⟩
            rw [cdec_f]
            rintro ⟨i, j, a, b, -⟩
            first
              | (rw [hx1, hm1.mp c_69] at a; cases a)
              | (rw [hy1, hm2.mp c_75] at b; cases b)
      · skip
        refine nv_iconst hX (m := 2) (by decide) dX4_dependsOn_36 ?_
        refine rv_goto hX 41 dX4_dependsOn_37 (by decide) ?_
        refine rv_istore_n hX dX4_dependsOn_41 (rv_st_3 rfl) ?_
        refine rv_aload_n hX dX4_dependsOn_42 rfl ?_
        refine rv_iload_n hX dX4_dependsOn_43 rfl ?_
        refine mv_callz hX iX4_266 rfl mdX4_goesWell (m_goesWellN hG (by decide) (by decide) (d := d - 1)) (by omega) rfl rfl (Nat.le_of_ble_eq_true rfl) dX4_dependsOn_44 (fun r_44 τ_44 h_44 => ?_)
        obtain ⟨rfl, rfl⟩ := h_44
        refine rv_if_ne hX 52 dX4_dependsOn_47 (by decide) (fun q => absurd q (by decide)) (fun _ => ?_)
        refine nv_iconst hX (m := 0) (by decide) dX4_dependsOn_50 ?_
        refine mv_retz hX hE (b := false) rfl dX4_dependsOn_51 ?_
        unfold o_dependsOn
        first
          | (rw [if_pos (show sp_fault s.w.S f = 1 ∨ sp_fault s.w.S g = 1 by omega)]
             exact h.th (by decide))
          | (rw [if_neg (show ¬ (sp_fault s.w.S f = 1 ∨ sp_fault s.w.S g = 1) by omega), if_pos (by omega)]
             exact h.th (by decide))
    · skip
      refine nv_iconst hX (m := 1) (by decide) dX4_dependsOn_18 ?_
      refine rv_goto hX 41 dX4_dependsOn_19 (by decide) ?_
      refine rv_istore_n hX dX4_dependsOn_41 (rv_st_3 rfl) ?_
      refine rv_aload_n hX dX4_dependsOn_42 rfl ?_
      refine rv_iload_n hX dX4_dependsOn_43 rfl ?_
      refine mv_callz hX iX4_266 rfl mdX4_goesWell (m_goesWellN hG (by decide) (by decide) (d := d - 1)) (by omega) rfl rfl (Nat.le_of_ble_eq_true rfl) dX4_dependsOn_44 (fun r_44 τ_44 h_44 => ?_)
      obtain ⟨rfl, rfl⟩ := h_44
      refine rv_if_ne hX 52 dX4_dependsOn_47 (by decide) (fun q => absurd q (by decide)) (fun _ => ?_)
      refine nv_iconst hX (m := 0) (by decide) dX4_dependsOn_50 ?_
      refine mv_retz hX hE (b := false) rfl dX4_dependsOn_51 ?_
      unfold o_dependsOn
      first
        | (rw [if_pos (show sp_fault s.w.S f = 1 ∨ sp_fault s.w.S g = 1 by omega)]
           exact h.th (by decide))
        | (rw [if_neg (show ¬ (sp_fault s.w.S f = 1 ∨ sp_fault s.w.S g = 1) by omega), if_pos (by omega)]
           exact h.th (by decide))
noncomputable def o_whyNot (s : wS) (r f : Int32) : wA := match sp_find s.w.R r with
  | none => (1, 0, s)
  | some k => if sp_fault s.w.S f ≠ 0 then (sp_fault s.w.S f, 0, s) else (0, (match s.w.R[k]? with
    | none => -1
    | some C => if C.rel = f.toNatClampNeg / 1000000 then (match sp_lay (fun x => some (sp_slot f.toNatClampNeg x)) C.hts 0 (fun _ => none) with
      | none => -1
      | some v => if (sp_m s.w.F C.its v).isEmpty then nI (sp_reach s.w.F C.its v) else nI C.its.length) else -1), s)
theorem m_whyNot {G : rv_G} (hG : rv_GK G) {d : Nat} (hd : 9 ≤ d) {σ : rv_S} {s : wS} {N : Nat} (h : mSt σ s) (hwf : wfW N s.w) {r f : Int32} : mC G d yX4_whyNot wX4_whyNot [.int r, .int f] σ (mPi (fun x τ => mRes τ x (o_whyNot s r f))) := by
  refine mv_start hG (by decide +kernel) (Nat.le_of_ble_eq_true rfl) (fun X Hb o hX1 hX hE => ?_)
  subst hX1
  show rv_V X (rv_mh Hb o _) 0 [some (.ref o), some (.int r), some (.int f), none, none, none] []
  have hle := sp_fault_le s.w.S f
  have hsr := hwf.F60
  have hRw : ∀ C, C ∈ s.w.R → sp_wfC s.w.S C := fun C hC => (hwf.R.2.1 C hC).1
  have hR10 := hwf.R.1
  have hS8 := hwf.S.1
  refine rv_aload_n hX dX4_whyNot_0 rfl ?_
  refine rv_iload_n hX dX4_whyNot_1 rfl ?_
  refine mv_calli hX iX4_332 rfl mdX4_ruleAt (m_ruleAt hG (d := d - 1) (by omega) h.1.1.rules) (by omega) rfl rfl (Nat.le_of_ble_eq_true rfl) dX4_whyNot_2 (fun r_2 τ_2 h_2 => ?_)
  obtain ⟨rfl, x, hx, rfl⟩ := h_2
  have hx' := hx.fn hwf.R.2.2.1 (fun C hC => (hRw C hC).num)
  have hxl : ∀ a, x = some a → ∃ C, s.w.R[a]? = some C := fun a e => by
    rcases hx with ⟨q1, -⟩ | ⟨i, C, q1, q2, -⟩
    · rw [q1] at e; cases e
    · rw [q1] at e; cases e; exact ⟨C, q2⟩
  have hm1 := rv_oi_m1 (x := x) (fun a e => by obtain ⟨C, hC⟩ := hxl a e; have := (List.getElem?_eq_some_iff.mp hC).1; omega)
  refine rv_iconst hX (v := -1) dX4_whyNot_5 (by decide) ?_
  first | refine nv_icmp_ne hX 13 (by omega) (by omega) dX4_whyNot_6 (by decide) (fun c_6 => ?_) (fun c_6 => ?_) | refine rv_icmp_ne hX 13 dX4_whyNot_6 (by decide) (fun c_6 => ?_) (fun c_6 => ?_)
  · skip
    refine rv_aload_n hX dX4_whyNot_13 rfl ?_
    refine rv_iload_n hX dX4_whyNot_14 rfl ?_
    refine mv_calli hX iX4_272 rfl mdX4_faultOf (m_faultOf hG (d := d - 1) (by omega) h.1.1.rel) (by omega) rfl rfl (Nat.le_of_ble_eq_true rfl) dX4_whyNot_15 (fun r_15 τ_15 h_15 => ?_)
    obtain ⟨rfl, rfl⟩ := h_15
    refine rv_istore_n hX dX4_whyNot_18 (rv_st_3 rfl) ?_
    refine rv_aload_n hX dX4_whyNot_19 rfl ?_
    refine rv_iload_n hX dX4_whyNot_20 rfl ?_
    refine mv_callz hX iX4_266 rfl mdX4_goesWell (m_goesWell hG (d := d - 1) (n := sp_fault s.w.S f) (by omega)) (by omega) rfl rfl (Nat.le_of_ble_eq_true rfl) dX4_whyNot_21 (fun r_21 τ_21 h_21 => ?_)
    obtain ⟨rfl, hw⟩ := h_21
    first | refine zv_if_ne hX 29 dX4_whyNot_24 (by decide) (fun c_24 => ?_) (fun c_24 => ?_) | refine nv_if_ne hX 29 (by omega) dX4_whyNot_24 (by decide) (fun c_24 => ?_) (fun c_24 => ?_) | refine rv_if_ne hX 29 dX4_whyNot_24 (by decide) (fun c_24 => ?_) (fun c_24 => ?_)
    · skip
      have h0 : sp_fault s.w.S f = 0 := by
        rw [hw] at c_24
        exact of_decide_eq_true c_24
      obtain ⟨n, n8, rfl, n3, n4⟩ := sp_fault_0 h.1.1.rel.2.1 h0
      obtain ⟨p, rfl⟩ : ∃ p, x = some p := by
        cases x with
        | none => exact absurd rfl c_6
        | some p => exact ⟨p, rfl⟩
      obtain ⟨C, hC⟩ := hxl p rfl
      have hpl := (List.getElem?_eq_some_iff.mp hC).1
      have hwC := hRw C (List.mem_of_getElem? hC)
      have hlen := hwC.len
      have hrel8 := (List.getElem?_eq_some_iff.mp hwC.hd).1
      have hth := h.thrown (nI (sp_fault s.w.S (nI n)))
      have h00 : (rv_sF τ_15 0 (nI (sp_fault s.w.S (nI n)))).1 0 = nI 0 := by show nI (sp_fault s.w.S (nI n)) = nI 0; rw [h0]
      have hunf : o_whyNot s r (nI n) = (0, (if C.rel = n / 1000000 then (match sp_lay (fun x => some (sp_slot n x)) C.hts 0 (fun _ => none) with
          | none => -1
          | some v => if (sp_m s.w.F C.its v).isEmpty then nI (sp_reach s.w.F C.its v) else nI C.its.length) else -1), s) := by
        unfold o_whyNot
        rw [← hx']
        show (if sp_fault s.w.S (nI n) ≠ 0 then _ else _) = _
        rw [if_neg (fun q => q h0), hC, nI_clamp (by omega)]
      generalize rv_sF τ_15 0 (nI (sp_fault s.w.S (nI n))) = τ0 at hth h00
      obtain ⟨hB1, hB2⟩ := hth.1.1.rules.2.2.2 p C hC
      obtain ⟨dep0, hdp0⟩ := hth.2.2.2
      refine rv_aload_n hX dX4_whyNot_29 rfl ?_
      refine rv_iload_n hX dX4_whyNot_30 rfl ?_
      refine mv_calli hX iX4_332 rfl mdX4_ruleAt (m_ruleAt hG (d := d - 1) (by omega) hth.1.1.rules) (by omega) rfl rfl (Nat.le_of_ble_eq_true rfl) dX4_whyNot_31 (fun r_31 τ_31 h_31 => ?_)
      obtain ⟨e31, x2, hx2, rfl⟩ := h_31
      rw [e31]
      have hx2' := hx2.fn hwf.R.2.2.1 (fun C hC => (hRw C hC).num)
      rw [← hx'] at hx2'
      subst hx2'
      rw [show rv_oi (some p) = nI p from rfl]
      refine rv_istore hX dX4_whyNot_34 (rv_st_4 rfl) ?_
      refine rv_aload_n hX dX4_whyNot_36 rfl ?_
      refine mv_ga hX (k := 4) (j := 4) gX4_19_X4 (by decide) rfl (by decide) dX4_whyNot_37 ?_
      refine rv_iload hX dX4_whyNot_40 rfl ?_
      refine mv_ld hX (j := 4) (by decide) (by decide) rfl (by decide) (show _ < 17 by omega) dX4_whyNot_42 ?_
      rw [hB1.rel]
      refine rv_iload_n hX dX4_whyNot_43 rfl ?_
      refine rv_ldc hX q2291 dX4_whyNot_44 ?_
      rw [show (1000000 : Int32) = nI 1000000 from by decide]
      first | refine nv_idiv hX (by omega) (by omega) (by omega) dX4_whyNot_46 ?_ | refine rv_idiv hX dX4_whyNot_46 (by decide) ?_
      first | refine nv_icmp_ne hX 78 (by omega) (by omega) dX4_whyNot_47 (by decide) (fun c_47 => ?_) (fun c_47 => ?_) | refine rv_icmp_ne hX 78 dX4_whyNot_47 (by decide) (fun c_47 => ?_) (fun c_47 => ?_)
      · skip
        refine nv_iconst hX (m := 0) (by decide) dX4_whyNot_78 ?_
        refine rv_istore hX dX4_whyNot_79 (rv_st_5 rfl) ?_
        refine rv_iload hX dX4_whyNot_81 rfl ?_
        refine rv_if_ne hX 88 dX4_whyNot_83 (by decide) (fun q => absurd q (by decide)) (fun _ => ?_)
        refine rv_iconst hX (v := -1) dX4_whyNot_86 (by decide) ?_
        refine mv_reti hX hE dX4_whyNot_87 ?_
        rw [hunf]
        first
          | (rw [if_neg c_47]
             exact ⟨h00, fun _ => rfl, hth⟩)
          | (have hno : sp_lay (fun x => some (sp_slot n x)) C.hts 0 (fun _ => none) = none := by
               cases e : sp_lay (fun x => some (sp_slot n x)) C.hts 0 (fun _ => none) with
               | none => rfl
               | some v => rw [e, c_71] at l2; simp at l2
             rw [if_pos c_47, hno]
             exact ⟨by rw [l1.1 0 (by decide)]; exact h00, fun _ => rfl, hth.same l1 (by decide) (by decide) ⟨dep0, hdp0.same l1 (by decide)⟩⟩)
      · skip
        refine rv_aload_n hX dX4_whyNot_50 rfl ?_
        refine rv_iload hX dX4_whyNot_51 rfl ?_
        refine rv_iload_n hX dX4_whyNot_53 rfl ?_
        refine nv_iconst hX (m := 0) (by decide) dX4_whyNot_54 ?_
        refine sv_calli hX iX4_176 mdX4_slotOf (m_slotOf hG (d := d - 1) n8 (by omega)) (by omega) rfl rfl (Nat.le_of_ble_eq_true rfl) dX4_whyNot_55 (fun r_55 h_55 => ?_)
        obtain rfl := h_55
        refine rv_iload_n hX dX4_whyNot_58 rfl ?_
        refine nv_iconst hX (m := 1) (by decide) dX4_whyNot_59 ?_
        refine sv_calli hX iX4_176 mdX4_slotOf (m_slotOf hG (d := d - 1) n8 (by omega)) (by omega) rfl rfl (Nat.le_of_ble_eq_true rfl) dX4_whyNot_60 (fun r_60 h_60 => ?_)
        obtain rfl := h_60
        refine rv_iload_n hX dX4_whyNot_63 rfl ?_
        refine nv_iconst hX (m := 2) (by decide) dX4_whyNot_64 ?_
        refine sv_calli hX iX4_176 mdX4_slotOf (m_slotOf hG (d := d - 1) n8 (by omega)) (by omega) rfl rfl (Nat.le_of_ble_eq_true rfl) dX4_whyNot_65 (fun r_65 h_65 => ?_)
        obtain rfl := h_65
        refine mv_callz hX iX4_360 rfl mdX4_layHead (m_layHead hG (d := d - 1) (g := fun x => some (sp_slot n x)) (by omega) (hB1.mHd hth.1.1.rel hwC (by omega)) (fun s a e => by cases e; exact sp_slot_lt _ _)) (by omega) rfl rfl (Nat.le_of_ble_eq_true rfl) dX4_whyNot_68 (fun r_68 τ_68 h_68 => ?_)
        obtain ⟨l1, l2, l3⟩ := h_68
        first | refine zv_if_eq hX 78 dX4_whyNot_71 (by decide) (fun c_71 => ?_) (fun c_71 => ?_) | refine nv_if_eq hX 78 (by omega) dX4_whyNot_71 (by decide) (fun c_71 => ?_) (fun c_71 => ?_) | refine rv_if_eq hX 78 dX4_whyNot_71 (by decide) (fun c_71 => ?_) (fun c_71 => ?_)
        · skip
          refine nv_iconst hX (m := 0) (by decide) dX4_whyNot_78 ?_
          refine rv_istore hX dX4_whyNot_79 (rv_st_5 rfl) ?_
          refine rv_iload hX dX4_whyNot_81 rfl ?_
          refine rv_if_ne hX 88 dX4_whyNot_83 (by decide) (fun q => absurd q (by decide)) (fun _ => ?_)
          refine rv_iconst hX (v := -1) dX4_whyNot_86 (by decide) ?_
          refine mv_reti hX hE dX4_whyNot_87 ?_
          rw [hunf]
          first
            | (rw [if_neg c_47]
               exact ⟨h00, fun _ => rfl, hth⟩)
            | (have hno : sp_lay (fun x => some (sp_slot n x)) C.hts 0 (fun _ => none) = none := by
                 cases e : sp_lay (fun x => some (sp_slot n x)) C.hts 0 (fun _ => none) with
                 | none => rfl
                 | some v => rw [e, c_71] at l2; simp at l2
               rw [if_pos c_47, hno]
               exact ⟨by rw [l1.1 0 (by decide)]; exact h00, fun _ => rfl, hth.same l1 (by decide) (by decide) ⟨dep0, hdp0.same l1 (by decide)⟩⟩)
        · skip
          refine nv_iconst hX (m := 1) (by decide) dX4_whyNot_74 ?_
          refine rv_goto hX 79 dX4_whyNot_75 (by decide) ?_
          refine rv_istore hX dX4_whyNot_79 (rv_st_5 rfl) ?_
          refine rv_iload hX dX4_whyNot_81 rfl ?_
          refine rv_if_ne hX 88 dX4_whyNot_83 (by decide) (fun _ => ?_) (fun q => absurd q (by decide))
          obtain ⟨v, hv⟩ : ∃ v, sp_lay (fun x => some (sp_slot n x)) C.hts 0 (fun _ => none) = some v := by
            cases e : sp_lay (fun x => some (sp_slot n x)) C.hts 0 (fun _ => none) with
            | none => rw [e, c_71] at l2; simp at l2
            | some v => exact ⟨v, rfl⟩
          obtain ⟨v1, v2⟩ := l3 v hv
          rw [if_pos c_47, hv] at hunf
          refine rv_aload_n hX dX4_whyNot_88 rfl ?_
          refine rv_iload hX dX4_whyNot_89 rfl ?_
          refine rv_aload_n hX dX4_whyNot_91 rfl ?_
          refine mv_ga hX (k := 6) (j := 6) gX4_25_X4 (by decide) rfl (by decide) dX4_whyNot_92 ?_
          refine rv_iload hX dX4_whyNot_95 rfl ?_
          refine mv_ld hX (j := 6) (by decide) (by decide) rfl (by decide) (show _ < 17 by omega) dX4_whyNot_97 ?_
          rw [(hB1.same l1 (by decide)).len]
          refine mv_callv hX iX4_214 rfl mdX4_beginMatches (m_beginMatches hG (d := d - 1)) (by omega) rfl rfl (Nat.le_of_ble_eq_true rfl) dX4_whyNot_98 (fun τ_98 h_98 => ?_)
          obtain ⟨g1, g2, g3, g4, g5, g6⟩ := h_98
          have hS3 := (l1.mn (fs' := [31, 32, 33, 34]) (js' := [26, 27, 28, 29]) (by decide) (by decide)).tr (g6.mn (fs' := [31, 32, 33, 34]) (js' := [26, 27, 28, 29]) (by decide) (by decide))
          have hBF : mBF τ_98 s.w.S s.w.F p C := ⟨hth.1.1.rel.same hS3 (by decide) (by decide), hth.1.1.facts.same hS3 (by decide) (by decide), hB1.same hS3 (by decide), hwC, by omega⟩
          refine rv_aload_n hX dX4_whyNot_101 rfl ?_
          refine mv_callz hX iX4_218 rfl mdX4_nextMatch (m_nextMatchR hG (d := d - 1) (by omega) (hBF.cfg' g1 g2 g5) (fr := true) (R := sp_reach s.w.F C.its v) (Or.inl ⟨v, ⟨v1.same g6 (by decide), v2.same g6 (by decide), g3, g4, sp_snd.okA hwC.its (sp_has_none v) hwC.snd⟩, rfl, fun _ => rfl⟩)) (by omega) rfl rfl (Nat.le_of_ble_eq_true rfl) dX4_whyNot_102 (fun r_102 τ_102 h_102 => ?_)
          obtain ⟨k1, k2, k3, k4⟩ := h_102
          first | refine zv_if_eq hX 118 dX4_whyNot_105 (by decide) (fun c_105 => ?_) (fun c_105 => ?_) | refine nv_if_eq hX 118 (by omega) dX4_whyNot_105 (by decide) (fun c_105 => ?_) (fun c_105 => ?_) | refine rv_if_eq hX 118 dX4_whyNot_105 (by decide) (fun c_105 => ?_) (fun c_105 => ?_)
          · skip
            refine rv_aload_n hX dX4_whyNot_118 rfl ?_
            refine mv_gi hX (k := 34) gX4_165_X4 (by decide) rfl dX4_whyNot_119 ?_
            refine mv_reti hX hE dX4_whyNot_122 ?_
            rw [hunf]
            have hS4 := hS3.tr (k1.mn (fs' := [31, 32, 33, 34]) (js' := [26, 27, 28, 29]) (by decide) (by decide))
            refine ⟨by rw [hS4.1 0 (by decide)]; exact h00, fun _ => ?_, hth.same hS4 (by decide) (by decide) ⟨dep0, hdp0.same hS4 (by decide)⟩⟩
            show _ = if (sp_m s.w.F C.its v).isEmpty then nI (sp_reach s.w.F C.its v) else nI C.its.length
            cases hm : sp_m s.w.F C.its v with
            | nil =>
              have hr := k3 hm
              show _ = nI (sp_reach s.w.F C.its v)
              first
                | exact k4 rfl hr
                | (rw [hr] at c_105; exact absurd c_105 (by decide))
            | cons q T =>
              have hr := (k2 q.1 q.2 T hm).1
              show _ = nI C.its.length
              first
                | (rw [hr] at c_105; exact absurd c_105 (by decide))
                | rfl
          · skip
            refine rv_aload_n hX dX4_whyNot_108 rfl ?_
            refine mv_ga hX (k := 6) (j := 6) gX4_25_X4 (by decide) rfl (by decide) dX4_whyNot_109 ?_
            refine rv_iload hX dX4_whyNot_112 rfl ?_
            refine mv_ld hX (j := 6) (by decide) (by decide) rfl (by decide) (show _ < 17 by omega) dX4_whyNot_114 ?_
            rw [(hBF.2.2.1.same k1 (by decide)).len]
            refine rv_goto hX 122 dX4_whyNot_115 (by decide) ?_
            refine mv_reti hX hE dX4_whyNot_122 ?_
            rw [hunf]
            have hS4 := hS3.tr (k1.mn (fs' := [31, 32, 33, 34]) (js' := [26, 27, 28, 29]) (by decide) (by decide))
            refine ⟨by rw [hS4.1 0 (by decide)]; exact h00, fun _ => ?_, hth.same hS4 (by decide) (by decide) ⟨dep0, hdp0.same hS4 (by decide)⟩⟩
            show _ = if (sp_m s.w.F C.its v).isEmpty then nI (sp_reach s.w.F C.its v) else nI C.its.length
            cases hm : sp_m s.w.F C.its v with
            | nil =>
              have hr := k3 hm
              show _ = nI (sp_reach s.w.F C.its v)
              first
                | exact k4 rfl hr
                | (rw [hr] at c_105; exact absurd c_105 (by decide))
            | cons q T =>
              have hr := (k2 q.1 q.2 T hm).1
              show _ = nI C.its.length
              first
                | (rw [hr] at c_105; exact absurd c_105 (by decide))
                | rfl
    · skip
      have hne : sp_fault s.w.S f ≠ 0 := fun q => by rw [hw, q] at c_24; exact absurd c_24 (by decide)
      refine nv_iconst hX (m := 0) (by decide) dX4_whyNot_27 ?_
      refine mv_reti hX hE dX4_whyNot_28 ?_
      unfold o_whyNot
      first
        | (rw [← hx', hm1.mp c_6]
           exact h.th (by decide))
        | (rw [← hx']
           obtain ⟨p, rfl⟩ : ∃ p, x = some p := by
             cases x with
             | none => exact absurd rfl c_6
             | some p => exact ⟨p, rfl⟩
           show mRes _ _ (if sp_fault s.w.S f ≠ 0 then _ else _)
           rw [if_pos hne]
           exact h.th hne)
  · skip
    refine nv_iconst hX (m := 1) (by decide) dX4_whyNot_9 ?_
    refine rv_goto hX 18 dX4_whyNot_10 (by decide) ?_
    refine rv_istore_n hX dX4_whyNot_18 (rv_st_3 rfl) ?_
    refine rv_aload_n hX dX4_whyNot_19 rfl ?_
    refine rv_iload_n hX dX4_whyNot_20 rfl ?_
    refine mv_callz hX iX4_266 rfl mdX4_goesWell (m_goesWellN hG (by decide) (by decide) (d := d - 1)) (by omega) rfl rfl (Nat.le_of_ble_eq_true rfl) dX4_whyNot_21 (fun r_21 τ_21 h_21 => ?_)
    obtain ⟨rfl, rfl⟩ := h_21
    refine rv_if_ne hX 29 dX4_whyNot_24 (by decide) (fun q => absurd q (by decide)) (fun _ => ?_)
    refine nv_iconst hX (m := 0) (by decide) dX4_whyNot_27 ?_
    refine mv_reti hX hE dX4_whyNot_28 ?_
    unfold o_whyNot
    first
      | (rw [← hx', hm1.mp c_6]
         exact h.th (by decide))
      | (rw [← hx']
         obtain ⟨p, rfl⟩ : ∃ p, x = some p := by
           cases x with
           | none => exact absurd rfl c_6
           | some p => exact ⟨p, rfl⟩
         show mRes _ _ (if sp_fault s.w.S f ≠ 0 then _ else _)
         rw [if_pos hne]
         exact h.th hne)
