/-! THE REFERENCE: beginnings -/
set_option maxRecDepth 100000
theorem sp_nrm_get {its : List sp_I} {i : Nat} (h : i < its.length) : (sp_nrm its)[i]? = some (sp_nit (sp_ft its) (sp_it its i)) := by
  unfold sp_nrm
  rw [List.getElem?_map, sp_it_some h]
  rfl
theorem sp_nrm_len {its : List sp_I} : (sp_nrm its).length = its.length := by unfold sp_nrm; rw [List.length_map]
def mBds (σ : rv_S) (S : List Nat) (B : Nat → Option sp_C) : Prop := ∀ o E, B o = some E → mBody σ o E ∧ sp_wfC S E ∧ o < 17
theorem m_alikeAhead {G : rv_G} (hG : rv_GK G) {d : Nat} (hd : 4 ≤ d) {σ : rv_S} {S : List Nat} {R D : List sp_C} {b : Nat} {C : sp_C} (hS : mRel σ S) (hB : mBds σ S (sp_bB R D)) (hR : R.length ≤ 10) (h1 : σ.2.1 1 1 = nI R.length) (hC : sp_bB R D b = some C) : mC G d yX4_alikeAhead wX4_alikeAhead [.int (nI b)] σ (mPi (fun r τ => τ = σ ∧ r = nI (sp_mx (sp_bB R D) C b))) := by
  refine mv_start hG (by decide +kernel) (Nat.le_of_ble_eq_true rfl) (fun X Hb o hX1 hX hE => ?_)
  subst hX1
  show rv_V X (rv_mh Hb o _) 0 [some (.ref o), some (.int (nI b)), none, none, none, none] []
  obtain ⟨hbC, hwC, hb17⟩ := hB b C hC
  have hlC := hwC.len
  have loop : ∀ (n o' : Nat) (e f : Option Value), o' ≤ b → b - o' < n → rv_V X (rv_mh Hb o σ) 4 [some (.ref o), some (.int (nI b)), some (.int (nI (sp_mx (sp_bB R D) C o'))), some (.int (nI o')), e, f] [] := by
    intro n
    induction n with
    | zero => intro o' e f h1 h2; omega
    | succ n ih =>
      intro o' e f g1 g2
      have hmx := sp_mx_le (B := sp_bB R D) (C := C) (n := o')
      have e9 : sp_mx (sp_bB R D) C (o' + 1) = match sp_bB R D o' with
        | none => sp_mx (sp_bB R D) C o'
        | some E => Nat.max (sp_mx (sp_bB R D) C o') (sp_lcp (sp_nrm C.its) (sp_nrm E.its)) := rfl
      have fin : ∀ (m : Nat) (z : Int32), m ≤ 6 → o' < b → sp_mx (sp_bB R D) C (o' + 1) = Nat.max (sp_mx (sp_bB R D) C o') m → rv_V X (rv_mh Hb o σ) 79 [some (.ref o), some (.int (nI b)), some (.int (nI (sp_mx (sp_bB R D) C o'))), some (.int (nI o')), some (.int z), some (.int (nI m))] [] := by
        intro m z hm6 hob hmm
        refine rv_iload hX dX4_alikeAhead_79 rfl ?_
        refine rv_iload_n hX dX4_alikeAhead_81 rfl ?_
        first | refine nv_icmp_le hX 90 (by omega) (by omega) dX4_alikeAhead_82 (by decide) (fun c_82 => ?_) (fun c_82 => ?_) | refine rv_icmp_le hX 90 dX4_alikeAhead_82 (by decide) (fun c_82 => ?_) (fun c_82 => ?_)
        · skip
          have hm2 : sp_mx (sp_bB R D) C (o' + 1) = sp_mx (sp_bB R D) C o' := by rw [hmm]; exact Nat.max_eq_left (by omega)
          refine rv_iload_n hX dX4_alikeAhead_90 rfl ?_
          refine rv_istore_n hX dX4_alikeAhead_91 (rv_st_2 rfl) ?_
          first | refine nv_iinc hX (m := 1) dX4_alikeAhead_92 rfl (by decide) (rv_st_3 rfl) ?_ | refine rv_iinc hX dX4_alikeAhead_92 rfl rfl (rv_st_3 rfl) ?_
          refine rv_goto hX 4 dX4_alikeAhead_95 (by decide) ?_
          rw [← hm2]
          exact ih (o' + 1) _ _ (by omega) (by omega)
        · skip
          have hm2 : sp_mx (sp_bB R D) C (o' + 1) = m := by rw [hmm]; exact Nat.max_eq_right (by omega)
          refine rv_iload hX dX4_alikeAhead_85 rfl ?_
          refine rv_goto hX 91 dX4_alikeAhead_87 (by decide) ?_
          refine rv_istore_n hX dX4_alikeAhead_91 (rv_st_2 rfl) ?_
          first | refine nv_iinc hX (m := 1) dX4_alikeAhead_92 rfl (by decide) (rv_st_3 rfl) ?_ | refine rv_iinc hX dX4_alikeAhead_92 rfl rfl (rv_st_3 rfl) ?_
          refine rv_goto hX 4 dX4_alikeAhead_95 (by decide) ?_
          rw [← hm2]
          exact ih (o' + 1) _ _ (by omega) (by omega)
      have fin35 : ∀ E, o' < b → sp_bB R D o' = some E → rv_V X (rv_mh Hb o σ) 35 [some (.ref o), some (.int (nI b)), some (.int (nI (sp_mx (sp_bB R D) C o'))), some (.int (nI o')), some (.int (nI 1)), some (.int (nI 0))] [] := by
        intro E hob hE1
        rw [hE1] at e9
        obtain ⟨hbE, hwE, ho17⟩ := hB o' E hE1
        have hlE := hwE.len
        have inner : ∀ (n m : Nat), m ≤ C.its.length → m ≤ E.its.length → C.its.length - m < n → (∀ (i : Nat) (a : sp_I), i < m → (sp_nrm C.its)[i]? = some a → (sp_nrm E.its)[i]? = some a) → rv_V X (rv_mh Hb o σ) 35 [some (.ref o), some (.int (nI b)), some (.int (nI (sp_mx (sp_bB R D) C o'))), some (.int (nI o')), some (.int (nI 1)), some (.int (nI m))] [] := by
          intro n
          induction n with
          | zero => intro m k1 k2 k3; omega
          | succ n ih2 =>
            intro m k1 k2 k3 k4
            have ffin : (m = C.its.length ∨ m = E.its.length ∨ (sp_nrm C.its)[m]? ≠ (sp_nrm E.its)[m]?) → rv_V X (rv_mh Hb o σ) 79 [some (.ref o), some (.int (nI b)), some (.int (nI (sp_mx (sp_bB R D) C o'))), some (.int (nI o')), some (.int (nI 1)), some (.int (nI m))] [] := fun q => fin m _ (by omega) hob (by
              rw [e9]
              show Nat.max _ (sp_lcp (sp_nrm C.its) (sp_nrm E.its)) = _
              rw [sp_lcp_spec k4 (by rw [sp_nrm_len]; exact k1) (by rw [sp_nrm_len]; exact k2) (by rw [sp_nrm_len, sp_nrm_len]; exact q)])
            refine rv_iload hX dX4_alikeAhead_35 rfl ?_
            first | refine zv_if_eq hX 79 dX4_alikeAhead_37 (by decide) (fun c_37 => ?_) (fun c_37 => ?_) | refine nv_if_eq hX 79 (by omega) dX4_alikeAhead_37 (by decide) (fun c_37 => ?_) (fun c_37 => ?_) | refine rv_if_eq hX 79 dX4_alikeAhead_37 (by decide) (fun c_37 => ?_) (fun c_37 => ?_)
            · skip
              exact absurd c_37 (by decide)
              --done
            · skip
              refine rv_iload hX dX4_alikeAhead_40 rfl ?_
              refine rv_aload_n hX dX4_alikeAhead_42 rfl ?_
              refine mv_ga hX (k := 6) (j := 6) gX4_25_X4 (by decide) rfl (by decide) dX4_alikeAhead_43 ?_
              refine rv_iload_n hX dX4_alikeAhead_46 rfl ?_
              refine mv_ld hX (j := 6) (by decide) (by decide) rfl (by decide) (show _ < 17 by omega) dX4_alikeAhead_47 ?_
              rw [hbC.len]
              first | refine nv_icmp_ge hX 79 (by omega) (by omega) dX4_alikeAhead_48 (by decide) (fun c_48 => ?_) (fun c_48 => ?_) | refine rv_icmp_ge hX 79 dX4_alikeAhead_48 (by decide) (fun c_48 => ?_) (fun c_48 => ?_)
              · skip
                have hq : m = C.its.length ∨ m = E.its.length ∨ (sp_nrm C.its)[m]? ≠ (sp_nrm E.its)[m]? := Or.inl (by omega)
                exact ffin hq
              · skip
                refine rv_iload hX dX4_alikeAhead_51 rfl ?_
                refine rv_aload_n hX dX4_alikeAhead_53 rfl ?_
                refine mv_ga hX (k := 6) (j := 6) gX4_25_X4 (by decide) rfl (by decide) dX4_alikeAhead_54 ?_
                refine rv_iload_n hX dX4_alikeAhead_57 rfl ?_
                refine mv_ld hX (j := 6) (by decide) (by decide) rfl (by decide) (show _ < 17 by omega) dX4_alikeAhead_58 ?_
                rw [hbE.len]
                first | refine nv_icmp_ge hX 79 (by omega) (by omega) dX4_alikeAhead_59 (by decide) (fun c_59 => ?_) (fun c_59 => ?_) | refine rv_icmp_ge hX 79 dX4_alikeAhead_59 (by decide) (fun c_59 => ?_) (fun c_59 => ?_)
                · skip
                  have hq : m = C.its.length ∨ m = E.its.length ∨ (sp_nrm C.its)[m]? ≠ (sp_nrm E.its)[m]? := Or.inr (Or.inl (by omega))
                  exact ffin hq
                · skip
                  refine rv_aload_n hX dX4_alikeAhead_62 rfl ?_
                  refine rv_iload_n hX dX4_alikeAhead_63 rfl ?_
                  refine rv_iload_n hX dX4_alikeAhead_64 rfl ?_
                  refine rv_iload hX dX4_alikeAhead_65 rfl ?_
                  refine mv_callz hX iX4_387 rfl mdX4_areAlike (m_areAlike hG (d := d - 1) (by omega) hS hbC hwC hb17 hbE hwE ho17 (i := m) (by omega) (by omega)) (by omega) rfl rfl (Nat.le_of_ble_eq_true rfl) dX4_alikeAhead_67 (fun r_67 τ_67 h_67 => ?_)
                  obtain ⟨rfl, ha⟩ := h_67
                  first | refine zv_if_eq hX 79 dX4_alikeAhead_70 (by decide) (fun c_70 => ?_) (fun c_70 => ?_) | refine nv_if_eq hX 79 (by omega) dX4_alikeAhead_70 (by decide) (fun c_70 => ?_) (fun c_70 => ?_) | refine rv_if_eq hX 79 dX4_alikeAhead_70 (by decide) (fun c_70 => ?_) (fun c_70 => ?_)
                  · skip
                    have hq : m = C.its.length ∨ m = E.its.length ∨ (sp_nrm C.its)[m]? ≠ (sp_nrm E.its)[m]? := Or.inr (Or.inr (fun e => by
                      rw [sp_nrm_get (by omega), sp_nrm_get (by omega)] at e
                      exact absurd ((ha.mpr (Option.some.inj e)).symm.trans c_70) (by decide)))
                    exact ffin hq
                  · skip
                    first | refine nv_iinc hX (m := 1) dX4_alikeAhead_73 rfl (by decide) (rv_st_5 rfl) ?_ | refine rv_iinc hX dX4_alikeAhead_73 rfl rfl (rv_st_5 rfl) ?_
                    refine rv_goto hX 35 dX4_alikeAhead_76 (by decide) ?_
                    exact ih2 (m + 1) (by omega) (by omega) (by omega) (fun i a hi e => by
                      by_cases q : i = m
                      · rw [q] at e ⊢
                        rw [sp_nrm_get (by omega)] at e ⊢
                        rw [← ha.mp c_70]
                        exact e
                      · exact k4 i a (by omega) e)
        exact inner (C.its.length + 1) 0 (Nat.zero_le _) (Nat.zero_le _) (by omega) (fun i a h => absurd h (Nat.not_lt_zero _))
      refine rv_iload_n hX dX4_alikeAhead_4 rfl ?_
      refine rv_iload_n hX dX4_alikeAhead_5 rfl ?_
      first | refine nv_icmp_ge hX 98 (by omega) (by omega) dX4_alikeAhead_6 (by decide) (fun c_6 => ?_) (fun c_6 => ?_) | refine rv_icmp_ge hX 98 dX4_alikeAhead_6 (by decide) (fun c_6 => ?_) (fun c_6 => ?_)
      · skip
        refine rv_iload_n hX dX4_alikeAhead_98 rfl ?_
        refine mv_reti hX hE dX4_alikeAhead_99 ?_
        exact ⟨rfl, by rw [show o' = b by omega]⟩
      · skip
        refine rv_iload_n hX dX4_alikeAhead_9 rfl ?_
        refine rv_aload_n hX dX4_alikeAhead_10 rfl ?_
        refine mv_ga hX (k := 1) (j := 1) gX4_7_X4 (by decide) rfl (by decide) dX4_alikeAhead_11 ?_
        refine nv_iconst hX (m := 1) (by decide) dX4_alikeAhead_14 ?_
        refine mv_ld hX (j := 1) (by decide) (by decide) rfl (by decide) (show _ < 11 by omega) dX4_alikeAhead_15 ?_
        rw [h1]
        first | refine nv_icmp_lt hX 25 (by omega) (by omega) dX4_alikeAhead_16 (by decide) (fun c_16 => ?_) (fun c_16 => ?_) | refine rv_icmp_lt hX 25 dX4_alikeAhead_16 (by decide) (fun c_16 => ?_) (fun c_16 => ?_)
        · skip
          have hE1 : sp_bB R D o' = some (R[o']'(by omega)) := by
            unfold sp_bB
            rw [if_pos (by omega)]
            exact List.getElem?_eq_getElem (by omega)
          have hh := fin35 _ (by omega) hE1
          refine nv_iconst hX (m := 1) (by decide) dX4_alikeAhead_25 ?_
          refine rv_goto hX 30 dX4_alikeAhead_26 (by decide) ?_
          refine rv_istore hX dX4_alikeAhead_30 (rv_st_4 rfl) ?_
          refine nv_iconst hX (m := 0) (by decide) dX4_alikeAhead_32 ?_
          refine rv_istore hX dX4_alikeAhead_33 (rv_st_5 rfl) ?_
          exact hh
        · skip
          refine rv_iload_n hX dX4_alikeAhead_19 rfl ?_
          refine nv_bipush hX (m := 10) (by decide) dX4_alikeAhead_20 ?_
          first | refine nv_icmp_lt hX 29 (by omega) (by omega) dX4_alikeAhead_22 (by decide) (fun c_22 => ?_) (fun c_22 => ?_) | refine rv_icmp_lt hX 29 dX4_alikeAhead_22 (by decide) (fun c_22 => ?_) (fun c_22 => ?_)
          · skip
            have hE1 : sp_bB R D o' = none := by
              unfold sp_bB
              rw [if_pos (by omega)]
              exact List.getElem?_eq_none (by omega)
            have hh : rv_V X (rv_mh Hb o σ) 35 [some (.ref o), some (.int (nI b)), some (.int (nI (sp_mx (sp_bB R D) C o'))), some (.int (nI o')), some (.int (nI 0)), some (.int (nI 0))] [] := by
              rw [hE1] at e9
              have hf := fin 0 (nI 0) (Nat.zero_le _) (by omega) (e9.trans (Nat.max_eq_left (Nat.zero_le _)).symm)
              refine rv_iload hX dX4_alikeAhead_35 rfl ?_
              first | refine zv_if_eq hX 79 dX4_alikeAhead_37 (by decide) (fun c_37 => ?_) (fun c_37 => ?_) | refine nv_if_eq hX 79 (by omega) dX4_alikeAhead_37 (by decide) (fun c_37 => ?_) (fun c_37 => ?_) | refine rv_if_eq hX 79 dX4_alikeAhead_37 (by decide) (fun c_37 => ?_) (fun c_37 => ?_)
              · skip
                exact hf
              · skip
                exact absurd c_37 (by decide)
                --done
            refine nv_iconst hX (m := 0) (by decide) dX4_alikeAhead_29 ?_
            refine rv_istore hX dX4_alikeAhead_30 (rv_st_4 rfl) ?_
            refine nv_iconst hX (m := 0) (by decide) dX4_alikeAhead_32 ?_
            refine rv_istore hX dX4_alikeAhead_33 (rv_st_5 rfl) ?_
            exact hh
          · skip
            have hbl : b - 10 < D.length := by
              unfold sp_bB at hC
              rw [if_neg (by omega)] at hC
              exact (List.getElem?_eq_some_iff.mp hC).1
            have hE1 : sp_bB R D o' = some (D[o' - 10]'(by omega)) := by
              unfold sp_bB
              rw [if_neg (by omega)]
              exact List.getElem?_eq_getElem (by omega)
            have hh := fin35 _ (by omega) hE1
            refine nv_iconst hX (m := 1) (by decide) dX4_alikeAhead_25 ?_
            refine rv_goto hX 30 dX4_alikeAhead_26 (by decide) ?_
            refine rv_istore hX dX4_alikeAhead_30 (rv_st_4 rfl) ?_
            refine nv_iconst hX (m := 0) (by decide) dX4_alikeAhead_32 ?_
            refine rv_istore hX dX4_alikeAhead_33 (rv_st_5 rfl) ?_
            exact hh
  refine nv_iconst hX (m := 0) (by decide) dX4_alikeAhead_0 ?_
  refine rv_istore_n hX dX4_alikeAhead_1 (rv_st_2 rfl) ?_
  refine nv_iconst hX (m := 0) (by decide) dX4_alikeAhead_2 ?_
  refine rv_istore_n hX dX4_alikeAhead_3 (rv_st_3 rfl) ?_
  exact loop (b + 1) 0 _ _ (Nat.zero_le _) (by omega)
theorem m_beginnings {G : rv_G} (hG : rv_GK G) {d : Nat} (hd : 5 ≤ d) {σ : rv_S} {s : wS} {N : Nat} (h : mSt σ s) (hwf : wfW N s.w) : mC G d yX4_beginnings wX4_beginnings [] σ (mPi (fun r τ => mRes τ r (o_beginnings s))) := by
  refine mv_start hG (by decide +kernel) (Nat.le_of_ble_eq_true rfl) (fun X Hb o hX1 hX hE => ?_)
  subst hX1
  show rv_V X (rv_mh Hb o _) 0 [some (.ref o), none, none] []
  have hR10 := hwf.R.1
  have hD6 := hwf.D.1
  have hth := h.thrown (nI 0)
  have h00 : (rv_sF σ 0 (nI 0)).1 0 = nI 0 := rfl
  generalize hυ : rv_sF σ 0 (nI 0) = υ at hth h00
  have hRr := hth.1.1.rules
  have hDd := hth.1.1.deeds
  have hB : mBds υ s.w.S (sp_bB s.w.R s.w.D) := fun o' E e => by
    unfold sp_bB at e
    split at e
    · rename_i q
      have := (List.getElem?_eq_some_iff.mp e).1
      exact ⟨(hRr.2.2.2 o' E e).1, (hRr.2.2.2 o' E e).2, by omega⟩
    · rename_i q
      have := (List.getElem?_eq_some_iff.mp e).1
      have h9 := hDd.2.2.2 (o' - 10) E e
      rw [show 10 + (o' - 10) = o' by omega] at h9
      exact ⟨h9.1, h9.2, by omega⟩
  have loop : ∀ (n b : Nat), b ≤ 10 + s.w.D.length → 10 + s.w.D.length - b < n → rv_V X (rv_mh Hb o υ) 9 [some (.ref o), some (.int (nI (sp_bgs (sp_bB s.w.R s.w.D) b))), some (.int (nI b))] [] := by
    intro n
    induction n with
    | zero => intro b h1 h2; omega
    | succ n ih =>
      intro b h1 h2
      have e9 : sp_bgs (sp_bB s.w.R s.w.D) (b + 1) = match sp_bB s.w.R s.w.D b with
        | none => sp_bgs (sp_bB s.w.R s.w.D) b
        | some C => sp_bgs (sp_bB s.w.R s.w.D) b + (C.its.length - sp_mx (sp_bB s.w.R s.w.D) C b) := rfl
      refine rv_iload_n hX dX4_beginnings_9 rfl ?_
      refine nv_bipush hX (m := 10) (by decide) dX4_beginnings_10 ?_
      refine rv_aload_n hX dX4_beginnings_12 rfl ?_
      refine mv_ga hX (k := 1) (j := 1) gX4_7_X4 (by decide) rfl (by decide) dX4_beginnings_13 ?_
      refine nv_iconst hX (m := 2) (by decide) dX4_beginnings_16 ?_
      refine mv_ld hX (j := 1) (by decide) (by decide) rfl (by decide) (show _ < 11 by omega) dX4_beginnings_17 ?_
      rw [hDd.2.1]
      first | refine nv_iadd hX dX4_beginnings_18 ?_ | refine rv_iadd hX dX4_beginnings_18 ?_
      first | refine nv_icmp_ge hX 63 (by omega) (by omega) dX4_beginnings_19 (by decide) (fun c_19 => ?_) (fun c_19 => ?_) | refine rv_icmp_ge hX 63 dX4_beginnings_19 (by decide) (fun c_19 => ?_) (fun c_19 => ?_)
      · skip
        refine rv_iload_n hX dX4_beginnings_63 rfl ?_
        refine mv_reti hX hE dX4_beginnings_64 ?_
        rw [show b = 10 + s.w.D.length by omega]
        exact ⟨h00, fun _ => rfl, hth⟩
      · skip
        refine rv_iload_n hX dX4_beginnings_22 rfl ?_
        refine rv_iload_n hX dX4_beginnings_23 rfl ?_
        refine rv_aload_n hX dX4_beginnings_24 rfl ?_
        refine mv_ga hX (k := 1) (j := 1) gX4_7_X4 (by decide) rfl (by decide) dX4_beginnings_25 ?_
        refine nv_iconst hX (m := 1) (by decide) dX4_beginnings_28 ?_
        refine mv_ld hX (j := 1) (by decide) (by decide) rfl (by decide) (show _ < 11 by omega) dX4_beginnings_29 ?_
        rw [hRr.2.1]
        first | refine nv_icmp_lt hX 39 (by omega) (by omega) dX4_beginnings_30 (by decide) (fun c_30 => ?_) (fun c_30 => ?_) | refine rv_icmp_lt hX 39 dX4_beginnings_30 (by decide) (fun c_30 => ?_) (fun c_30 => ?_)
        · skip
          obtain ⟨C, hC⟩ : ∃ C, sp_bB s.w.R s.w.D b = some C := by
            unfold sp_bB
            by_cases q : b < 10
            · rw [if_pos q]
              exact ⟨_, List.getElem?_eq_getElem (by omega)⟩
            · rw [if_neg q]
              exact ⟨_, List.getElem?_eq_getElem (by omega)⟩
          rw [hC] at e9
          have hh := ih (b + 1) (by omega) (by omega)
          rw [e9] at hh
          obtain ⟨hb1, hb2, hb3⟩ := hB b C hC
          have hlC := hb2.len
          have hmx := sp_mx_le (B := sp_bB s.w.R s.w.D) (C := C) (n := b)
          refine rv_aload_n hX dX4_beginnings_39 rfl ?_
          refine mv_ga hX (k := 6) (j := 6) gX4_25_X4 (by decide) rfl (by decide) dX4_beginnings_40 ?_
          refine rv_iload_n hX dX4_beginnings_43 rfl ?_
          refine mv_ld hX (j := 6) (by decide) (by decide) rfl (by decide) (show _ < 17 by omega) dX4_beginnings_44 ?_
          refine rv_aload_n hX dX4_beginnings_45 rfl ?_
          refine rv_iload_n hX dX4_beginnings_46 rfl ?_
          refine mv_calli hX iX4_390 rfl mdX4_alikeAhead (m_alikeAhead hG (d := d - 1) (by omega) hRr.1 hB hR10 hRr.2.1 hC) (by omega) rfl rfl (Nat.le_of_ble_eq_true rfl) dX4_beginnings_47 (fun r_47 τ_47 h_47 => ?_)
          obtain ⟨rfl, rfl⟩ := h_47
          rw [hb1.len]
          first | refine nv_isub hX (by omega) dX4_beginnings_50 ?_ | refine rv_isub hX dX4_beginnings_50 ?_
          refine rv_goto hX 55 dX4_beginnings_51 (by decide) ?_
          first | refine nv_iadd hX dX4_beginnings_55 ?_ | refine rv_iadd hX dX4_beginnings_55 ?_
          refine rv_istore_n hX dX4_beginnings_56 (rv_st_1 rfl) ?_
          first | refine nv_iinc hX (m := 1) dX4_beginnings_57 rfl (by decide) (rv_st_2 rfl) ?_ | refine rv_iinc hX dX4_beginnings_57 rfl rfl (rv_st_2 rfl) ?_
          refine rv_goto hX 9 dX4_beginnings_60 (by decide) ?_
          exact hh
        · skip
          refine rv_iload_n hX dX4_beginnings_33 rfl ?_
          refine nv_bipush hX (m := 10) (by decide) dX4_beginnings_34 ?_
          first | refine nv_icmp_lt hX 54 (by omega) (by omega) dX4_beginnings_36 (by decide) (fun c_36 => ?_) (fun c_36 => ?_) | refine rv_icmp_lt hX 54 dX4_beginnings_36 (by decide) (fun c_36 => ?_) (fun c_36 => ?_)
          · skip
            have hE1 : sp_bB s.w.R s.w.D b = none := by
              unfold sp_bB
              rw [if_pos (by omega)]
              exact List.getElem?_eq_none (by omega)
            rw [hE1] at e9
            have hh := ih (b + 1) (by omega) (by omega)
            rw [e9] at hh
            refine nv_iconst hX (m := 0) (by decide) dX4_beginnings_54 ?_
            first | refine nv_iadd hX dX4_beginnings_55 ?_ | refine rv_iadd hX dX4_beginnings_55 ?_
            refine rv_istore_n hX dX4_beginnings_56 (rv_st_1 rfl) ?_
            first | refine nv_iinc hX (m := 1) dX4_beginnings_57 rfl (by decide) (rv_st_2 rfl) ?_ | refine rv_iinc hX dX4_beginnings_57 rfl rfl (rv_st_2 rfl) ?_
            refine rv_goto hX 9 dX4_beginnings_60 (by decide) ?_
            exact hh
          · skip
            obtain ⟨C, hC⟩ : ∃ C, sp_bB s.w.R s.w.D b = some C := by
              unfold sp_bB
              by_cases q : b < 10
              · rw [if_pos q]
                exact ⟨_, List.getElem?_eq_getElem (by omega)⟩
              · rw [if_neg q]
                exact ⟨_, List.getElem?_eq_getElem (by omega)⟩
            rw [hC] at e9
            have hh := ih (b + 1) (by omega) (by omega)
            rw [e9] at hh
            obtain ⟨hb1, hb2, hb3⟩ := hB b C hC
            have hlC := hb2.len
            have hmx := sp_mx_le (B := sp_bB s.w.R s.w.D) (C := C) (n := b)
            refine rv_aload_n hX dX4_beginnings_39 rfl ?_
            refine mv_ga hX (k := 6) (j := 6) gX4_25_X4 (by decide) rfl (by decide) dX4_beginnings_40 ?_
            refine rv_iload_n hX dX4_beginnings_43 rfl ?_
            refine mv_ld hX (j := 6) (by decide) (by decide) rfl (by decide) (show _ < 17 by omega) dX4_beginnings_44 ?_
            refine rv_aload_n hX dX4_beginnings_45 rfl ?_
            refine rv_iload_n hX dX4_beginnings_46 rfl ?_
            refine mv_calli hX iX4_390 rfl mdX4_alikeAhead (m_alikeAhead hG (d := d - 1) (by omega) hRr.1 hB hR10 hRr.2.1 hC) (by omega) rfl rfl (Nat.le_of_ble_eq_true rfl) dX4_beginnings_47 (fun r_47 τ_47 h_47 => ?_)
            obtain ⟨rfl, rfl⟩ := h_47
            rw [hb1.len]
            first | refine nv_isub hX (by omega) dX4_beginnings_50 ?_ | refine rv_isub hX dX4_beginnings_50 ?_
            refine rv_goto hX 55 dX4_beginnings_51 (by decide) ?_
            first | refine nv_iadd hX dX4_beginnings_55 ?_ | refine rv_iadd hX dX4_beginnings_55 ?_
            refine rv_istore_n hX dX4_beginnings_56 (rv_st_1 rfl) ?_
            first | refine nv_iinc hX (m := 1) dX4_beginnings_57 rfl (by decide) (rv_st_2 rfl) ?_ | refine rv_iinc hX dX4_beginnings_57 rfl rfl (rv_st_2 rfl) ?_
            refine rv_goto hX 9 dX4_beginnings_60 (by decide) ?_
            exact hh
  refine rv_aload_n hX dX4_beginnings_0 rfl ?_
  refine nv_iconst hX (m := 0) (by decide) dX4_beginnings_1 ?_
  refine mv_pi hX (k := 0) pX4_131_X4 (by decide) rfl rfl rfl dX4_beginnings_2 ?_
  rw [hυ]
  refine nv_iconst hX (m := 0) (by decide) dX4_beginnings_5 ?_
  refine rv_istore_n hX dX4_beginnings_6 (rv_st_1 rfl) ?_
  refine nv_iconst hX (m := 0) (by decide) dX4_beginnings_7 ?_
  refine rv_istore_n hX dX4_beginnings_8 (rv_st_2 rfl) ?_
  exact loop (10 + s.w.D.length + 1) 0 (Nat.zero_le _) (by omega)
