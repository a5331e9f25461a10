/-! THE REFERENCE: rules and deeds dropped -/
set_option maxRecDepth 100000
/-- bodies from a place on go down by one: so far as b -/
def mDn (τ0 τ : rv_S) (f p b : Nat) (R : List sp_C) : Prop := rv_same [] [1, 3, 4, 5, 6, 7, 8, 9, 10, 11, 12] τ0 τ ∧ (∀ (i : Nat) (C : sp_C), (R.eraseIdx p)[i]? = some C → i < b → mBody τ (f + i) C) ∧ ∀ (i : Nat) (C : sp_C), R[i]? = some C → b ≤ i → mBody τ (f + i) C
theorem mDn.start {τ0 τ : rv_S} {f p : Nat} {R : List sp_C} (hs : rv_same [] [1] τ0 τ) (h : ∀ (i : Nat) (C : sp_C), R[i]? = some C → mBody τ0 (f + i) C) : mDn τ0 τ f p p R := ⟨hs.mn (by decide) (by decide), fun i C e hi => by
  rw [List.getElem?_eraseIdx, if_pos hi] at e
  exact (h i C e).same hs (by decide), fun i C e _ => (h i C e).same hs (by decide)⟩
theorem mDn.step {S : List Nat} (hS : ∀ n, n ∈ S → 1 ≤ n ∧ n ≤ 3) {τ0 τ τ' : rv_S} {f p b : Nat} {R : List sp_C} (hR : ∀ C, C ∈ R → sp_wfC S C) (h : mDn τ0 τ f p b R) (hp : p ≤ b) (hc : mCpB τ (f + (b + 1)) (f + b) τ') (hb : b + 1 < R.length) : mDn τ0 τ' f p (b + 1) R := by
  obtain ⟨h1, h2, h3⟩ := h
  have hmem : ∀ i C, (R.eraseIdx p)[i]? = some C → C ∈ R := fun i C e => List.mem_of_mem_eraseIdx (List.mem_of_getElem? e)
  refine ⟨h1.tr (hc.2.2.2.2.mn (by decide) (by decide)), fun i C e hi => ?_, fun i C e hi => ?_⟩
  · have hw := hR C (hmem i C e)
    by_cases q : i = b
    · rw [q] at e ⊢
      rw [List.getElem?_eraseIdx, if_neg (by omega)] at e
      exact (h3 (b + 1) C e (by omega)).cp hS hc hw
    · exact (h2 i C e (by omega)).cpo hS hc hw (by omega)
  · exact (h3 i C e (by omega)).cpo hS hc (hR C (List.mem_of_getElem? e)) (by omega)
theorem m_drop {G : rv_G} (hG : rv_GK G) {d : Nat} (hd : 10 ≤ d) {σ : rv_S} {s : wS} {N : Nat} (hN : N ≤ 24) (h : mSt σ s) (hwf : wfW N s.w) (hw : wfD s.w.S s.d) {r : Int32} : mC G d yX4_drop wX4_drop [.int r] σ (mPi (fun x τ => mRes τ x (o_drop s r))) := by
  refine mv_start hG (by decide +kernel) (Nat.le_of_ble_eq_true rfl) (fun X Hb o hX1 hX hE => ?_)
  subst hX1
  show rv_V X (rv_mh Hb o _) 0 [some (.ref o), some (.int r), none, none] []
  have hb6 := hwf.b6
  have hS3 := hwf.S.2
  have hR10 := hwf.R.1
  have hRw : ∀ C, C ∈ s.w.R → sp_wfC s.w.S C := fun C hC => (hwf.R.2.1 C hC).1
  obtain ⟨st0, hst0, -⟩ := sp_set_spec hwf.set
  refine rv_aload_n hX dX4_drop_0 rfl ?_
  refine rv_iload_n hX dX4_drop_1 rfl ?_
  refine mv_calli hX iX4_332 rfl mdX4_ruleAt (m_ruleAt hG (d := d - 1) (by omega) h.1.1.rules) (by omega) rfl rfl (Nat.le_of_ble_eq_true rfl) dX4_drop_2 (fun r_2 τ_2 h_2 => ?_)
  obtain ⟨rfl, x, hx, rfl⟩ := h_2
  have hx' := hx.fn hwf.R.2.2.1 (fun C hC => (hRw C hC).num)
  have hxl : ∀ a, x = some a → a < s.w.R.length := fun a e => by
    rcases hx with ⟨q1, -⟩ | ⟨i, C, q1, q2, -⟩
    · rw [q1] at e; cases e
    · rw [q1] at e; cases e; exact (List.getElem?_eq_some_iff.mp q2).1
  have hm1 := rv_oi_m1 (x := x) (fun a e => by have := hxl a e; omega)
  refine rv_istore_n hX dX4_drop_5 (rv_st_2 rfl) ?_
  refine rv_aload_n hX dX4_drop_6 rfl ?_
  refine rv_iload_n hX dX4_drop_7 rfl ?_
  refine rv_iconst hX (v := -1) dX4_drop_8 (by decide) ?_
  first | refine nv_icmp_ne hX 16 (by omega) (by omega) dX4_drop_9 (by decide) (fun c_9 => ?_) (fun c_9 => ?_) | refine rv_icmp_ne hX 16 dX4_drop_9 (by decide) (fun c_9 => ?_) (fun c_9 => ?_)
  · skip
    refine nv_iconst hX (m := 0) (by decide) dX4_drop_16 ?_
    refine mv_callz hX iX4_266 rfl mdX4_goesWell (m_goesWell0 hG (d := d - 1)) (by omega) rfl rfl (Nat.le_of_ble_eq_true rfl) dX4_drop_17 (fun r_17 τ_17 h_17 => ?_)
    obtain ⟨rfl, rfl⟩ := h_17
    refine rv_if_ne hX 25 dX4_drop_20 (by decide) (fun _ => ?_) (fun q => absurd q (by decide))
    obtain ⟨p, rfl⟩ : ∃ p, x = some p := by
      cases x with
      | none => exact absurd rfl c_9
      | some p => exact ⟨p, rfl⟩
    have hpl := hxl p rfl
    rw [show rv_oi (some p) = nI p from rfl]
    refine rv_aload_n hX dX4_drop_25 rfl ?_
    refine nv_iconst hX (m := 3) (by decide) dX4_drop_26 ?_
    refine mv_callv hX iX4_275 rfl mdX4_save (m_saveW hG (d := d - 1) (by omega) (h.thrown _) hb6) (by omega) rfl rfl (Nat.le_of_ble_eq_true rfl) dX4_drop_27 (fun τ_27 h_27 => ?_)
    obtain ⟨s1, s2, s3⟩ := h_27
    refine rv_aload_n hX dX4_drop_30 rfl ?_
    refine mv_ga hX (k := 1) (j := 1) gX4_7_X4 (by decide) rfl (by decide) dX4_drop_31 ?_
    refine nv_iconst hX (m := 1) (by decide) dX4_drop_34 ?_
    refine rv_dup2 hX dX4_drop_35 rfl rfl ?_
    refine mv_ld hX (j := 1) (by decide) (by decide) rfl (by decide) (show _ < 11 by omega) dX4_drop_36 ?_
    rw [s1.1.1.rules.2.1]
    refine nv_iconst hX (m := 1) (by decide) dX4_drop_37 ?_
    first | refine nv_isub hX (by omega) dX4_drop_38 ?_ | refine rv_isub hX dX4_drop_38 ?_
    refine mv_st hX (j := 1) (by decide) (by decide) rfl (by decide) (show _ < 11 by omega) dX4_drop_39 ?_
    refine rv_iload_n hX dX4_drop_40 rfl ?_
    refine rv_istore_n hX dX4_drop_41 (rv_st_3 rfl) ?_
    have loop : ∀ (n b : Nat) (τ : rv_S), p ≤ b → b < s.w.R.length → s.w.R.length - b ≤ n → mDn τ_27 τ 0 p b s.w.R → (∀ i, τ.2.1 1 i = if i = 1 then nI (s.w.R.length - 1) else τ_27.2.1 1 i) → (∀ (i : Nat) (C : sp_C), s.w.D[i]? = some C → mBody τ (10 + i) C) → mDraft τ s.w.S s.d → rv_V X (rv_mh Hb o τ) 42 [some (.ref o), some (.int r), some (.int (nI p)), some (.int (nI b))] [] := by
      intro n
      induction n with
      | zero => intro b τ h1 h2 h3; omega
      | succ n ih =>
        intro b τ h1 h2 h3 h4 h5 h6 h7
        have hsm := h4.1
        refine rv_iload_n hX dX4_drop_42 rfl ?_
        refine rv_aload_n hX dX4_drop_43 rfl ?_
        refine mv_ga hX (k := 1) (j := 1) gX4_7_X4 (by decide) rfl (by decide) dX4_drop_44 ?_
        refine nv_iconst hX (m := 1) (by decide) dX4_drop_47 ?_
        refine mv_ld hX (j := 1) (by decide) (by decide) rfl (by decide) (show _ < 11 by omega) dX4_drop_48 ?_
        rw [h5 1, if_pos rfl]
        first | refine nv_icmp_ge hX 66 (by omega) (by omega) dX4_drop_49 (by decide) (fun c_49 => ?_) (fun c_49 => ?_) | refine rv_icmp_ge hX 66 dX4_drop_49 (by decide) (fun c_49 => ?_) (fun c_49 => ?_)
        · skip
          refine rv_aload_n hX dX4_drop_66 rfl ?_
          refine nv_iconst hX (m := 2) (by decide) dX4_drop_67 ?_
          refine mv_calli hX iX4_281 rfl mdX4_settledOr (m_settledOr hG (d := d - 1) (p := 2) (s := s) (w := s.w.setR (s.w.R.eraseIdx p) s.w.nr) (by omega) (by decide) (by decide) ⟨s1.1.1.chR hsm (by decide) (fun i i1 i3 => by rw [h5 i, if_neg i1]) (by rw [h5 1, if_pos rfl, List.length_eraseIdx, if_pos hpl]) (by rw [h5 3, if_neg (by decide)]; exact s1.1.1.nr) (by rw [List.length_eraseIdx, if_pos hpl]; omega) (fun i C e => ⟨by have := h4.2.1 i C e (by have := (List.getElem?_eq_some_iff.mp e).1; rw [List.length_eraseIdx, if_pos hpl] at this; omega); rw [Nat.zero_add] at this; exact this, hRw C (List.mem_of_mem_eraseIdx (List.mem_of_getElem? e))⟩) h6, s1.1.2.same hsm (by decide)⟩ (sp_strata_sub hwf.S.1 hRw (fun C hC => List.mem_of_mem_eraseIdx hC) hst0).choose_spec (hwf.st hN) (by obtain ⟨dep, hdp⟩ := s1.2.2.2; exact ⟨dep, hdp.same hsm (by decide)⟩) h7 (s1.2.2.1.same hsm (by decide) (by decide)) (s2.same hsm (by decide)) rfl) (by omega) rfl rfl (Nat.le_of_ble_eq_true rfl) dX4_drop_68 (fun r_68 τ_68 h_68 => ?_)
          have hr := h_68
          refine mv_reti hX hE dX4_drop_71 ?_
          unfold o_drop
          rw [← hx']
          exact hr
        · skip
          refine rv_aload_n hX dX4_drop_52 rfl ?_
          refine rv_iload_n hX dX4_drop_53 rfl ?_
          refine nv_iconst hX (m := 1) (by decide) dX4_drop_54 ?_
          first | refine nv_iadd hX dX4_drop_55 ?_ | refine rv_iadd hX dX4_drop_55 ?_
          refine rv_iload_n hX dX4_drop_56 rfl ?_
          refine mv_callv hX iX4_326 rfl mdX4_copyBody (m_copyBody hG (d := d - 1) (by omega) (a := b + 1) (b := b) (by omega) (by omega) (by omega)) (by omega) rfl rfl (Nat.le_of_ble_eq_true rfl) dX4_drop_57 (fun τ_57 h_57 => ?_)
          have hcp := h_57
          first | refine nv_iinc hX (m := 1) dX4_drop_60 rfl (by decide) (rv_st_3 rfl) ?_ | refine rv_iinc hX dX4_drop_60 rfl rfl (rv_st_3 rfl) ?_
          refine rv_goto hX 42 dX4_drop_63 (by decide) ?_
          refine ih (b + 1) _ (by omega) (by omega) (by omega) (h4.step hS3 hRw h1 (by rw [Nat.zero_add, Nat.zero_add]; exact hcp) (by omega)) (fun i => by rw [hcp.2.2.2.2.2.1 1 (by decide)]; exact h5 i) (fun i C e => (h6 i C e).cpo hS3 hcp (hwf.D.2.1 C (List.mem_of_getElem? e)).1 (by omega)) (h7.cpo hS3 hcp (by omega) hw)
    have hs0 : rv_same [] [1] τ_27 (rv_sU τ_27 1 1 (nI (s.w.R.length - 1))) := .u (by decide)
    exact loop _ p _ (Nat.le_refl _) hpl (Nat.le_refl _) (mDn.start hs0 (fun i C e => by rw [Nat.zero_add]; exact (s1.1.1.rules.2.2.2 i C e).1)) (fun i => by
      rw [rv_sU_2]
      by_cases q : i = 1
      · rw [if_pos ⟨rfl, q⟩, if_pos q]
      · rw [if_neg (fun a => q a.2), if_neg q]) (fun i C e => (s1.1.1.deeds.2.2.2 i C e).1.same hs0 (by decide)) (s1.2.1.same hs0 (by decide) (by decide))
  · skip
    refine nv_iconst hX (m := 1) (by decide) dX4_drop_12 ?_
    refine rv_goto hX 17 dX4_drop_13 (by decide) ?_
    refine mv_callz hX iX4_266 rfl mdX4_goesWell (m_goesWellN hG (by decide) (by decide) (d := d - 1)) (by omega) rfl rfl (Nat.le_of_ble_eq_true rfl) dX4_drop_17 (fun r_17 τ_17 h_17 => ?_)
    obtain ⟨rfl, rfl⟩ := h_17
    refine rv_if_ne hX 25 dX4_drop_20 (by decide) (fun q => absurd q (by decide)) (fun _ => ?_)
    refine nv_iconst hX (m := 0) (by decide) dX4_drop_23 ?_
    refine mv_reti hX hE dX4_drop_24 ?_
    unfold o_drop
    rw [← hx', hm1.mp c_9]
    exact h.th (by decide)
theorem m_dropDeed {G : rv_G} (hG : rv_GK G) {d : Nat} (hd : 3 ≤ d) {σ : rv_S} {s : wS} {N : Nat} (h : mSt σ s) (hwf : wfW N s.w) (hw : wfD s.w.S s.d) {r : Int32} : mC G d yX4_dropDeed wX4_dropDeed [.int r] σ (mPi (fun x τ => mRes τ x (o_dropDeed s r))) := by
  refine mv_start hG (by decide +kernel) (Nat.le_of_ble_eq_true rfl) (fun X Hb o hX1 hX hE => ?_)
  subst hX1
  show rv_V X (rv_mh Hb o _) 0 [some (.ref o), some (.int r), none, none] []
  have hS3 := hwf.S.2
  have hD6 := hwf.D.1
  have hDw : ∀ C, C ∈ s.w.D → sp_wfC s.w.S C := fun C hC => (hwf.D.2.1 C hC).1
  refine rv_aload_n hX dX4_dropDeed_0 rfl ?_
  refine rv_iload_n hX dX4_dropDeed_1 rfl ?_
  refine nv_bipush hX (m := 10) (by decide) dX4_dropDeed_2 ?_
  refine rv_aload_n hX dX4_dropDeed_4 rfl ?_
  refine mv_ga hX (k := 1) (j := 1) gX4_7_X4 (by decide) rfl (by decide) dX4_dropDeed_5 ?_
  refine nv_iconst hX (m := 2) (by decide) dX4_dropDeed_8 ?_
  refine mv_ld hX (j := 1) (by decide) (by decide) rfl (by decide) (show _ < 11 by omega) dX4_dropDeed_9 ?_
  rw [h.1.1.deeds.2.1]
  refine mv_calli hX iX4_329 rfl mdX4_placeOf (m_placeOf hG (d := d - 1) (Cs := s.w.D) (first := 10) (num := r) (by decide) (Or.inl hD6) (fun i C e => (h.1.1.deeds.2.2.2 i C e).1.num)) (by omega) rfl rfl (Nat.le_of_ble_eq_true rfl) dX4_dropDeed_10 (fun r_10 τ_10 h_10 => ?_)
  obtain ⟨rfl, x, hx, rfl⟩ := h_10
  have hx' := hx.fn hwf.D.2.2.1 (fun C hC => (hDw C hC).num)
  have hxl : ∀ a, x = some a → a < s.w.D.length := fun a e => by
    rcases hx with ⟨q1, -⟩ | ⟨i, C, q1, q2, -⟩
    · rw [q1] at e; cases e
    · rw [q1] at e; cases e; exact (List.getElem?_eq_some_iff.mp q2).1
  have hm1 := rv_oi_m1 (x := x.map (fun i => 10 + i)) (fun a e => by
    cases x with
    | none => cases e
    | some b => have := hxl b rfl; have e2 : 10 + b = a := Option.some.inj e; omega)
  refine rv_istore_n hX dX4_dropDeed_13 (rv_st_2 rfl) ?_
  refine rv_aload_n hX dX4_dropDeed_14 rfl ?_
  refine rv_iload_n hX dX4_dropDeed_15 rfl ?_
  refine rv_iconst hX (v := -1) dX4_dropDeed_16 (by decide) ?_
  first | refine nv_icmp_ne hX 24 (by omega) (by omega) dX4_dropDeed_17 (by decide) (fun c_17 => ?_) (fun c_17 => ?_) | refine rv_icmp_ne hX 24 dX4_dropDeed_17 (by decide) (fun c_17 => ?_) (fun c_17 => ?_)
  · skip
    refine nv_iconst hX (m := 0) (by decide) dX4_dropDeed_24 ?_
    refine mv_callz hX iX4_266 rfl mdX4_goesWell (m_goesWell0 hG (d := d - 1)) (by omega) rfl rfl (Nat.le_of_ble_eq_true rfl) dX4_dropDeed_25 (fun r_25 τ_25 h_25 => ?_)
    obtain ⟨rfl, rfl⟩ := h_25
    refine rv_if_ne hX 33 dX4_dropDeed_28 (by decide) (fun _ => ?_) (fun q => absurd q (by decide))
    obtain ⟨p, rfl⟩ : ∃ p, x = some p := by
      cases x with
      | none => exact absurd rfl c_17
      | some p => exact ⟨p, rfl⟩
    have hpl := hxl p rfl
    rw [show rv_oi (Option.map (fun i => 10 + i) (some p)) = nI (10 + p) from rfl]
    have hth := h.thrown (nI 0)
    refine rv_aload_n hX dX4_dropDeed_33 rfl ?_
    refine mv_ga hX (k := 1) (j := 1) gX4_7_X4 (by decide) rfl (by decide) dX4_dropDeed_34 ?_
    refine nv_iconst hX (m := 2) (by decide) dX4_dropDeed_37 ?_
    refine rv_dup2 hX dX4_dropDeed_38 rfl rfl ?_
    refine mv_ld hX (j := 1) (by decide) (by decide) rfl (by decide) (show _ < 11 by omega) dX4_dropDeed_39 ?_
    rw [show (rv_sF τ_10 0 (nI 0)).2.1 1 2 = nI s.w.D.length from h.1.1.deeds.2.1]
    refine nv_iconst hX (m := 1) (by decide) dX4_dropDeed_40 ?_
    first | refine nv_isub hX (by omega) dX4_dropDeed_41 ?_ | refine rv_isub hX dX4_dropDeed_41 ?_
    refine mv_st hX (j := 1) (by decide) (by decide) rfl (by decide) (show _ < 11 by omega) dX4_dropDeed_42 ?_
    refine rv_iload_n hX dX4_dropDeed_43 rfl ?_
    refine rv_istore_n hX dX4_dropDeed_44 (rv_st_3 rfl) ?_
    have h0t : (rv_sF τ_10 0 (nI 0)).1 0 = nI 0 := rfl
    generalize rv_sF τ_10 0 (nI 0) = τ0 at hth h0t
    have loop : ∀ (n b : Nat) (τ : rv_S), p ≤ b → b < s.w.D.length → s.w.D.length - b ≤ n → mDn τ0 τ 10 p b s.w.D → (∀ i, τ.2.1 1 i = if i = 2 then nI (s.w.D.length - 1) else τ0.2.1 1 i) → (∀ (i : Nat) (C : sp_C), s.w.R[i]? = some C → mBody τ i C) → mDraft τ s.w.S s.d → rv_V X (rv_mh Hb o τ) 45 [some (.ref o), some (.int r), some (.int (nI (10 + p))), some (.int (nI (10 + b)))] [] := by
      intro n
      induction n with
      | zero => intro b τ h1 h2 h3; omega
      | succ n ih =>
        intro b τ h1 h2 h3 h4 h5 h6 h7
        have hsm := h4.1
        refine rv_iload_n hX dX4_dropDeed_45 rfl ?_
        refine nv_bipush hX (m := 10) (by decide) dX4_dropDeed_46 ?_
        refine rv_aload_n hX dX4_dropDeed_48 rfl ?_
        refine mv_ga hX (k := 1) (j := 1) gX4_7_X4 (by decide) rfl (by decide) dX4_dropDeed_49 ?_
        refine nv_iconst hX (m := 2) (by decide) dX4_dropDeed_52 ?_
        refine mv_ld hX (j := 1) (by decide) (by decide) rfl (by decide) (show _ < 11 by omega) dX4_dropDeed_53 ?_
        rw [h5 2, if_pos rfl]
        first | refine nv_iadd hX dX4_dropDeed_54 ?_ | refine rv_iadd hX dX4_dropDeed_54 ?_
        first | refine nv_icmp_ge hX 72 (by omega) (by omega) dX4_dropDeed_55 (by decide) (fun c_55 => ?_) (fun c_55 => ?_) | refine rv_icmp_ge hX 72 dX4_dropDeed_55 (by decide) (fun c_55 => ?_) (fun c_55 => ?_)
        · skip
          refine rv_aload_n hX dX4_dropDeed_72 rfl ?_
          refine mv_ga hX (k := 1) (j := 1) gX4_7_X4 (by decide) rfl (by decide) dX4_dropDeed_73 ?_
          refine nv_iconst hX (m := 2) (by decide) dX4_dropDeed_76 ?_
          refine mv_ld hX (j := 1) (by decide) (by decide) rfl (by decide) (show _ < 11 by omega) dX4_dropDeed_77 ?_
          rw [h5 2, if_pos rfl]
          refine mv_reti hX hE dX4_dropDeed_78 ?_
          unfold o_dropDeed
          rw [← hx']
          obtain ⟨dep, hdp⟩ := hth.2.2.2
          exact ⟨by rw [hsm.1 0 (by decide)]; exact h0t, fun _ => by show _ = nI (s.w.D.eraseIdx p).length; rw [List.length_eraseIdx, if_pos hpl], ⟨hth.1.1.chD hsm (by decide) (fun i i2 i4 => by rw [h5 i, if_neg i2]) (by rw [h5 2, if_pos rfl, List.length_eraseIdx, if_pos hpl]) (by rw [h5 4, if_neg (by decide)]; exact hth.1.1.nd) (by rw [List.length_eraseIdx, if_pos hpl]; omega) (fun i C e => ⟨h4.2.1 i C e (by have := (List.getElem?_eq_some_iff.mp e).1; rw [List.length_eraseIdx, if_pos hpl] at this; omega), hDw C (List.mem_of_mem_eraseIdx (List.mem_of_getElem? e))⟩) h6, hth.1.2.same hsm (by decide)⟩, h7, hth.2.2.1.same hsm (by decide) (by decide), dep, hdp.same hsm (by decide)⟩
        · skip
          refine rv_aload_n hX dX4_dropDeed_58 rfl ?_
          refine rv_iload_n hX dX4_dropDeed_59 rfl ?_
          refine nv_iconst hX (m := 1) (by decide) dX4_dropDeed_60 ?_
          first | refine nv_iadd hX dX4_dropDeed_61 ?_ | refine rv_iadd hX dX4_dropDeed_61 ?_
          refine rv_iload_n hX dX4_dropDeed_62 rfl ?_
          rw [show 10 + b + 1 = 10 + (b + 1) from rfl]
          refine mv_callv hX iX4_326 rfl mdX4_copyBody (m_copyBody hG (d := d - 1) (by omega) (a := 10 + (b + 1)) (b := 10 + b) (by omega) (by omega) (by omega)) (by omega) rfl rfl (Nat.le_of_ble_eq_true rfl) dX4_dropDeed_63 (fun τ_63 h_63 => ?_)
          have hcp := h_63
          first | refine nv_iinc hX (m := 1) dX4_dropDeed_66 rfl (by decide) (rv_st_3 rfl) ?_ | refine rv_iinc hX dX4_dropDeed_66 rfl rfl (rv_st_3 rfl) ?_
          refine rv_goto hX 45 dX4_dropDeed_69 (by decide) ?_
          refine ih (b + 1) _ (by omega) (by omega) (by omega) (h4.step hS3 hDw h1 hcp (by omega)) (fun i => by rw [hcp.2.2.2.2.2.1 1 (by decide)]; exact h5 i) (fun i C e => (h6 i C e).cpo hS3 hcp (hwf.R.2.1 C (List.mem_of_getElem? e)).1 (by have := (List.getElem?_eq_some_iff.mp e).1; have := hwf.R.1; omega)) (h7.cpo hS3 hcp (by omega) hw)
    have hs0 : rv_same [] [1] τ0 (rv_sU τ0 1 2 (nI (s.w.D.length - 1))) := .u (by decide)
    exact loop _ p _ (Nat.le_refl _) hpl (Nat.le_refl _) (mDn.start hs0 (fun i C e => (hth.1.1.deeds.2.2.2 i C e).1)) (fun i => by
      rw [rv_sU_2]
      by_cases q : i = 2
      · rw [if_pos ⟨rfl, q⟩, if_pos q]
      · rw [if_neg (fun a => q a.2), if_neg q]) (fun i C e => (hth.1.1.rules.2.2.2 i C e).1.same hs0 (by decide)) (hth.2.1.same hs0 (by decide) (by decide))
  · skip
    refine nv_iconst hX (m := 1) (by decide) dX4_dropDeed_20 ?_
    refine rv_goto hX 25 dX4_dropDeed_21 (by decide) ?_
    refine mv_callz hX iX4_266 rfl mdX4_goesWell (m_goesWellN hG (by decide) (by decide) (d := d - 1)) (by omega) rfl rfl (Nat.le_of_ble_eq_true rfl) dX4_dropDeed_25 (fun r_25 τ_25 h_25 => ?_)
    obtain ⟨rfl, rfl⟩ := h_25
    refine rv_if_ne hX 33 dX4_dropDeed_28 (by decide) (fun q => absurd q (by decide)) (fun _ => ?_)
    refine nv_iconst hX (m := 0) (by decide) dX4_dropDeed_31 ?_
    refine mv_reti hX hE dX4_dropDeed_32 ?_
    unfold o_dropDeed
    have hx0 : x = none := by
      cases x with
      | none => rfl
      | some b => exact absurd (hm1.mp c_17) (by intro e; cases e)
    rw [← hx', hx0]
    exact h.th (by decide)
theorem m_stratum {G : rv_G} (hG : rv_GK G) {d : Nat} (hd : 3 ≤ d) {σ : rv_S} {s : wS} {N : Nat} (h : mSt σ s) (hwf : wfW N s.w) {r : Int32} : mC G d yX4_stratum wX4_stratum [.int r] σ (mPi (fun x τ => mRes τ x (o_stratum s r))) := by
  refine mv_start hG (by decide +kernel) (Nat.le_of_ble_eq_true rfl) (fun X Hb o hX1 hX hE => ?_)
  subst hX1
  show rv_V X (rv_mh Hb o _) 0 [some (.ref o), some (.int r), none] []
  have hS8 := hwf.S.1
  obtain ⟨st, hst, -⟩ := sp_set_spec hwf.set
  refine rv_aload_n hX dX4_stratum_0 rfl ?_
  refine rv_aload_n hX dX4_stratum_1 rfl ?_
  refine rv_iload_n hX dX4_stratum_2 rfl ?_
  refine mv_callz hX iX4_140 rfl mdX4_isRelation (m_isRelation hG (d := d - 1) (by omega) h.1.1.rel) (by omega) rfl rfl (Nat.le_of_ble_eq_true rfl) dX4_stratum_3 (fun r_3 τ_3 h_3 => ?_)
  obtain ⟨rfl, hr⟩ := h_3
  first | refine zv_if_eq hX 13 dX4_stratum_6 (by decide) (fun c_6 => ?_) (fun c_6 => ?_) | refine nv_if_eq hX 13 (by omega) dX4_stratum_6 (by decide) (fun c_6 => ?_) (fun c_6 => ?_) | refine rv_if_eq hX 13 dX4_stratum_6 (by decide) (fun c_6 => ?_) (fun c_6 => ?_)
  · skip
    have hno : w_idx r s.w.S.length = none := w_idx_no (by omega) (fun q => absurd ((hr.mpr q).symm.trans c_6) (by decide))
    refine nv_iconst hX (m := 1) (by decide) dX4_stratum_13 ?_
    refine mv_callz hX iX4_266 rfl mdX4_goesWell (m_goesWellN hG (by decide) (by decide) (d := d - 1)) (by omega) rfl rfl (Nat.le_of_ble_eq_true rfl) dX4_stratum_14 (fun r_14 τ_14 h_14 => ?_)
    obtain ⟨rfl, rfl⟩ := h_14
    refine rv_if_ne hX 22 dX4_stratum_17 (by decide) (fun q => absurd q (by decide)) (fun _ => ?_)
    refine nv_iconst hX (m := 0) (by decide) dX4_stratum_20 ?_
    refine mv_reti hX hE dX4_stratum_21 ?_
    unfold o_stratum
    rw [hno]
    exact h.th (by decide)
  · skip
    obtain ⟨k, hk1, rfl⟩ := hr.mp c_6
    have hyes := w_idx_nI hk1 (by omega)
    refine nv_iconst hX (m := 0) (by decide) dX4_stratum_9 ?_
    refine rv_goto hX 14 dX4_stratum_10 (by decide) ?_
    refine mv_callz hX iX4_266 rfl mdX4_goesWell (m_goesWell0 hG (d := d - 1)) (by omega) rfl rfl (Nat.le_of_ble_eq_true rfl) dX4_stratum_14 (fun r_14 τ_14 h_14 => ?_)
    obtain ⟨rfl, rfl⟩ := h_14
    refine rv_if_ne hX 22 dX4_stratum_17 (by decide) (fun _ => ?_) (fun q => absurd q (by decide))
    refine rv_aload_n hX dX4_stratum_22 rfl ?_
    refine mv_callz hX iX4_257 rfl mdX4_findStrata (m_findStrata hG (d := d - 1) (by omega) (h.thrown (nI 0)).1.1.rules) (by omega) rfl rfl (Nat.le_of_ble_eq_true rfl) dX4_stratum_23 (fun r_23 τ_23 h_23 => ?_)
    obtain ⟨f1, f2, f3, f4⟩ := h_23
    refine rv_istore_n hX dX4_stratum_26 (rv_st_2 rfl) ?_
    refine rv_aload_n hX dX4_stratum_27 rfl ?_
    refine mv_ga hX (k := 25) (j := 22) gX4_73_X4 (by decide) rfl (by decide) dX4_stratum_28 ?_
    refine rv_iload_n hX dX4_stratum_31 rfl ?_
    refine mv_ld hX (j := 22) (by decide) (by decide) rfl (by decide) (show _ < 8 by omega) dX4_stratum_32 ?_
    rw [(f2 st hst).2.1 k (by omega)]
    refine mv_reti hX hE dX4_stratum_33 ?_
    unfold o_stratum
    rw [hyes, hst]
    obtain ⟨dep, hdp⟩ := (h.thrown (nI 0)).2.2.2
    exact ⟨by rw [f1.1 0 (by decide)]; rfl, fun _ => rfl, (h.thrown (nI 0)).same f1 (by decide) (by decide) ⟨dep, hdp.same f1 (by decide)⟩⟩
