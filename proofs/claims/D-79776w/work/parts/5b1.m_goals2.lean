/-! THE REFERENCE: goals, matches asked for -/
set_option maxRecDepth 100000
def sp_goalsIt (R : List sp_C) (F : List Nat) : Nat → Nat → List Nat → List Nat
  | 0, _, L => L
  | n + 1, k, L => if k < L.length ∧ L.length ≤ 200 then sp_goalsIt R F n (k + 1) ((sp_setL R F (L.getD k 0)).foldl sp_ag L) else L
def w_opn (x : Int32) : Option Nat := if x = -1 then none else some x.toNatClampNeg
def w_gl (a b c : Int32) (s : Nat) : Option Nat := w_opn (if s = 0 then a else if s = 1 then b else c)
theorem w_opn_rng {x : Int32} (h : sp_rng x) : x = rv_oi (w_opn x) ∧ ∀ a, w_opn x = some a → a < 100 := by
  unfold w_opn
  by_cases q : x = -1
  · rw [if_pos q, q]
    exact ⟨rfl, fun a e => by cases e⟩
  · rw [if_neg q]
    obtain ⟨h1, h2⟩ := h
    have h0 : 0 ≤ x := by
      have e1 := Int32.le_iff_toInt_le.mp h1
      have e2 : (-1 : Int32).toInt = -1 := by decide
      have e3 : x.toInt ≠ -1 := fun e => q (Int32.toInt_inj.mp (by rw [e]; decide))
      have e4 : (0 : Int32).toInt = 0 := by decide
      rw [Int32.le_iff_toInt_le]
      omega
    obtain ⟨n, hn, rfl⟩ := sp_nI_of h0
    have := (nI_leI (a := n) (b := 99) (by omega) (by decide)).mp h2
    rw [nI_clamp (by omega)]
    exact ⟨rfl, fun a e => by cases e; omega⟩
noncomputable def o_ans (s : wS) (r a b c : Int32) : wA := match w_idx r s.w.S.length with
  | none => (1, 0, s)
  | some k => if cdec (sp_isg (s.w.S.getD k 0) a b c) = true then (0, nI (sp_ans s.w.F k a b c), s) else (2, 0, s)
noncomputable def o_goals (s : wS) (r a b c : Int32) : wA := match w_idx r s.w.S.length with
  | none => (1, 0, s)
  | some k => if cdec (sp_isg (s.w.S.getD k 0) a b c) = true then (0, nI (Nat.min 200 (sp_goalsIt s.w.R s.w.F 202 0 [sp_goal k (w_gl a b c)]).length), s) else (2, 0, s)
theorem m_ans {G : rv_G} (hG : rv_GK G) {d : Nat} (hd : 2 ≤ d) {σ : rv_S} {s : wS} (h : mSt σ s) {r a b c : Int32} : mC G d yX4_answers wX4_answers [.int r, .int a, .int b, .int c] σ (mPi (fun x τ => mRes τ x (o_ans s r a b c))) := by
  refine mC_mono (m_answers hG hd h.1.1.rel h.1.1.facts) (mPi_mono fun x τ hp => ?_)
  have hS8 := h.1.1.rel.2.1
  unfold o_ans
  rcases hp with ⟨h1, rfl⟩ | ⟨k, n, hk, rfl, hp⟩
  · rw [w_idx_no (by omega) h1]
    exact h.th (by decide)
  · have hkl := (List.getElem?_eq_some_iff.mp hk).1
    rw [w_idx_nI hkl (by omega)]
    show mRes τ x (if cdec (sp_isg (s.w.S.getD k 0) a b c) = true then _ else _)
    rw [sp_getD hk]
    rcases hp with ⟨h2, rfl⟩ | ⟨h2, rfl, rfl⟩
    · rw [if_neg (by rw [cdec_f h2]; decide)]
      exact h.th (by decide)
    · rw [if_pos (cdec_t h2)]
      exact h.ok
theorem sp_ag_len {L : List Nat} {x : Nat} (h : L.length ≤ 201) : L.length ≤ (sp_ag L x).length ∧ (sp_ag L x).length ≤ 201 := by
  unfold sp_ag
  split
  · exact ⟨Nat.le_refl _, h⟩
  · rename_i q
    rw [List.length_append]
    have : ([x] : List Nat).length = 1 := rfl
    omega
theorem m_goals {G : rv_G} (hG : rv_GK G) {d : Nat} (hd : 8 ≤ d) {σ : rv_S} {s : wS} (h : mSt σ s) {r a b c : Int32} : mC G d yX4_goals wX4_goals [.int r, .int a, .int b, .int c] σ (mPi (fun x τ => mRes τ x (o_goals s r a b c))) := by
  refine mv_start hG (by decide +kernel) (Nat.le_of_ble_eq_true rfl) (fun X Hb o hX1 hX hE => ?_)
  subst hX1
  show rv_V X (rv_mh Hb o _) 0 [some (.ref o), some (.int r), some (.int a), some (.int b), some (.int c), none] []
  have hS8 := h.1.1.rel.2.1
  refine rv_aload_n hX dX4_goals_0 rfl ?_
  refine rv_aload_n hX dX4_goals_1 rfl ?_
  refine rv_iload_n hX dX4_goals_2 rfl ?_
  refine mv_callz hX iX4_140 rfl mdX4_isRelation (m_isRelation hG (d := d - 1) (by omega) h.1.1.rel) (by omega) rfl rfl (Nat.le_of_ble_eq_true rfl) dX4_goals_3 (fun r_3 τ_3 h_3 => ?_)
  obtain ⟨rfl, hr⟩ := h_3
  first | refine zv_if_ne hX 13 dX4_goals_6 (by decide) (fun c_6 => ?_) (fun c_6 => ?_) | refine nv_if_ne hX 13 (by omega) dX4_goals_6 (by decide) (fun c_6 => ?_) (fun c_6 => ?_) | refine rv_if_ne hX 13 dX4_goals_6 (by decide) (fun c_6 => ?_) (fun c_6 => ?_)
  · skip
    obtain ⟨k, hk1, rfl⟩ := hr.mp c_6
    have hyes := w_idx_nI hk1 (by omega)
    have hkS := sp_S_getD hk1
    refine rv_aload_n hX dX4_goals_13 rfl ?_
    refine rv_iload_n hX dX4_goals_14 rfl ?_
    refine rv_iload_n hX dX4_goals_15 rfl ?_
    refine rv_iload_n hX dX4_goals_16 rfl ?_
    refine rv_iload hX dX4_goals_17 rfl ?_
    refine mv_callz hX iX4_364 rfl mdX4_isGoal (m_isGoal hG (d := d - 1) (by omega) h.1.1.rel hkS) (by omega) rfl rfl (Nat.le_of_ble_eq_true rfl) dX4_goals_19 (fun r_19 τ_19 h_19 => ?_)
    obtain ⟨rfl, hg⟩ := h_19
    first | refine zv_if_eq hX 29 dX4_goals_22 (by decide) (fun c_22 => ?_) (fun c_22 => ?_) | refine nv_if_eq hX 29 (by omega) dX4_goals_22 (by decide) (fun c_22 => ?_) (fun c_22 => ?_) | refine rv_if_eq hX 29 dX4_goals_22 (by decide) (fun c_22 => ?_) (fun c_22 => ?_)
    · skip
      refine nv_iconst hX (m := 2) (by decide) dX4_goals_29 ?_
      refine mv_callz hX iX4_266 rfl mdX4_goesWell (m_goesWellN hG (by decide) (by decide) (d := d - 1)) (by omega) rfl rfl (Nat.le_of_ble_eq_true rfl) dX4_goals_30 (fun r_30 τ_30 h_30 => ?_)
      obtain ⟨rfl, rfl⟩ := h_30
      refine rv_if_ne hX 38 dX4_goals_33 (by decide) (fun q => absurd q (by decide)) (fun _ => ?_)
      refine nv_iconst hX (m := 0) (by decide) dX4_goals_36 ?_
      refine mv_reti hX hE dX4_goals_37 ?_
      unfold o_goals
      first
        | (rw [hno]
           exact h.th (by decide))
        | (rw [hyes]
           show mRes _ _ (if cdec (sp_isg (s.w.S.getD k 0) a b c) = true then _ else _)
           rw [cdec_f (fun q => absurd ((hg.mpr q).symm.trans c_22) (by decide)), if_neg (by decide)]
           exact h.th (by decide))
    · skip
      refine nv_iconst hX (m := 0) (by decide) dX4_goals_25 ?_
      refine rv_goto hX 30 dX4_goals_26 (by decide) ?_
      refine mv_callz hX iX4_266 rfl mdX4_goesWell (m_goesWell0 hG (d := d - 1)) (by omega) rfl rfl (Nat.le_of_ble_eq_true rfl) dX4_goals_30 (fun r_30 τ_30 h_30 => ?_)
      obtain ⟨rfl, rfl⟩ := h_30
      refine rv_if_ne hX 38 dX4_goals_33 (by decide) (fun _ => ?_) (fun q => absurd q (by decide))
      have hisg := hg.mp c_22
      have hth := h.thrown (nI 0)
      have h00 : (rv_sF τ_19 0 (nI 0)).1 0 = nI 0 := rfl
      generalize rv_sF τ_19 0 (nI 0) = τ0 at hth h00
      obtain ⟨dep0, hdp0⟩ := hth.2.2.2
      have ha := w_opn_rng hisg.1
      have hb := w_opn_rng hisg.2.1
      have hc := w_opn_rng hisg.2.2.1
      have hg0 : ∀ s' x, w_gl a b c s' = some x → x < 100 := fun s' x e => by
        unfold w_gl at e
        split at e
        · exact ha.2 x e
        · split at e
          · exact hb.2 x e
          · exact hc.2 x e
      have hgl : sp_goal k (w_gl a b c) < 10000000 := by
        have q0 := sp_gx_lt (x := w_gl a b c 0) (fun a => hg0 0 a)
        have q1 := sp_gx_lt (x := w_gl a b c 1) (fun a => hg0 1 a)
        have q2 := sp_gx_lt (x := w_gl a b c 2) (fun a => hg0 2 a)
        unfold sp_goal
        omega
      have hunf : o_goals s (nI k) a b c = (0, nI (Nat.min 200 (sp_goalsIt s.w.R s.w.F 202 0 [sp_goal k (w_gl a b c)]).length), s) := by
        unfold o_goals
        rw [hyes]
        show (if cdec (sp_isg (s.w.S.getD k 0) a b c) = true then _ else _) = _
        rw [if_pos (cdec_t hisg)]
      have hfold : ∀ (xs L : List Nat), L.length ≤ 201 → L.length ≤ (xs.foldl sp_ag L).length ∧ (xs.foldl sp_ag L).length ≤ 201 := by
        intro xs
        induction xs with
        | nil => intro L hL; exact ⟨Nat.le_refl _, hL⟩
        | cons x xs ih =>
          intro L hL
          rw [List.foldl_cons]
          have := sp_ag_len (x := x) hL
          have := ih _ this.2
          omega
      have loop : ∀ (n j : Nat) (L : List Nat) (τ : rv_S), 202 ≤ n + j → j ≤ L.length → L.length ≤ 201 → rv_same [31, 32, 33, 34, 50] [26, 27, 28, 29, 38] τ0 τ → mGl τ L → sp_goalsIt s.w.R s.w.F n j L = sp_goalsIt s.w.R s.w.F 202 0 [sp_goal k (w_gl a b c)] → rv_V X (rv_mh Hb o τ) 58 [some (.ref o), some (.int (nI k)), some (.int a), some (.int b), some (.int c), some (.int (nI j))] [] := by
        intro n
        induction n with
        | zero => intro j L τ h1 h2 h3; omega
        | succ n ih =>
          intro j L τ h1 h2 h3 h4 h5 h6
          have e6 : sp_goalsIt s.w.R s.w.F (n + 1) j L = if j < L.length ∧ L.length ≤ 200 then sp_goalsIt s.w.R s.w.F n (j + 1) ((sp_setL s.w.R s.w.F (L.getD j 0)).foldl sp_ag L) else L := rfl
          rw [e6] at h6
          have fin : ∀ v, v = nI (Nat.min 200 L.length) → sp_goalsIt s.w.R s.w.F 202 0 [sp_goal k (w_gl a b c)] = L → mRes τ v (o_goals s (nI k) a b c) := fun v hv hL => by
            rw [hunf, hL]
            exact ⟨by rw [h4.1 0 (by decide)]; exact h00, fun _ => hv, hth.same h4 (by decide) (by decide) ⟨dep0, hdp0.same h4 (by decide)⟩⟩
          refine rv_iload hX dX4_goals_58 rfl ?_
          refine rv_aload_n hX dX4_goals_60 rfl ?_
          refine mv_gi hX (k := 50) gX4_367_X4 (by decide) rfl dX4_goals_61 ?_
          rw [h5.1]
          first | refine nv_icmp_ge hX 94 (by omega) (by omega) dX4_goals_64 (by decide) (fun c_64 => ?_) (fun c_64 => ?_) | refine rv_icmp_ge hX 94 dX4_goals_64 (by decide) (fun c_64 => ?_) (fun c_64 => ?_)
          · skip
            refine rv_aload_n hX dX4_goals_94 rfl ?_
            refine mv_gi hX (k := 50) gX4_367_X4 (by decide) rfl dX4_goals_95 ?_
            rw [h5.1]
            refine nv_sipush hX (m := 200) (by decide) dX4_goals_98 ?_
            first | refine nv_icmp_le hX 110 (by omega) (by omega) dX4_goals_101 (by decide) (fun c_101 => ?_) (fun c_101 => ?_) | refine rv_icmp_le hX 110 dX4_goals_101 (by decide) (fun c_101 => ?_) (fun c_101 => ?_)
            · skip
              have hmin : Nat.min 200 L.length = L.length := Nat.min_eq_right (by omega)
              refine rv_aload_n hX dX4_goals_110 rfl ?_
              refine mv_gi hX (k := 50) gX4_367_X4 (by decide) rfl dX4_goals_111 ?_
              try rw [h5.1]
              refine mv_reti hX hE dX4_goals_114 ?_
              rw [if_neg (by omega)] at h6
              exact fin _ (by rw [hmin]) h6.symm
            · skip
              have hmin : Nat.min 200 L.length = 200 := Nat.min_eq_left (by omega)
              refine nv_sipush hX (m := 200) (by decide) dX4_goals_104 ?_
              refine rv_goto hX 114 dX4_goals_107 (by decide) ?_
              try rw [h5.1]
              refine mv_reti hX hE dX4_goals_114 ?_
              rw [if_neg (by omega)] at h6
              exact fin _ (by rw [hmin]) h6.symm
          · skip
            refine rv_aload_n hX dX4_goals_67 rfl ?_
            refine mv_gi hX (k := 50) gX4_367_X4 (by decide) rfl dX4_goals_68 ?_
            rw [h5.1]
            refine nv_sipush hX (m := 200) (by decide) dX4_goals_71 ?_
            first | refine nv_icmp_gt hX 94 (by omega) (by omega) dX4_goals_74 (by decide) (fun c_74 => ?_) (fun c_74 => ?_) | refine rv_icmp_gt hX 94 dX4_goals_74 (by decide) (fun c_74 => ?_) (fun c_74 => ?_)
            · skip
              refine rv_aload_n hX dX4_goals_94 rfl ?_
              refine mv_gi hX (k := 50) gX4_367_X4 (by decide) rfl dX4_goals_95 ?_
              rw [h5.1]
              refine nv_sipush hX (m := 200) (by decide) dX4_goals_98 ?_
              first | refine nv_icmp_le hX 110 (by omega) (by omega) dX4_goals_101 (by decide) (fun c_101 => ?_) (fun c_101 => ?_) | refine rv_icmp_le hX 110 dX4_goals_101 (by decide) (fun c_101 => ?_) (fun c_101 => ?_)
              · skip
                have hmin : Nat.min 200 L.length = L.length := Nat.min_eq_right (by omega)
                refine rv_aload_n hX dX4_goals_110 rfl ?_
                refine mv_gi hX (k := 50) gX4_367_X4 (by decide) rfl dX4_goals_111 ?_
                try rw [h5.1]
                refine mv_reti hX hE dX4_goals_114 ?_
                rw [if_neg (by omega)] at h6
                exact fin _ (by rw [hmin]) h6.symm
              · skip
                have hmin : Nat.min 200 L.length = 200 := Nat.min_eq_left (by omega)
                refine nv_sipush hX (m := 200) (by decide) dX4_goals_104 ?_
                refine rv_goto hX 114 dX4_goals_107 (by decide) ?_
                try rw [h5.1]
                refine mv_reti hX hE dX4_goals_114 ?_
                rw [if_neg (by omega)] at h6
                exact fin _ (by rw [hmin]) h6.symm
            · skip
              rw [if_pos (by omega)] at h6
              obtain ⟨x, hx⟩ : ∃ x, L[j]? = some x := ⟨L[j], List.getElem?_eq_getElem (by omega)⟩
              obtain ⟨x1, x2⟩ := h5.2.2 j x hx
              rw [sp_getD hx] at h6
              refine rv_aload_n hX dX4_goals_77 rfl ?_
              refine rv_aload_n hX dX4_goals_78 rfl ?_
              refine mv_ga hX (k := 49) (j := 38) gX4_122_X4 (by decide) rfl (by decide) dX4_goals_79 ?_
              refine rv_iload hX dX4_goals_82 rfl ?_
              refine mv_ld hX (j := 38) (by decide) (by decide) rfl (by decide) (show _ < 201 by omega) dX4_goals_84 ?_
              rw [x1]
              refine mv_callv hX iX4_381 rfl mdX4_setUp (m_setUp hG (d := d - 1) (by omega) (hth.1.1.rules.same h4 (by decide)) (hth.1.1.facts.same h4 (by decide) (by decide)) x2 h5) (by omega) rfl rfl (Nat.le_of_ble_eq_true rfl) dX4_goals_85 (fun τ_85 h_85 => ?_)
              obtain ⟨u1, u2⟩ := h_85
              first | refine nv_iinc hX (m := 1) dX4_goals_88 rfl (by decide) (rv_st_5 rfl) ?_ | refine rv_iinc hX dX4_goals_88 rfl rfl (rv_st_5 rfl) ?_
              refine rv_goto hX 58 dX4_goals_91 (by decide) ?_
              have hl2 := hfold (sp_setL s.w.R s.w.F x) L h3
              exact ih (j + 1) _ _ (by omega) (by omega) hl2.2 (h4.tr u1) u2 h6
      have ea : a = rv_oi (w_gl a b c 0) := ha.1
      have eb : b = rv_oi (w_gl a b c 1) := hb.1
      have ec : c = rv_oi (w_gl a b c 2) := hc.1
      have hgo := m_goalOf hG (d := d - 1) (rel := k) (g := w_gl a b c)
      rw [← ea, ← eb, ← ec] at hgo
      refine rv_aload_n hX dX4_goals_38 rfl ?_
      refine nv_iconst hX (m := 0) (by decide) dX4_goals_39 ?_
      refine mv_pi hX (k := 50) pX4_367_X4 (by decide) rfl rfl rfl dX4_goals_40 ?_
      refine rv_aload_n hX dX4_goals_43 rfl ?_
      refine rv_iload_n hX dX4_goals_44 rfl ?_
      refine rv_iload_n hX dX4_goals_45 rfl ?_
      refine rv_iload_n hX dX4_goals_46 rfl ?_
      refine rv_iload hX dX4_goals_47 rfl ?_
      refine sv_calli hX iX4_374 mdX4_goalOf (hgo) (by omega) rfl rfl (Nat.le_of_ble_eq_true rfl) dX4_goals_49 (fun r_49 h_49 => ?_)
      obtain rfl := h_49
      refine mv_callv hX iX4_378 rfl mdX4_addGoal (m_addGoal hG (d := d - 1) (P := []) ⟨rfl, by decide, fun k f e => by cases e⟩ hgl) (by omega) rfl rfl (Nat.le_of_ble_eq_true rfl) dX4_goals_52 (fun τ_52 h_52 => ?_)
      obtain ⟨a1, a2⟩ := h_52
      refine nv_iconst hX (m := 0) (by decide) dX4_goals_55 ?_
      refine rv_istore hX dX4_goals_56 (rv_st_5 rfl) ?_
      exact loop 202 0 _ _ (by decide) (Nat.zero_le _) a1.2.1 ((rv_same.f (by decide)).tr (a2.mn (by decide) (by decide))) a1 (by rw [show sp_ag [] (sp_goal k (w_gl a b c)) = [sp_goal k (w_gl a b c)] from by unfold sp_ag; rw [if_neg (by simp)]; rfl])
  · skip
    have hno : w_idx r s.w.S.length = none := w_idx_no (by omega) (fun q => absurd ((hr.mpr q).symm.trans c_6) (by decide))
    refine nv_iconst hX (m := 1) (by decide) dX4_goals_9 ?_
    refine rv_goto hX 30 dX4_goals_10 (by decide) ?_
    refine mv_callz hX iX4_266 rfl mdX4_goesWell (m_goesWellN hG (by decide) (by decide) (d := d - 1)) (by omega) rfl rfl (Nat.le_of_ble_eq_true rfl) dX4_goals_30 (fun r_30 τ_30 h_30 => ?_)
    obtain ⟨rfl, rfl⟩ := h_30
    refine rv_if_ne hX 38 dX4_goals_33 (by decide) (fun q => absurd q (by decide)) (fun _ => ?_)
    refine nv_iconst hX (m := 0) (by decide) dX4_goals_36 ?_
    refine mv_reti hX hE dX4_goals_37 ?_
    unfold o_goals
    first
      | (rw [hno]
         exact h.th (by decide))
      | (rw [hyes]
         show mRes _ _ (if cdec (sp_isg (s.w.S.getD k 0) a b c) = true then _ else _)
         rw [cdec_f (fun q => absurd ((hg.mpr q).symm.trans c_22) (by decide)), if_neg (by decide)]
         exact h.th (by decide))
