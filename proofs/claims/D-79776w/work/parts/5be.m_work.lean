/-! THE REFERENCE: work asked for -/
set_option maxRecDepth 100000
theorem sp_wk_succ {F : List Nat} {its : List sp_I} {ord : List Nat} (n : Nat) : sp_wk F its ord (n + 1) = sp_wk F its ord n + (sp_m F ((ord.take (n + 1)).map (sp_it its)) (fun _ => none)).length := rfl
theorem m_work {G : rv_G} (hG : rv_GK G) {d : Nat} (hd : 8 ≤ d) {σ : rv_S} {s : wS} {N : Nat} (h : mSt σ s) (hwf : wfW N s.w) {r : Int32} {pl : Bool} : mC G d yX4_work wX4_work [.int r, .int (rv_z pl)] σ (mPi (fun x τ => mRes τ x (o_work s r pl))) := by
  refine mv_start hG (by decide +kernel) (Nat.le_of_ble_eq_true rfl) (fun X Hb o hX1 hX hE => ?_)
  subst hX1
  show rv_V X (rv_mh Hb o _) 0 [some (.ref o), some (.int r), some (.int (rv_z pl)), none, none, none, none, none] []
  have hRw : ∀ C, C ∈ s.w.R → sp_wfC s.w.S C := fun C hC => (hwf.R.2.1 C hC).1
  have hR10 := hwf.R.1
  refine rv_aload_n hX dX4_work_0 rfl ?_
  refine rv_iload_n hX dX4_work_1 rfl ?_
  refine mv_calli hX iX4_332 rfl mdX4_ruleAt (m_ruleAt hG (d := d - 1) (by omega) h.1.1.rules) (by omega) rfl rfl (Nat.le_of_ble_eq_true rfl) dX4_work_2 (fun r_2 τ_2 h_2 => ?_)
  obtain ⟨rfl, x, hx, rfl⟩ := h_2
  have hx' := mRuleAt hwf.R.2.2.1 (fun C hC => (hRw C hC).num) hx
  have hm1 := rv_oi_m1 (x := x) (fun a e => by
    rcases hx' with ⟨q, -⟩ | ⟨i, C, q, hC, -⟩
    · rw [q] at e; cases e
    · rw [q] at e; cases e; have := (List.getElem?_eq_some_iff.mp hC).1; omega)
  refine rv_istore_n hX dX4_work_5 (rv_st_3 rfl) ?_
  refine rv_aload_n hX dX4_work_6 rfl ?_
  refine rv_iload_n hX dX4_work_7 rfl ?_
  refine rv_iconst hX (v := -1) dX4_work_8 (by decide) ?_
  first | refine nv_icmp_ne hX 16 (by omega) (by omega) dX4_work_9 (by decide) (fun c_9 => ?_) (fun c_9 => ?_) | refine rv_icmp_ne hX 16 dX4_work_9 (by decide) (fun c_9 => ?_) (fun c_9 => ?_)
  · skip
    obtain ⟨b, C, rfl, hC, hyes⟩ : ∃ b C, x = some b ∧ s.w.R[b]? = some C ∧ s.w.rule r = some C := by
      rcases hx' with ⟨q, -⟩ | q
      · exact absurd (hm1.mpr q) c_9
      · exact q
    have hbl := (List.getElem?_eq_some_iff.mp hC).1
    have hwC := hRw C (List.mem_of_getElem? hC)
    have hlen := hwC.len
    have hat : (sp_aix C.its).length ≤ 3 := by rw [sp_aix_len]; exact hwC.atoms
    rw [show rv_oi (some b) = nI b from rfl]
    refine nv_iconst hX (m := 0) (by decide) dX4_work_16 ?_
    refine mv_callz hX iX4_266 rfl mdX4_goesWell (m_goesWell0 hG (d := d - 1)) (by omega) rfl rfl (Nat.le_of_ble_eq_true rfl) dX4_work_17 (fun r_17 τ_17 h_17 => ?_)
    obtain ⟨rfl, rfl⟩ := h_17
    refine rv_if_ne hX 25 dX4_work_20 (by decide) (fun _ => ?_) (fun q => absurd q (by decide))
    have hth := h.thrown (nI 0)
    have hBF : mBF (rv_sF τ_2 0 (nI 0)) s.w.S s.w.F b C := ⟨hth.1.1.rel, hth.1.1.facts, (hth.1.1.rules.2.2.2 b C hC).1, hwC, by omega⟩
    refine rv_aload_n hX dX4_work_25 rfl ?_
    refine rv_iload_n hX dX4_work_26 rfl ?_
    refine mv_callv hX iX4_405 rfl mdX4_findPlan (m_findPlan hG (d := d - 1) (by omega) hBF) (by omega) rfl rfl (Nat.le_of_ble_eq_true rfl) dX4_work_27 (fun τ_27 h_27 => ?_)
    obtain ⟨f1, f2⟩ := h_27
    refine nv_iconst hX (m := 0) (by decide) dX4_work_30 ?_
    refine rv_istore hX dX4_work_31 (rv_st_4 rfl) ?_
    refine nv_iconst hX (m := 0) (by decide) dX4_work_33 ?_
    refine rv_istore hX dX4_work_34 (rv_st_5 rfl) ?_
    have hal : (sp_aix C.its).length = (C.its.filter (fun it => it.1 == 0)).length := sp_aix_len
    have h00 : (rv_sF τ_2 0 (nI 0)).1 0 = nI 0 := rfl
    generalize rv_sF τ_2 0 (nI 0) = υ at hth hBF f1 h00
    have fin : ∀ (τ : rv_S) (ord : List Nat) (x y : Int32), rv_same [] [39] υ τ → τ.1 0 = nI 0 → ord = (if pl then sp_plan s.w.F C.its else sp_aix C.its) → (∀ (i j : Nat), ord[i]? = some j → τ.2.1 39 i = nI j) → rv_V X (rv_mh Hb o τ) 79 [some (.ref o), some (.int r), some (.int (rv_z pl)), some (.int (nI b)), some (.int x), some (.int y), none, none] [] := by
      intro τ ord x y hs h0 hord hval
      have hol : ord.length = (sp_aix C.its).length := by
        rw [hord]
        cases pl with
        | true => exact sp_pl_len
        | false => rfl
      have hom : ∀ x, x ∈ ord → x ∈ sp_aix C.its := by
        rw [hord]
        cases pl with
        | true => exact (sp_pl_spec (Nat.le_refl _)).2
        | false => exact fun x hx => hx
      have hunf : o_work s r pl = (0, nI (sp_wk s.w.F C.its ord ord.length), s) := by
        unfold o_work
        rw [hyes, hol, hord]
      have loop : ∀ (k m : Nat) (x : Int32) (e : Option Value) (τ : rv_S), k + m = ord.length → rv_same [31, 32, 33, 34] [26, 27, 28, 29, 39] υ τ → τ.1 0 = nI 0 → (∀ (i j : Nat), ord[i]? = some j → τ.2.1 39 i = nI j) → rv_V X (rv_mh Hb o τ) 85 [some (.ref o), some (.int r), some (.int (rv_z pl)), some (.int (nI b)), some (.int x), some (.int (nI (sp_wk s.w.F C.its ord m))), some (.int (nI (m + 1))), e] [] := by
        intro k
        induction k with
        | zero =>
          intro m x e τ h1 h2 h3 h4
          have hBτ := hBF.same h2 (by decide)
          refine rv_iload hX dX4_work_85 rfl ?_
          refine rv_aload_n hX dX4_work_87 rfl ?_
          refine rv_iload_n hX dX4_work_88 rfl ?_
          refine mv_calli hX iX4_317 rfl mdX4_atomsOf (m_atomsOf hG (d := d - 1) (by omega) (b := b) (by omega) (by omega) hBτ.2.2.1.len (fun i it e => ⟨(hBτ.2.2.1.its i it e).1, (hwC.its it (List.mem_of_getElem? e)).1⟩)) (by omega) rfl rfl (Nat.le_of_ble_eq_true rfl) dX4_work_89 (fun r_89 τ_89 h_89 => ?_)
          obtain ⟨rfl, rfl⟩ := h_89
          first | refine nv_icmp_gt hX 138 (by omega) (by omega) dX4_work_92 (by decide) (fun c_92 => ?_) (fun c_92 => ?_) | refine rv_icmp_gt hX 138 dX4_work_92 (by decide) (fun c_92 => ?_) (fun c_92 => ?_)
          · skip
            refine rv_iload hX dX4_work_138 rfl ?_
            refine mv_reti hX hE dX4_work_140 ?_
            rw [hunf, show ord.length = m by omega]
            obtain ⟨dep, hdp⟩ := hth.2.2.2
            exact ⟨h3, fun _ => rfl, hth.same h2 (by decide) (by decide) ⟨dep, hdp.same h2 (by decide)⟩⟩
          · skip
            exact absurd h1 (by omega)
            --done
        | succ k ih =>
          intro m x e τ h1 h2 h3 h4
          have hBτ := hBF.same h2 (by decide)
          have hl1 : ((ord.take (m + 1)).map (sp_it C.its)).length = m + 1 := by rw [List.length_map, List.length_take]; omega
          refine rv_iload hX dX4_work_85 rfl ?_
          refine rv_aload_n hX dX4_work_87 rfl ?_
          refine rv_iload_n hX dX4_work_88 rfl ?_
          refine mv_calli hX iX4_317 rfl mdX4_atomsOf (m_atomsOf hG (d := d - 1) (by omega) (b := b) (by omega) (by omega) hBτ.2.2.1.len (fun i it e => ⟨(hBτ.2.2.1.its i it e).1, (hwC.its it (List.mem_of_getElem? e)).1⟩)) (by omega) rfl rfl (Nat.le_of_ble_eq_true rfl) dX4_work_89 (fun r_89 τ_89 h_89 => ?_)
          obtain ⟨rfl, rfl⟩ := h_89
          first | refine nv_icmp_gt hX 138 (by omega) (by omega) dX4_work_92 (by decide) (fun c_92 => ?_) (fun c_92 => ?_) | refine rv_icmp_gt hX 138 dX4_work_92 (by decide) (fun c_92 => ?_) (fun c_92 => ?_)
          · skip
            exact absurd h1 (by omega)
            --done
          · skip
            refine rv_aload_n hX dX4_work_95 rfl ?_
            refine mv_callv hX iX4_211 rfl mdX4_forget (m_forget hG (d := d - 1)) (by omega) rfl rfl (Nat.le_of_ble_eq_true rfl) dX4_work_96 (fun τ_96 h_96 => ?_)
            obtain ⟨g1, g2, g3⟩ := h_96
            refine rv_aload_n hX dX4_work_99 rfl ?_
            refine rv_iload_n hX dX4_work_100 rfl ?_
            refine rv_iload hX dX4_work_101 rfl ?_
            refine mv_callv hX iX4_214 rfl mdX4_beginMatches (m_beginMatches hG (d := d - 1)) (by omega) rfl rfl (Nat.le_of_ble_eq_true rfl) dX4_work_103 (fun τ_103 h_103 => ?_)
            obtain ⟨k1, k2, k3, k4, k5, k6⟩ := h_103
            refine rv_aload_n hX dX4_work_106 rfl ?_
            refine mv_ga hX (k := 51) (j := 39) gX4_125_X4 (by decide) rfl (by decide) dX4_work_107 ?_
            refine nv_iconst hX (m := 0) (by decide) dX4_work_110 ?_
            refine rv_aload_n hX dX4_work_111 rfl ?_
            refine mv_ga hX (k := 35) (j := 26) gX4_85_X4 (by decide) rfl (by decide) dX4_work_112 ?_
            refine nv_iconst hX (m := 0) (by decide) dX4_work_115 ?_
            refine rv_iload hX dX4_work_116 rfl ?_
            refine mv_copyE hX iX4_144 hG (j1 := 39) (j2 := 26) ⟨by decide, by decide, rfl, by decide⟩ ⟨by decide, by decide, rfl, by decide⟩ (show _ ≤ 3 by omega) (show _ ≤ 6 by omega) (Or.inl (by decide)) (by omega) rfl (Nat.le_of_ble_eq_true rfl) dX4_work_118 (fun τ_118 h_118 => ?_)
            have hS1 := (g3.mn (fs' := [31, 32, 33, 34]) (js' := [26, 28, 29]) (by decide) (by decide)).tr (k6.mn (fs' := [31, 32, 33, 34]) (js' := [26, 28, 29]) (by decide) (by decide))
            have hS2 := hS1.tr (h_118.2.2.mn (fs' := [31, 32, 33, 34]) (js' := [26, 28, 29]) (by decide) (by decide))
            have h39 : ∀ (i j : Nat), ord[i]? = some j → τ_118.2.1 39 i = nI j := fun i j e => by rw [hS2.2.1 39 (by decide)]; exact h4 i j e
            have h26 : ∀ p, p < m + 1 → τ_118.2.1 26 p = nI (ord.getD p 0) := fun p hp => by
              have := h_118.1 p hp
              simp only [Nat.zero_add] at this
              rw [this, hS1.2.1 39 (by decide)]
              exact h4 p _ (sp_S_getD (by omega))
            have hB3 := hBτ.same hS2 (by decide)
            have hat9 : ∀ p, p < m + 1 → ord.getD p 0 < C.its.length ∧ (sp_it C.its (ord.getD p 0)).1 = 0 := fun p hp => by
              obtain ⟨it, q1, q2⟩ := sp_aix_mem.mp (hom _ (List.mem_of_getElem? (sp_S_getD (show p < ord.length by omega))))
              exact ⟨(List.getElem?_eq_some_iff.mp q1).1, by rw [sp_it_get q1]; exact q2⟩
            have hget : ∀ (p : Nat) (it : sp_I), ((ord.take (m + 1)).map (sp_it C.its))[p]? = some it → p < m + 1 ∧ it = sp_it C.its (ord.getD p 0) := fun p it e => by
              have hp := (List.getElem?_eq_some_iff.mp e).1
              rw [hl1] at hp
              rw [List.getElem?_map, List.getElem?_take, if_pos hp, sp_S_getD (show p < ord.length by omega)] at e
              exact ⟨hp, (Option.some.inj e).symm⟩
            have hcfg : mCfg τ_118 s.w.S s.w.F b (fun p => ord.getD p 0) ((ord.take (m + 1)).map (sp_it C.its)) := by
              refine ⟨hB3.1, hB3.2.1, by rw [h_118.2.2.1 31 (by decide)]; exact k1, by rw [h_118.2.2.1 32 (by decide), hl1]; exact k2, hB3.2.2.2.2, by rw [hl1]; omega, fun p hp => ?_, fun p it e => ?_⟩
              · rw [hl1] at hp
                exact ⟨h26 p hp, by have := (hat9 p hp).1; show ord.getD p 0 < 6; omega⟩
              · obtain ⟨q1, rfl⟩ := hget p it e
                have q2 := sp_it_some (hat9 p q1).1
                exact ⟨hB3.2.2.1.its _ _ q2, hwC.its _ (List.mem_of_getElem? q2)⟩
            have hrun : mRun τ_118 s.w.F ((ord.take (m + 1)).map (sp_it C.its)) (sp_m s.w.F ((ord.take (m + 1)).map (sp_it C.its)) (fun _ => none)) := Or.inl ⟨_, ⟨(g1.same k6 (by decide)).same h_118.2.2 (by decide), (g2.same k6 (by decide)).same h_118.2.2 (by decide), by rw [h_118.2.2.1 33 (by decide)]; exact k3, by rw [h_118.2.2.1 34 (by decide)]; exact k4, sp_okA_atoms (fun it hi => by
              obtain ⟨p, hp⟩ := List.getElem?_of_mem hi
              obtain ⟨q1, rfl⟩ := hget p it hp
              exact (hat9 p q1).2)⟩, rfl⟩
            refine rv_istore hX dX4_work_121 (rv_st_7 rfl) ?_
            refine rv_iload hX dX4_work_123 rfl ?_
            refine rv_aload_n hX dX4_work_125 rfl ?_
            refine mv_calli hX iX4_393 rfl mdX4_countMatches (m_countMatches hG (d := d - 1) (by omega) hcfg hrun) (by omega) rfl rfl (Nat.le_of_ble_eq_true rfl) dX4_work_126 (fun r_126 τ_126 h_126 => ?_)
            obtain ⟨c1, rfl⟩ := h_126
            first | refine nv_iadd hX dX4_work_129 ?_ | refine rv_iadd hX dX4_work_129 ?_
            refine rv_istore hX dX4_work_130 (rv_st_5 rfl) ?_
            first | refine nv_iinc hX (m := 1) dX4_work_132 rfl (by decide) (rv_st_6 rfl) ?_ | refine rv_iinc hX dX4_work_132 rfl rfl (rv_st_6 rfl) ?_
            refine rv_goto hX 85 dX4_work_135 (by decide) ?_
            rw [← sp_wk_succ]
            exact ih (m + 1) _ _ _ (by omega) (h2.tr ((hS2.mn (by decide) (by decide)).tr (c1.mn (by decide) (by decide)))) (by rw [c1.1 0 (by decide), hS2.1 0 (by decide)]; exact h3) (fun i j e => by rw [c1.2.1 39 (by decide)]; exact h39 i j e)
      refine nv_iconst hX (m := 0) (by decide) dX4_work_79 ?_
      refine rv_istore hX dX4_work_80 (rv_st_5 rfl) ?_
      refine nv_iconst hX (m := 1) (by decide) dX4_work_82 ?_
      refine rv_istore hX dX4_work_83 (rv_st_6 rfl) ?_
      exact loop ord.length 0 _ _ _ rfl (hs.mn (by decide) (by decide)) h0 hval
    have loop1 : pl = false → ∀ (n i : Nat) (τ : rv_S), i ≤ C.its.length → C.its.length - i < n → rv_same [] [39] υ τ → τ.1 0 = nI 0 → (∀ (x j : Nat), (sp_atk (C.its.take i) (List.range i))[x]? = some j → τ.2.1 39 x = nI j) → rv_V X (rv_mh Hb o τ) 36 [some (.ref o), some (.int r), some (.int (rv_z pl)), some (.int (nI b)), some (.int (nI (sp_atk (C.its.take i) (List.range i)).length)), some (.int (nI i)), none, none] [] := by
      intro hpl n
      induction n with
      | zero => intro i τ h1 h2; omega
      | succ n ih =>
        intro i τ h1 h2 h3 h4 h5
        have hBτ := hBF.same h3 (by decide)
        refine rv_iload hX dX4_work_36 rfl ?_
        refine rv_aload_n hX dX4_work_38 rfl ?_
        refine mv_ga hX (k := 6) (j := 6) gX4_25_X4 (by decide) rfl (by decide) dX4_work_39 ?_
        refine rv_iload_n hX dX4_work_42 rfl ?_
        refine mv_ld hX (j := 6) (by decide) (by decide) rfl (by decide) (show _ < 17 by omega) dX4_work_43 ?_
        rw [hBτ.2.2.1.len]
        first | refine nv_icmp_ge hX 79 (by omega) (by omega) dX4_work_44 (by decide) (fun c_44 => ?_) (fun c_44 => ?_) | refine rv_icmp_ge hX 79 dX4_work_44 (by decide) (fun c_44 => ?_) (fun c_44 => ?_)
        · skip
          have hi9 : i = C.its.length := by omega
          first
          | (rw [hi9, List.take_length] at h5
             exact fin τ (sp_aix C.its) _ _ h3 h4 (by rw [hpl]; rfl) h5)
          | exact absurd (hpl.symm.trans c_48) (by decide)
        · skip
          have hit := sp_it_some (its := C.its) (i := i) (by omega)
          have hmi := hBτ.2.2.1.its i _ hit
          have hwi := hwC.its _ (List.mem_of_getElem? hit)
          have hwi3 := hwi.1
          have hsn : sp_atk (C.its.take (i + 1)) (List.range (i + 1)) = sp_atk (C.its.take i) (List.range i) ++ (if (sp_it C.its i).1 = 0 then [i] else []) := by
            rw [List.take_succ, hit, List.range_succ]
            exact sp_atk_snoc (by rw [List.length_take, List.length_range]; omega)
          have hl3 : (sp_atk (C.its.take (i + 1)) (List.range (i + 1))).length ≤ 3 := by
            have : (sp_atk (C.its.take (i + 1)) (List.range (i + 1))).length = ((C.its.take (i + 1)).filter (fun it => it.1 == 0)).length := sp_atk_nat (by rw [List.length_range, List.length_take]; omega)
            rw [this]
            exact Nat.le_trans ((List.take_sublist (i + 1) C.its).filter _).length_le hwC.atoms
          refine rv_iload_n hX dX4_work_47 rfl ?_
          first | refine zv_if_ne hX 79 dX4_work_48 (by decide) (fun c_48 => ?_) (fun c_48 => ?_) | refine nv_if_ne hX 79 (by omega) dX4_work_48 (by decide) (fun c_48 => ?_) (fun c_48 => ?_) | refine rv_if_ne hX 79 dX4_work_48 (by decide) (fun c_48 => ?_) (fun c_48 => ?_)
          · skip
            first
            | (rw [hi9, List.take_length] at h5
               exact fin τ (sp_aix C.its) _ _ h3 h4 (by rw [hpl]; rfl) h5)
            | exact absurd (hpl.symm.trans c_48) (by decide)
          · skip
            refine rv_aload_n hX dX4_work_51 rfl ?_
            refine rv_iload_n hX dX4_work_52 rfl ?_
            refine rv_iload hX dX4_work_53 rfl ?_
            refine mv_calli hX iX4_148 rfl mdX4_kindOf (m_kindOf hG (d := d - 1) (b := b) (i := i) (by omega)) (by omega) rfl rfl (Nat.le_of_ble_eq_true rfl) dX4_work_55 (fun r_55 τ_55 h_55 => ?_)
            obtain ⟨rfl, rfl⟩ := h_55
            rw [hmi.1]
            first | refine zv_if_ne hX 73 dX4_work_58 (by decide) (fun c_58 => ?_) (fun c_58 => ?_) | refine nv_if_ne hX 73 (by omega) dX4_work_58 (by decide) (fun c_58 => ?_) (fun c_58 => ?_) | refine rv_if_ne hX 73 dX4_work_58 (by decide) (fun c_58 => ?_) (fun c_58 => ?_)
            · skip
              rw [if_neg (by omega), List.append_nil] at hsn
              first | refine nv_iinc hX (m := 1) dX4_work_73 rfl (by decide) (rv_st_5 rfl) ?_ | refine rv_iinc hX dX4_work_73 rfl rfl (rv_st_5 rfl) ?_
              refine rv_goto hX 36 dX4_work_76 (by decide) ?_
              first
              | (rw [← hsn]
                 exact ih (i + 1) _ (by omega) (by omega) h3 h4 (by rw [hsn]; exact h5))
              | (have hh := ih (i + 1) (rv_sU τ_55 39 (sp_atk (C.its.take i) (List.range i)).length (nI i)) (by omega) (by omega) (h3.tr (.u (by decide))) h4 (fun x j e => by
                   rw [hsn] at e
                   rw [rv_sU_2]
                   by_cases q : x = (sp_atk (C.its.take i) (List.range i)).length
                   · rw [if_pos ⟨rfl, q⟩]
                     rw [q, List.getElem?_append_right (Nat.le_refl _), Nat.sub_self] at e
                     cases e
                     rfl
                   · rw [if_neg (fun a => q a.2)]
                     have hi9 := (List.getElem?_eq_some_iff.mp e).1
                     rw [List.length_append] at hi9
                     have hi8 : x < (sp_atk (C.its.take i) (List.range i)).length + 1 := hi9
                     rw [List.getElem?_append_left (by omega)] at e
                     exact h5 x j e)
                 rw [hsn, List.length_append] at hh
                 exact hh)
            · skip
              rw [if_pos (by omega)] at hsn
              have hl8 : (sp_atk (C.its.take i) (List.range i)).length + 1 ≤ 3 := by rw [hsn, List.length_append] at hl3; exact hl3
              refine rv_aload_n hX dX4_work_61 rfl ?_
              refine mv_ga hX (k := 51) (j := 39) gX4_125_X4 (by decide) rfl (by decide) dX4_work_62 ?_
              refine rv_iload hX dX4_work_65 rfl ?_
              refine rv_iload hX dX4_work_67 rfl ?_
              refine mv_st hX (j := 39) (by decide) (by decide) rfl (by decide) (show _ < 3 by omega) dX4_work_69 ?_
              first | refine nv_iinc hX (m := 1) dX4_work_70 rfl (by decide) (rv_st_4 rfl) ?_ | refine rv_iinc hX dX4_work_70 rfl rfl (rv_st_4 rfl) ?_
              first | refine nv_iinc hX (m := 1) dX4_work_73 rfl (by decide) (rv_st_5 rfl) ?_ | refine rv_iinc hX dX4_work_73 rfl rfl (rv_st_5 rfl) ?_
              refine rv_goto hX 36 dX4_work_76 (by decide) ?_
              first
              | (rw [← hsn]
                 exact ih (i + 1) _ (by omega) (by omega) h3 h4 (by rw [hsn]; exact h5))
              | (have hh := ih (i + 1) (rv_sU τ_55 39 (sp_atk (C.its.take i) (List.range i)).length (nI i)) (by omega) (by omega) (h3.tr (.u (by decide))) h4 (fun x j e => by
                   rw [hsn] at e
                   rw [rv_sU_2]
                   by_cases q : x = (sp_atk (C.its.take i) (List.range i)).length
                   · rw [if_pos ⟨rfl, q⟩]
                     rw [q, List.getElem?_append_right (Nat.le_refl _), Nat.sub_self] at e
                     cases e
                     rfl
                   · rw [if_neg (fun a => q a.2)]
                     have hi9 := (List.getElem?_eq_some_iff.mp e).1
                     rw [List.length_append] at hi9
                     have hi8 : x < (sp_atk (C.its.take i) (List.range i)).length + 1 := hi9
                     rw [List.getElem?_append_left (by omega)] at e
                     exact h5 x j e)
                 rw [hsn, List.length_append] at hh
                 exact hh)
    by_cases hpl : pl = false
    · exact loop1 hpl (C.its.length + 1) 0 τ_27 (Nat.zero_le _) (by omega) f1 (by rw [f1.1 0 (by decide)]; exact h00) (fun x j e => by rw [List.take_zero] at e; cases e)
    · have hpl2 : pl = true := by cases pl with
        | true => rfl
        | false => exact absurd rfl hpl
      have fin2 := fin τ_27 (sp_plan s.w.F C.its) (nI 0) (nI 0) f1 (by rw [f1.1 0 (by decide)]; exact h00) (by rw [hpl2]; rfl) f2
      refine rv_iload hX dX4_work_36 rfl ?_
      refine rv_aload_n hX dX4_work_38 rfl ?_
      refine mv_ga hX (k := 6) (j := 6) gX4_25_X4 (by decide) rfl (by decide) dX4_work_39 ?_
      refine rv_iload_n hX dX4_work_42 rfl ?_
      refine mv_ld hX (j := 6) (by decide) (by decide) rfl (by decide) (show _ < 17 by omega) dX4_work_43 ?_
      rw [(hBF.same f1 (by decide)).2.2.1.len]
      first | refine nv_icmp_ge hX 79 (by omega) (by omega) dX4_work_44 (by decide) (fun c_44 => ?_) (fun c_44 => ?_) | refine rv_icmp_ge hX 79 dX4_work_44 (by decide) (fun c_44 => ?_) (fun c_44 => ?_)
      · skip
        exact absurd hlen (by omega)
        --done
      · skip
        refine rv_iload_n hX dX4_work_47 rfl ?_
        first | refine zv_if_ne hX 79 dX4_work_48 (by decide) (fun c_48 => ?_) (fun c_48 => ?_) | refine nv_if_ne hX 79 (by omega) dX4_work_48 (by decide) (fun c_48 => ?_) (fun c_48 => ?_) | refine rv_if_ne hX 79 dX4_work_48 (by decide) (fun c_48 => ?_) (fun c_48 => ?_)
        · skip
          exact fin2
        · skip
          exact absurd c_48 hpl
          --done
  · skip
    have hno : s.w.rule r = none := by
      rcases hx' with ⟨-, q⟩ | ⟨i, C, q, -, -⟩
      · exact q
      · rw [hm1.mp c_9] at q; cases q
    refine nv_iconst hX (m := 1) (by decide) dX4_work_12 ?_
    refine rv_goto hX 17 dX4_work_13 (by decide) ?_
    refine mv_callz hX iX4_266 rfl mdX4_goesWell (m_goesWellN hG (by decide) (by decide) (d := d - 1)) (by omega) rfl rfl (Nat.le_of_ble_eq_true rfl) dX4_work_17 (fun r_17 τ_17 h_17 => ?_)
    obtain ⟨rfl, rfl⟩ := h_17
    refine rv_if_ne hX 25 dX4_work_20 (by decide) (fun q => absurd q (by decide)) (fun _ => ?_)
    refine nv_iconst hX (m := 0) (by decide) dX4_work_23 ?_
    refine mv_reti hX hE dX4_work_24 ?_
    unfold o_work
    rw [hno]
    exact h.th (by decide)
