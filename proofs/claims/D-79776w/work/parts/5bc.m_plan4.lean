/-! THE REFERENCE: plans found, asked for; work -/
set_option maxRecDepth 100000
theorem mRuleAt {w : wW} {r : Int32} {x : Option Nat} (hnd : (w.R.map (fun C => C.num)).Nodup) (hb : ∀ C, C ∈ w.R → C.num < 100) (hx : sp_plc w.R r x) : (x = none ∧ w.rule r = none) ∨ ∃ p C, x = some p ∧ w.R[p]? = some C ∧ w.rule r = some C := by
  have hx' := hx.fn hnd hb
  rcases hx with ⟨q1, -⟩ | ⟨i, C, q1, q2, -⟩
  · refine Or.inl ⟨q1, ?_⟩
    unfold wW.rule
    rw [← hx', q1]
    rfl
  · refine Or.inr ⟨i, C, q1, q2, ?_⟩
    unfold wW.rule
    rw [← hx', q1]
    exact q2
theorem m_findPlan {G : rv_G} (hG : rv_GK G) {d : Nat} (hd : 4 ≤ d) {σ : rv_S} {S F : List Nat} {b : Nat} {C : sp_C} (hB : mBF σ S F b C) : mC G d yX4_findPlan wX4_findPlan [.int (nI b)] σ (mPv (fun τ => rv_same [] [39] σ τ ∧ ∀ (i j : Nat), (sp_plan F C.its)[i]? = some j → τ.2.1 39 i = nI j)) := by
  refine mv_start hG (by decide +kernel) (Nat.le_of_ble_eq_true rfl) (fun X Hb o hX1 hX hE => ?_)
  subst hX1
  show rv_V X (rv_mh Hb o _) 0 [some (.ref o), some (.int (nI b)), none, none, none, none] []
  have hw := hB.2.2.2.1
  have hl := hw.len
  have hat : (C.its.filter (fun it => it.1 == 0)).length ≤ 3 := hw.atoms
  have hal : (sp_aix C.its).length ≤ 3 := by rw [sp_aix_len]; exact hat
  have hb := hB.2.2.2.2
  have loop : ∀ (n k : Nat) (t v : Int32) (x : Option Value) (τ : rv_S), k ≤ (sp_aix C.its).length → (sp_aix C.its).length - k < n → (∀ i, i < 6 → ib t i = sp_tkn (sp_pl F C.its k) i) → mMsk v (sp_tkv C.its (sp_pl F C.its k)) → rv_same [] [39] σ τ → (∀ (i j : Nat), (sp_pl F C.its k)[i]? = some j → τ.2.1 39 i = nI j) → rv_V X (rv_mh Hb o τ) 7 [some (.ref o), some (.int (nI b)), some (.int t), some (.int v), some (.int (nI k)), x] [] := by
    intro n
    induction n with
    | zero => intro k t v x τ h1 h2; omega
    | succ n ih =>
      intro k t v x τ h1 h2 h3 h4 h5 h6
      have hBτ := hB.same h5 (by decide)
      have hbd := hBτ.2.2.1
      have h4z := h4.z
      obtain ⟨p1, p2⟩ := sp_pl_spec (F := F) h1
      refine rv_iload hX dX4_findPlan_7 rfl ?_
      refine rv_aload_n hX dX4_findPlan_9 rfl ?_
      refine rv_iload_n hX dX4_findPlan_10 rfl ?_
      refine mv_calli hX iX4_317 rfl mdX4_atomsOf (m_atomsOf hG (d := d - 1) (by omega) (b := b) hb (by omega) hbd.len (fun i it e => ⟨(hbd.its i it e).1, (hw.its it (List.mem_of_getElem? e)).1⟩)) (by omega) rfl rfl (Nat.le_of_ble_eq_true rfl) dX4_findPlan_11 (fun r_11 τ_11 h_11 => ?_)
      obtain ⟨rfl, rfl⟩ := h_11
      rw [← sp_aix_len]
      first | refine nv_icmp_ge hX 86 (by omega) (by omega) dX4_findPlan_14 (by decide) (fun c_14 => ?_) (fun c_14 => ?_) | refine rv_icmp_ge hX 86 dX4_findPlan_14 (by decide) (fun c_14 => ?_) (fun c_14 => ?_)
      · skip
        refine mv_retv hX hE dX4_findPlan_86 ?_
        refine ⟨h5, fun i j e => h6 i j ?_⟩
        have : k = (sp_aix C.its).length := by omega
        rw [this]
        exact e
      · skip
        obtain ⟨n1, n2, n3, n4⟩ := sp_pn_spec (F := F) p1 p2 (by rw [sp_pl_len]; omega)
        generalize hpn : sp_pn F C.its (sp_pl F C.its k) = pn at n1 n2 n3 n4
        have hpl : sp_pl F C.its (k + 1) = sp_pl F C.its k ++ [pn] := by rw [← hpn]; rfl
        have fin : rv_V X (rv_mh Hb o τ_11) 54 [some (.ref o), some (.int (nI b)), some (.int t), some (.int v), some (.int (nI k)), some (.int (nI pn))] [] := by
          have hsu : rv_same [] [39] τ_11 (rv_sU τ_11 39 k (nI pn)) := .u (by decide)
          have hBu := hBτ.same hsu (by decide)
          have hit := sp_it_some n3
          refine rv_aload_n hX dX4_findPlan_54 rfl ?_
          refine mv_ga hX (k := 51) (j := 39) gX4_125_X4 (by decide) rfl (by decide) dX4_findPlan_55 ?_
          refine rv_iload hX dX4_findPlan_58 rfl ?_
          refine rv_iload hX dX4_findPlan_60 rfl ?_
          refine mv_st hX (j := 39) (by decide) (by decide) rfl (by decide) (show _ < 3 by omega) dX4_findPlan_62 ?_
          refine rv_iload_n hX dX4_findPlan_63 rfl ?_
          refine nv_iconst hX (m := 1) (by decide) dX4_findPlan_64 ?_
          refine rv_iload hX dX4_findPlan_65 rfl ?_
          refine rv_ishl hX dX4_findPlan_67 ?_
          refine rv_ior hX dX4_findPlan_68 ?_
          refine rv_istore_n hX dX4_findPlan_69 (rv_st_2 rfl) ?_
          refine rv_iload_n hX dX4_findPlan_70 rfl ?_
          refine rv_aload_n hX dX4_findPlan_71 rfl ?_
          refine rv_iload_n hX dX4_findPlan_72 rfl ?_
          refine rv_iload hX dX4_findPlan_73 rfl ?_
          refine mv_calli hX iX4_396 rfl mdX4_variablesOf (m_variablesOf hG (d := d - 1) (by omega) (b := b) (i := pn) (by omega) hBu.1 (hBu.2.2.1.its pn _ hit) (hw.its _ (List.mem_of_getElem? hit))) (by omega) rfl rfl (Nat.le_of_ble_eq_true rfl) dX4_findPlan_75 (fun r_75 τ_75 h_75 => ?_)
          obtain ⟨rfl, h75⟩ := h_75
          refine rv_ior hX dX4_findPlan_78 ?_
          refine rv_istore_n hX dX4_findPlan_79 (rv_st_3 rfl) ?_
          first | refine nv_iinc hX (m := 1) dX4_findPlan_80 rfl (by decide) (rv_st_4 rfl) ?_ | refine rv_iinc hX dX4_findPlan_80 rfl rfl (rv_st_4 rfl) ?_
          refine rv_goto hX 7 dX4_findPlan_83 (by decide) ?_
          refine ih (k + 1) _ _ _ _ (by omega) (by omega) (fun i hi => ?_) ((h4.or h75).cg (fun v' _ => ?_)) (h5.tr hsu) (fun i j e => ?_)
          · rw [ib_or, h3 i hi, ib_one (by omega), hpl]
            show (decide (i ∈ sp_pl F C.its k) || decide (i = pn)) = decide (i ∈ sp_pl F C.its k ++ [pn])
            rw [← Bool.decide_or]
            exact decide_eq_decide.mpr (by simp)
          · rw [hpl]
            show _ = (sp_pl F C.its k ++ [pn]).any (fun i => sp_iv (sp_it C.its i) v')
            rw [List.any_append]
            show (sp_tkv C.its (sp_pl F C.its k) v' || sp_iv (sp_it C.its pn) v') = _
            simp [sp_tkv]
          · rw [hpl] at e
            rw [rv_sU_2]
            by_cases q : i = k
            · rw [if_pos ⟨rfl, q⟩]
              rw [q, List.getElem?_append_right (by rw [sp_pl_len]; exact Nat.le_refl _), sp_pl_len, Nat.sub_self] at e
              cases e
              rfl
            · rw [if_neg (fun a => q a.2)]
              have hi9 := (List.getElem?_eq_some_iff.mp e).1
              rw [List.length_append, sp_pl_len] at hi9
              have hi8 : i < k + 1 := hi9
              rw [List.getElem?_append_left (by rw [sp_pl_len]; omega)] at e
              exact h6 i j e
        refine rv_iload_n hX dX4_findPlan_17 rfl ?_
        first | refine zv_if_ne hX 25 dX4_findPlan_18 (by decide) (fun c_18 => ?_) (fun c_18 => ?_) | refine nv_if_ne hX 25 (by omega) dX4_findPlan_18 (by decide) (fun c_18 => ?_) (fun c_18 => ?_) | refine rv_if_ne hX 25 dX4_findPlan_18 (by decide) (fun c_18 => ?_) (fun c_18 => ?_)
        · skip
          have hva : (List.range 8).any (sp_tkv C.its (sp_pl F C.its k)) = true := by
            cases e : (List.range 8).any (sp_tkv C.its (sp_pl F C.its k)) with
            | true => rfl
            | false => exact absurd (h4z.mpr e) c_18
          rw [if_pos hva] at n4
          have hm1 := rv_oi_m1 (x := sp_na F C.its (sp_tkn (sp_pl F C.its k)) (sp_tkv C.its (sp_pl F C.its k)) C.its.length) (fun a e => by have := (sp_na_spec.1 a e).1; omega)
          refine rv_aload_n hX dX4_findPlan_25 rfl ?_
          refine rv_iload_n hX dX4_findPlan_26 rfl ?_
          refine rv_iload_n hX dX4_findPlan_27 rfl ?_
          refine rv_iload_n hX dX4_findPlan_28 rfl ?_
          refine mv_calli hX iX4_402 rfl mdX4_nextAtom (m_nextAtom hG (d := d - 1) (by omega) hBτ (T := sp_tkn (sp_pl F C.its k)) (V := sp_tkv C.its (sp_pl F C.its k)) h3 h4) (by omega) rfl rfl (Nat.le_of_ble_eq_true rfl) dX4_findPlan_29 (fun r_29 τ_29 h_29 => ?_)
          obtain ⟨rfl, rfl⟩ := h_29
          refine rv_istore hX dX4_findPlan_32 (rv_st_5 rfl) ?_
          refine rv_iload hX dX4_findPlan_34 rfl ?_
          refine rv_iconst hX (v := -1) dX4_findPlan_36 (by decide) ?_
          first | refine nv_icmp_ne hX 50 (by omega) (by omega) dX4_findPlan_37 (by decide) (fun c_37 => ?_) (fun c_37 => ?_) | refine rv_icmp_ne hX 50 dX4_findPlan_37 (by decide) (fun c_37 => ?_) (fun c_37 => ?_)
          · skip
            have e50 : rv_oi (sp_na F C.its (sp_tkn (sp_pl F C.its k)) (sp_tkv C.its (sp_pl F C.its k)) C.its.length) = nI pn := by
              rcases n4 with n4 | n4
              · rw [n4]; rfl
              · exact absurd (hm1.mpr n4.1) c_37
            refine rv_iload hX dX4_findPlan_50 rfl ?_
            first
            | rw [e50]
            | rw [e44]
            refine rv_istore hX dX4_findPlan_52 (rv_st_5 rfl) ?_
            exact fin
          · skip
            have e44 : rv_oi (sp_na F C.its (sp_tkn (sp_pl F C.its k)) (fun _ => false) C.its.length) = nI pn := by
              rcases n4 with n4 | n4
              · rw [hm1.mp c_37] at n4; cases n4
              · rw [n4.2]; rfl
            refine rv_aload_n hX dX4_findPlan_40 rfl ?_
            refine rv_iload_n hX dX4_findPlan_41 rfl ?_
            refine rv_iload_n hX dX4_findPlan_42 rfl ?_
            refine nv_iconst hX (m := 0) (by decide) dX4_findPlan_43 ?_
            refine mv_calli hX iX4_402 rfl mdX4_nextAtom (m_nextAtom hG (d := d - 1) (by omega) hBτ (T := sp_tkn (sp_pl F C.its k)) (V := fun _ => false) h3 mMsk.zero) (by omega) rfl rfl (Nat.le_of_ble_eq_true rfl) dX4_findPlan_44 (fun r_44 τ_44 h_44 => ?_)
            obtain ⟨rfl, rfl⟩ := h_44
            refine rv_goto hX 52 dX4_findPlan_47 (by decide) ?_
            first
            | rw [e50]
            | rw [e44]
            refine rv_istore hX dX4_findPlan_52 (rv_st_5 rfl) ?_
            exact fin
        · skip
          have hva : (List.range 8).any (sp_tkv C.its (sp_pl F C.its k)) = false := h4z.mp c_18
          rw [if_neg (by rw [hva]; decide)] at n4
          have e44 : rv_oi (sp_na F C.its (sp_tkn (sp_pl F C.its k)) (fun _ => false) C.its.length) = nI pn := by
            rcases n4 with n4 | n4
            · cases n4
            · rw [n4.2]; rfl
          refine rv_iconst hX (v := -1) dX4_findPlan_21 (by decide) ?_
          refine rv_goto hX 32 dX4_findPlan_22 (by decide) ?_
          refine rv_istore hX dX4_findPlan_32 (rv_st_5 rfl) ?_
          refine rv_iload hX dX4_findPlan_34 rfl ?_
          refine rv_iconst hX (v := -1) dX4_findPlan_36 (by decide) ?_
          refine rv_icmp_ne hX 50 dX4_findPlan_37 (by decide) (fun q => absurd q (by decide)) (fun _ => ?_)
          refine rv_aload_n hX dX4_findPlan_40 rfl ?_
          refine rv_iload_n hX dX4_findPlan_41 rfl ?_
          refine rv_iload_n hX dX4_findPlan_42 rfl ?_
          refine nv_iconst hX (m := 0) (by decide) dX4_findPlan_43 ?_
          refine mv_calli hX iX4_402 rfl mdX4_nextAtom (m_nextAtom hG (d := d - 1) (by omega) hBτ (T := sp_tkn (sp_pl F C.its k)) (V := fun _ => false) h3 mMsk.zero) (by omega) rfl rfl (Nat.le_of_ble_eq_true rfl) dX4_findPlan_44 (fun r_44 τ_44 h_44 => ?_)
          obtain ⟨rfl, rfl⟩ := h_44
          refine rv_goto hX 52 dX4_findPlan_47 (by decide) ?_
          first
          | rw [e50]
          | rw [e44]
          refine rv_istore hX dX4_findPlan_52 (rv_st_5 rfl) ?_
          exact fin
  refine nv_iconst hX (m := 0) (by decide) dX4_findPlan_0 ?_
  refine rv_istore_n hX dX4_findPlan_1 (rv_st_2 rfl) ?_
  refine nv_iconst hX (m := 0) (by decide) dX4_findPlan_2 ?_
  refine rv_istore_n hX dX4_findPlan_3 (rv_st_3 rfl) ?_
  refine nv_iconst hX (m := 0) (by decide) dX4_findPlan_4 ?_
  refine rv_istore hX dX4_findPlan_5 (rv_st_4 rfl) ?_
  exact loop _ 0 _ _ _ _ (Nat.zero_le _) (Nat.lt_succ_self _) (fun i _ => ib_0 i) (mMsk.zero.cg (fun v _ => rfl)) .rf (fun i j e => by cases e)
