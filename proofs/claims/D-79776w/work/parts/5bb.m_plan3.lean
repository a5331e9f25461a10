/-! THE REFERENCE: the next atom of a plan -/
set_option maxRecDepth 100000
theorem sp_bt_f {F : List Nat} {its : List sp_I} {j i : Nat} (h : ¬ sp_cnt F (sp_it its i).2.1 < sp_cnt F (sp_it its j).2.1) : sp_bt F its (some j) i = false := decide_eq_false h
theorem sp_bt_t {F : List Nat} {its : List sp_I} {j i : Nat} (h : sp_cnt F (sp_it its i).2.1 < sp_cnt F (sp_it its j).2.1) : sp_bt F its (some j) i = true := decide_eq_true h
theorem m_nextAtom {G : rv_G} (hG : rv_GK G) {d : Nat} (hd : 3 ≤ d) {σ : rv_S} {S F : List Nat} {b : Nat} {C : sp_C} (hB : mBF σ S F b C) {t v : Int32} {T V : Nat → Bool} (ht : ∀ i, i < 6 → ib t i = T i) (hv : mMsk v V) : mC G d yX4_nextAtom wX4_nextAtom [.int (nI b), .int t, .int v] σ (mPi (fun r τ => τ = σ ∧ r = rv_oi (sp_na F C.its T V C.its.length))) := by
  refine mv_start hG (by decide +kernel) (Nat.le_of_ble_eq_true rfl) (fun X Hb o hX1 hX hE => ?_)
  subst hX1
  show rv_V X (rv_mh Hb o _) 0 [some (.ref o), some (.int (nI b)), some (.int t), some (.int v), none, none, none, none] []
  obtain ⟨hS, hF, hbd, hw, hb⟩ := hB
  have hl := hw.len
  have hvz := hv.z
  have hS8 := hS.2.1
  have hrel : ∀ i, i < C.its.length → (sp_it C.its i).2.1 < 8 := fun i hi => by
    obtain ⟨w1, w2, w3, w4, w5⟩ := hw.its _ (List.mem_of_getElem? (sp_it_some hi))
    by_cases h0 : (sp_it C.its i).1 ≤ 1
    · have := (List.getElem?_eq_some_iff.mp (w2 h0)).1
      omega
    · by_cases h2 : (sp_it C.its i).1 = 2
      · have := (w3 h2).1
        omega
      · have := (w4 (by omega)).1
        omega
  have hcl : ∀ r, sp_cnt F r ≤ 62 := fun r => Nat.le_trans (List.length_filter_le _ _) (by have := hF.2.1; omega)
  have loop : ∀ (n i : Nat) (x y : Option Value), i ≤ C.its.length → C.its.length - i < n → rv_V X (rv_mh Hb o σ) 6 [some (.ref o), some (.int (nI b)), some (.int t), some (.int v), some (.int (rv_oi (sp_na F C.its T V i))), some (.int (nI i)), x, y] [] := by
    intro n
    induction n with
    | zero => intro i x y h1 h2; omega
    | succ n ih =>
      intro i x y h1 h2
      have e9 : sp_na F C.its T V (i + 1) = if sp_isn C.its T V i && sp_bt F C.its (sp_na F C.its T V i) i then some i else sp_na F C.its T V i := rfl
      have hpl := fun j e => (sp_na_spec (F := F) (its := C.its) (T := T) (V := V) (n := i)).1 j e
      have hm1 := rv_oi_m1 (x := sp_na F C.its T V i) (fun a e => by have := (hpl a e).1; omega)
      refine rv_iload hX dX4_nextAtom_6 rfl ?_
      refine rv_aload_n hX dX4_nextAtom_8 rfl ?_
      refine mv_ga hX (k := 6) (j := 6) gX4_25_X4 (by decide) rfl (by decide) dX4_nextAtom_9 ?_
      refine rv_iload_n hX dX4_nextAtom_12 rfl ?_
      refine mv_ld hX (j := 6) (by decide) (by decide) rfl (by decide) (show _ < 17 by omega) dX4_nextAtom_13 ?_
      rw [hbd.len]
      first | refine nv_icmp_ge hX 122 (by omega) (by omega) dX4_nextAtom_14 (by decide) (fun c_14 => ?_) (fun c_14 => ?_) | refine rv_icmp_ge hX 122 dX4_nextAtom_14 (by decide) (fun c_14 => ?_) (fun c_14 => ?_)
      · skip
        have hi9 : i = C.its.length := by omega
        refine rv_iload hX dX4_nextAtom_122 rfl ?_
        refine mv_reti hX hE dX4_nextAtom_124 ?_
        exact ⟨rfl, by rw [hi9]⟩
      · skip
        have hit := sp_it_some (its := C.its) (i := i) (by omega)
        have hmi := hbd.its i _ hit
        have hwi := hw.its _ (List.mem_of_getElem? hit)
        have hti := ht i (by omega)
        have hwi3 := hwi.1
        have fin : ∀ z, z = sp_isn C.its T V i → rv_V X (rv_mh Hb o σ) 59 [some (.ref o), some (.int (nI b)), some (.int t), some (.int v), some (.int (rv_oi (sp_na F C.its T V i))), some (.int (nI i)), some (.int (rv_z z)), y] [] := by
          intro z hz
          have e10 : sp_na F C.its T V (i + 1) = if z && sp_bt F C.its (sp_na F C.its T V i) i then some i else sp_na F C.its T V i := by rw [e9, hz]
          refine rv_iload hX dX4_nextAtom_59 rfl ?_
          refine rv_iconst hX (v := -1) dX4_nextAtom_61 (by decide) ?_
          first | refine nv_icmp_eq hX 90 (by omega) (by omega) dX4_nextAtom_62 (by decide) (fun c_62 => ?_) (fun c_62 => ?_) | refine rv_icmp_eq hX 90 dX4_nextAtom_62 (by decide) (fun c_62 => ?_) (fun c_62 => ?_)
          · skip
            have hbt : sp_bt F C.its (sp_na F C.its T V i) i = true := by rw [hm1.mp c_62]; rfl
            refine nv_iconst hX (m := 1) (by decide) dX4_nextAtom_90 ?_
            refine rv_goto hX 95 dX4_nextAtom_91 (by decide) ?_
            refine rv_istore hX dX4_nextAtom_95 (rv_st_7 rfl) ?_
            refine rv_iload hX dX4_nextAtom_97 rfl ?_
            first | refine zv_if_eq hX 112 dX4_nextAtom_99 (by decide) (fun c_99 => ?_) (fun c_99 => ?_) | refine nv_if_eq hX 112 (by omega) dX4_nextAtom_99 (by decide) (fun c_99 => ?_) (fun c_99 => ?_) | refine rv_if_eq hX 112 dX4_nextAtom_99 (by decide) (fun c_99 => ?_) (fun c_99 => ?_)
            · skip
              have hno : sp_na F C.its T V (i + 1) = sp_na F C.its T V i := by
                rw [e10, hbt]
                first
                  | (rw [Bool.and_false]; rfl)
                  | (rw [show z = false from c_99]; rfl)
              refine rv_iload hX dX4_nextAtom_112 rfl ?_
              refine rv_istore hX dX4_nextAtom_114 (rv_st_4 rfl) ?_
              first | refine nv_iinc hX (m := 1) dX4_nextAtom_116 rfl (by decide) (rv_st_5 rfl) ?_ | refine rv_iinc hX dX4_nextAtom_116 rfl rfl (rv_st_5 rfl) ?_
              refine rv_goto hX 6 dX4_nextAtom_119 (by decide) ?_
              have hh := ih (i + 1) (some (.int (rv_z z))) (some (.int (rv_z (sp_bt F C.its (sp_na F C.its T V i) i)))) (by omega) (by omega)
              rw [hno, hbt] at hh
              exact hh
            · skip
              refine rv_iload hX dX4_nextAtom_102 rfl ?_
              refine rv_if_eq hX 112 dX4_nextAtom_104 (by decide) (fun q => absurd q (by decide)) (fun _ => ?_)
              have hz1 : z = true := by
                cases z with
                | true => rfl
                | false => exact absurd c_99 (by decide)
              have hno : sp_na F C.its T V (i + 1) = some i := by rw [e10, hbt, hz1]; rfl
              refine rv_iload hX dX4_nextAtom_107 rfl ?_
              refine rv_goto hX 114 dX4_nextAtom_109 (by decide) ?_
              refine rv_istore hX dX4_nextAtom_114 (rv_st_4 rfl) ?_
              first | refine nv_iinc hX (m := 1) dX4_nextAtom_116 rfl (by decide) (rv_st_5 rfl) ?_ | refine rv_iinc hX dX4_nextAtom_116 rfl rfl (rv_st_5 rfl) ?_
              refine rv_goto hX 6 dX4_nextAtom_119 (by decide) ?_
              have hh := ih (i + 1) (some (.int (rv_z z))) (some (.int (rv_z (sp_bt F C.its (sp_na F C.its T V i) i)))) (by omega) (by omega)
              rw [hno, hbt] at hh
              exact hh
          · skip
            obtain ⟨j, hj⟩ : ∃ j, sp_na F C.its T V i = some j := by
              cases e : sp_na F C.its T V i with
              | some j => exact ⟨j, rfl⟩
              | none => exact absurd (hm1.mpr e) c_62
            have hjl := (hpl j hj).1
            have hmj := hbd.its j _ (sp_it_some (its := C.its) (i := j) (by omega))
            have hri := hrel i (by omega)
            have hrj := hrel j (by omega)
            rw [hj]
            show rv_V X (rv_mh Hb o σ) 65 [some (.ref o), some (.int (nI b)), some (.int t), some (.int v), some (.int (nI j)), some (.int (nI i)), some (.int (rv_z z)), y] []
            refine rv_aload_n hX dX4_nextAtom_65 rfl ?_
            refine rv_aload_n hX dX4_nextAtom_66 rfl ?_
            refine rv_iload_n hX dX4_nextAtom_67 rfl ?_
            refine rv_iload hX dX4_nextAtom_68 rfl ?_
            refine mv_calli hX iX4_152 rfl mdX4_whatOf (m_whatOf hG (d := d - 1) (b := b) (i := i) (by omega)) (by omega) rfl rfl (Nat.le_of_ble_eq_true rfl) dX4_nextAtom_70 (fun r_70 τ_70 h_70 => ?_)
            obtain ⟨rfl, rfl⟩ := h_70
            rw [hmi.2.1]
            refine mv_calli hX iX4_399 rfl mdX4_standingOf (m_standingOf hG (d := d - 1) hF hri) (by omega) rfl rfl (Nat.le_of_ble_eq_true rfl) dX4_nextAtom_73 (fun r_73 τ_73 h_73 => ?_)
            obtain ⟨rfl, rfl⟩ := h_73
            refine rv_aload_n hX dX4_nextAtom_76 rfl ?_
            refine rv_aload_n hX dX4_nextAtom_77 rfl ?_
            refine rv_iload_n hX dX4_nextAtom_78 rfl ?_
            refine rv_iload hX dX4_nextAtom_79 rfl ?_
            refine mv_calli hX iX4_152 rfl mdX4_whatOf (m_whatOf hG (d := d - 1) (b := b) (i := j) (by omega)) (by omega) rfl rfl (Nat.le_of_ble_eq_true rfl) dX4_nextAtom_81 (fun r_81 τ_81 h_81 => ?_)
            obtain ⟨rfl, rfl⟩ := h_81
            rw [hmj.2.1]
            refine mv_calli hX iX4_399 rfl mdX4_standingOf (m_standingOf hG (d := d - 1) hF hrj) (by omega) rfl rfl (Nat.le_of_ble_eq_true rfl) dX4_nextAtom_84 (fun r_84 τ_84 h_84 => ?_)
            obtain ⟨rfl, rfl⟩ := h_84
            have hcl1 := hcl (sp_it C.its i).2.1
            have hcl2 := hcl (sp_it C.its j).2.1
            first | refine nv_icmp_ge hX 94 (by omega) (by omega) dX4_nextAtom_87 (by decide) (fun c_87 => ?_) (fun c_87 => ?_) | refine rv_icmp_ge hX 94 dX4_nextAtom_87 (by decide) (fun c_87 => ?_) (fun c_87 => ?_)
            · skip
              have hbt : sp_bt F C.its (sp_na F C.its T V i) i = false := by rw [hj]; exact sp_bt_f (by omega)
              rw [show nI j = rv_oi (sp_na F C.its T V i) from by rw [hj]; rfl]
              refine nv_iconst hX (m := 0) (by decide) dX4_nextAtom_94 ?_
              refine rv_istore hX dX4_nextAtom_95 (rv_st_7 rfl) ?_
              refine rv_iload hX dX4_nextAtom_97 rfl ?_
              first | refine zv_if_eq hX 112 dX4_nextAtom_99 (by decide) (fun c_99 => ?_) (fun c_99 => ?_) | refine nv_if_eq hX 112 (by omega) dX4_nextAtom_99 (by decide) (fun c_99 => ?_) (fun c_99 => ?_) | refine rv_if_eq hX 112 dX4_nextAtom_99 (by decide) (fun c_99 => ?_) (fun c_99 => ?_)
              · skip
                have hno : sp_na F C.its T V (i + 1) = sp_na F C.its T V i := by
                  rw [e10, hbt]
                  first
                    | (rw [Bool.and_false]; rfl)
                    | (rw [show z = false from c_99]; rfl)
                refine rv_iload hX dX4_nextAtom_112 rfl ?_
                refine rv_istore hX dX4_nextAtom_114 (rv_st_4 rfl) ?_
                first | refine nv_iinc hX (m := 1) dX4_nextAtom_116 rfl (by decide) (rv_st_5 rfl) ?_ | refine rv_iinc hX dX4_nextAtom_116 rfl rfl (rv_st_5 rfl) ?_
                refine rv_goto hX 6 dX4_nextAtom_119 (by decide) ?_
                have hh := ih (i + 1) (some (.int (rv_z z))) (some (.int (rv_z (sp_bt F C.its (sp_na F C.its T V i) i)))) (by omega) (by omega)
                rw [hno, hbt] at hh
                exact hh
              · skip
                refine rv_iload hX dX4_nextAtom_102 rfl ?_
                refine rv_if_eq hX 112 dX4_nextAtom_104 (by decide) (fun _ => ?_) (fun q => absurd q (by decide))
                have hno : sp_na F C.its T V (i + 1) = sp_na F C.its T V i := by
                  rw [e10, hbt]
                  first
                    | (rw [Bool.and_false]; rfl)
                    | (rw [show z = false from c_99]; rfl)
                refine rv_iload hX dX4_nextAtom_112 rfl ?_
                refine rv_istore hX dX4_nextAtom_114 (rv_st_4 rfl) ?_
                first | refine nv_iinc hX (m := 1) dX4_nextAtom_116 rfl (by decide) (rv_st_5 rfl) ?_ | refine rv_iinc hX dX4_nextAtom_116 rfl rfl (rv_st_5 rfl) ?_
                refine rv_goto hX 6 dX4_nextAtom_119 (by decide) ?_
                have hh := ih (i + 1) (some (.int (rv_z z))) (some (.int (rv_z (sp_bt F C.its (sp_na F C.its T V i) i)))) (by omega) (by omega)
                rw [hno, hbt] at hh
                exact hh
            · skip
              have hbt : sp_bt F C.its (sp_na F C.its T V i) i = true := by rw [hj]; exact sp_bt_t (by omega)
              rw [show nI j = rv_oi (sp_na F C.its T V i) from by rw [hj]; rfl]
              refine nv_iconst hX (m := 1) (by decide) dX4_nextAtom_90 ?_
              refine rv_goto hX 95 dX4_nextAtom_91 (by decide) ?_
              refine rv_istore hX dX4_nextAtom_95 (rv_st_7 rfl) ?_
              refine rv_iload hX dX4_nextAtom_97 rfl ?_
              first | refine zv_if_eq hX 112 dX4_nextAtom_99 (by decide) (fun c_99 => ?_) (fun c_99 => ?_) | refine nv_if_eq hX 112 (by omega) dX4_nextAtom_99 (by decide) (fun c_99 => ?_) (fun c_99 => ?_) | refine rv_if_eq hX 112 dX4_nextAtom_99 (by decide) (fun c_99 => ?_) (fun c_99 => ?_)
              · skip
                have hno : sp_na F C.its T V (i + 1) = sp_na F C.its T V i := by
                  rw [e10, hbt]
                  first
                    | (rw [Bool.and_false]; rfl)
                    | (rw [show z = false from c_99]; rfl)
                refine rv_iload hX dX4_nextAtom_112 rfl ?_
                refine rv_istore hX dX4_nextAtom_114 (rv_st_4 rfl) ?_
                first | refine nv_iinc hX (m := 1) dX4_nextAtom_116 rfl (by decide) (rv_st_5 rfl) ?_ | refine rv_iinc hX dX4_nextAtom_116 rfl rfl (rv_st_5 rfl) ?_
                refine rv_goto hX 6 dX4_nextAtom_119 (by decide) ?_
                have hh := ih (i + 1) (some (.int (rv_z z))) (some (.int (rv_z (sp_bt F C.its (sp_na F C.its T V i) i)))) (by omega) (by omega)
                rw [hno, hbt] at hh
                exact hh
              · skip
                refine rv_iload hX dX4_nextAtom_102 rfl ?_
                refine rv_if_eq hX 112 dX4_nextAtom_104 (by decide) (fun q => absurd q (by decide)) (fun _ => ?_)
                have hz1 : z = true := by
                  cases z with
                  | true => rfl
                  | false => exact absurd c_99 (by decide)
                have hno : sp_na F C.its T V (i + 1) = some i := by rw [e10, hbt, hz1]; rfl
                refine rv_iload hX dX4_nextAtom_107 rfl ?_
                refine rv_goto hX 114 dX4_nextAtom_109 (by decide) ?_
                refine rv_istore hX dX4_nextAtom_114 (rv_st_4 rfl) ?_
                first | refine nv_iinc hX (m := 1) dX4_nextAtom_116 rfl (by decide) (rv_st_5 rfl) ?_ | refine rv_iinc hX dX4_nextAtom_116 rfl rfl (rv_st_5 rfl) ?_
                refine rv_goto hX 6 dX4_nextAtom_119 (by decide) ?_
                have hh := ih (i + 1) (some (.int (rv_z z))) (some (.int (rv_z (sp_bt F C.its (sp_na F C.its T V i) i)))) (by omega) (by omega)
                rw [hno, hbt] at hh
                exact hh
        refine rv_aload_n hX dX4_nextAtom_17 rfl ?_
        refine rv_iload_n hX dX4_nextAtom_18 rfl ?_
        refine rv_iload hX dX4_nextAtom_19 rfl ?_
        refine mv_calli hX iX4_148 rfl mdX4_kindOf (m_kindOf hG (d := d - 1) (b := b) (i := i) (by omega)) (by omega) rfl rfl (Nat.le_of_ble_eq_true rfl) dX4_nextAtom_21 (fun r_21 τ_21 h_21 => ?_)
        obtain ⟨rfl, rfl⟩ := h_21
        rw [hmi.1]
        first | refine zv_if_ne hX 56 dX4_nextAtom_24 (by decide) (fun c_24 => ?_) (fun c_24 => ?_) | refine nv_if_ne hX 56 (by omega) dX4_nextAtom_24 (by decide) (fun c_24 => ?_) (fun c_24 => ?_) | refine rv_if_ne hX 56 dX4_nextAtom_24 (by decide) (fun c_24 => ?_) (fun c_24 => ?_)
        · skip
          have hisn : false = sp_isn C.its T V i := by
            unfold sp_isn
            rw [decide_eq_false (by omega)]
            rfl
          refine nv_iconst hX (m := 0) (by decide) dX4_nextAtom_56 ?_
          refine rv_istore hX dX4_nextAtom_57 (rv_st_6 rfl) ?_
          exact fin _ hisn
        · skip
          refine rv_iload_n hX dX4_nextAtom_27 rfl ?_
          refine rv_iload hX dX4_nextAtom_28 rfl ?_
          refine rv_ishr hX dX4_nextAtom_30 ?_
          refine nv_iconst hX (m := 1) (by decide) dX4_nextAtom_31 ?_
          refine rv_iand hX dX4_nextAtom_32 ?_
          first | refine zv_if_ne hX 56 dX4_nextAtom_33 (by decide) (fun c_33 => ?_) (fun c_33 => ?_) | refine nv_if_ne hX 56 (by omega) dX4_nextAtom_33 (by decide) (fun c_33 => ?_) (fun c_33 => ?_) | refine rv_if_ne hX 56 dX4_nextAtom_33 (by decide) (fun c_33 => ?_) (fun c_33 => ?_)
          · skip
            have hisn : false = sp_isn C.its T V i := by
              unfold sp_isn
              have h33 : ib t i = true := by
                cases e : ib t i with
                | true => rfl
                | false => exact absurd ((ib_test0 (by omega) t).mpr e) c_33
              rw [← hti, h33]
              simp
            refine nv_iconst hX (m := 0) (by decide) dX4_nextAtom_56 ?_
            refine rv_istore hX dX4_nextAtom_57 (rv_st_6 rfl) ?_
            exact fin _ hisn
          · skip
            have h33 : ib t i = false := (ib_test0 (by omega) t).mp c_33
            refine rv_iload_n hX dX4_nextAtom_36 rfl ?_
            first | refine zv_if_eq hX 52 dX4_nextAtom_37 (by decide) (fun c_37 => ?_) (fun c_37 => ?_) | refine nv_if_eq hX 52 (by omega) dX4_nextAtom_37 (by decide) (fun c_37 => ?_) (fun c_37 => ?_) | refine rv_if_eq hX 52 dX4_nextAtom_37 (by decide) (fun c_37 => ?_) (fun c_37 => ?_)
            · skip
              have hisn : true = sp_isn C.its T V i := by
                unfold sp_isn
                rw [decide_eq_true (by omega), ← hti, h33, hvz.mp c_37]
                rfl
              refine nv_iconst hX (m := 1) (by decide) dX4_nextAtom_52 ?_
              refine rv_goto hX 57 dX4_nextAtom_53 (by decide) ?_
              refine rv_istore hX dX4_nextAtom_57 (rv_st_6 rfl) ?_
              exact fin _ hisn
            · skip
              have hva : (List.range 8).any V = true := by
                cases e : (List.range 8).any V with
                | true => rfl
                | false => exact absurd (hvz.mpr e) c_37
              refine rv_aload_n hX dX4_nextAtom_40 rfl ?_
              refine rv_iload_n hX dX4_nextAtom_41 rfl ?_
              refine rv_iload hX dX4_nextAtom_42 rfl ?_
              refine mv_calli hX iX4_396 rfl mdX4_variablesOf (m_variablesOf hG (d := d - 1) (by omega) (b := b) (i := i) (by omega) hS hmi hwi) (by omega) rfl rfl (Nat.le_of_ble_eq_true rfl) dX4_nextAtom_44 (fun r_44 τ_44 h_44 => ?_)
              obtain ⟨rfl, h44⟩ := h_44
              refine rv_iload_n hX dX4_nextAtom_47 rfl ?_
              refine rv_iand hX dX4_nextAtom_48 ?_
              have h49 := (h44.and hv).z
              first | refine zv_if_eq hX 56 dX4_nextAtom_49 (by decide) (fun c_49 => ?_) (fun c_49 => ?_) | refine nv_if_eq hX 56 (by omega) dX4_nextAtom_49 (by decide) (fun c_49 => ?_) (fun c_49 => ?_) | refine rv_if_eq hX 56 dX4_nextAtom_49 (by decide) (fun c_49 => ?_) (fun c_49 => ?_)
              · skip
                have hisn : false = sp_isn C.its T V i := by
                  unfold sp_isn
                  rw [h49.mp c_49, hva]
                  simp
                refine nv_iconst hX (m := 0) (by decide) dX4_nextAtom_56 ?_
                refine rv_istore hX dX4_nextAtom_57 (rv_st_6 rfl) ?_
                exact fin _ hisn
              · skip
                have hisn : true = sp_isn C.its T V i := by
                  unfold sp_isn
                  have := mt h49.mpr c_49
                  rw [decide_eq_true (by omega), ← hti, h33, hva, show (List.range 8).any (fun v => V v && sp_iv (sp_it C.its i) v) = true from by simpa using this]
                  rfl
                refine nv_iconst hX (m := 1) (by decide) dX4_nextAtom_52 ?_
                refine rv_goto hX 57 dX4_nextAtom_53 (by decide) ?_
                refine rv_istore hX dX4_nextAtom_57 (rv_st_6 rfl) ?_
                exact fin _ hisn
  refine rv_iconst hX (v := -1) dX4_nextAtom_0 (by decide) ?_
  refine rv_istore hX dX4_nextAtom_1 (rv_st_4 rfl) ?_
  refine nv_iconst hX (m := 0) (by decide) dX4_nextAtom_3 ?_
  refine rv_istore hX dX4_nextAtom_4 (rv_st_5 rfl) ?_
  exact loop _ 0 _ _ (Nat.zero_le _) (Nat.lt_succ_self _)
