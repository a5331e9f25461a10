/-! THE REFERENCE: what can fire -/
set_option maxRecDepth 100000
/-- what has fired: the deed's number, three tags -/
def mFd (σ : rv_S) (D : List (Nat × Nat × Nat × Nat)) : Prop := σ.2.1 1 10 = nI D.length ∧ D.length ≤ 5000 ∧ ∀ (k : Nat) (e : Nat × Nat × Nat × Nat), D[k]? = some e → (σ.2.1 18 (4 * k) = nI e.1 ∧ σ.2.1 18 (4 * k + 1) = nI e.2.1 ∧ σ.2.1 18 (4 * k + 2) = nI e.2.2.1 ∧ σ.2.1 18 (4 * k + 3) = nI e.2.2.2) ∧ e.1 < 2000000 ∧ e.2.1 < 2000000 ∧ e.2.2.1 < 2000000 ∧ e.2.2.2 < 2000000
theorem sp_tagk_lt {tv : Nat → Nat} {l : List Nat} {a m : Nat} (h : ∀ k, tv k < m) (hm : 0 < m) : sp_tagk tv l a < m := by
  unfold sp_tagk
  split
  · exact hm
  · exact h _
theorem m_canFire {G : rv_G} (hG : rv_GK G) {d : Nat} (hd : 2 ≤ d) {σ : rv_S} {S F : List Nat} {b num : Nat} {its : List sp_I} {ks : List Nat} {tv : Nat → Nat} {D : List (Nat × Nat × Nat × Nat)} (hc : mCfg σ S F b (fun p => p) its) (ht : mTri σ its ks) (htv : ∀ k, k ∈ sp_atk its ks → σ.2.1 16 k = nI (tv k)) (htl : ∀ k, tv k < 2000000) (hD : mFd σ D) (hnum : σ.2.1 3 b = nI num) (hn : num < 2000000) : mC G d yX4_canFire wX4_canFire [] σ (mPz (fun r τ => τ = σ ∧ (r = true ↔ (num, sp_tagk tv (sp_atk its ks) 0, sp_tagk tv (sp_atk its ks) 1, sp_tagk tv (sp_atk its ks) 2) ∉ D))) := by
  refine mv_start hG (by decide +kernel) (Nat.le_of_ble_eq_true rfl) (fun X Hb o hX1 hX hE => ?_)
  subst hX1
  show rv_V X (rv_mh Hb o _) 0 [some (.ref o), none, none] []
  have hb17 := hc.2.2.2.2.1
  have hmt := hc.2.2.1
  have hD5 := hD.2.1
  have t0 := sp_tagk_lt (l := sp_atk its ks) (a := 0) htl (by decide)
  have t1 := sp_tagk_lt (l := sp_atk its ks) (a := 1) htl (by decide)
  have t2 := sp_tagk_lt (l := sp_atk its ks) (a := 2) htl (by decide)
  have loop : ∀ (n k : Nat) (r : Bool), k ≤ D.length → D.length - k < n → (r = true → (num, sp_tagk tv (sp_atk its ks) 0, sp_tagk tv (sp_atk its ks) 1, sp_tagk tv (sp_atk its ks) 2) ∈ D) → (r = false → ∀ j, j < k → D[j]? ≠ some (num, sp_tagk tv (sp_atk its ks) 0, sp_tagk tv (sp_atk its ks) 1, sp_tagk tv (sp_atk its ks) 2)) → rv_V X (rv_mh Hb o σ) 4 [some (.ref o), some (.int (rv_z r)), some (.int (nI k))] [] := by
    intro n
    induction n with
    | zero => intro k r h1 h2; omega
    | succ n ih =>
      intro k r h1 h2 h3 h4
      refine rv_iload_n hX dX4_canFire_4 rfl ?_
      refine rv_aload_n hX dX4_canFire_5 rfl ?_
      refine mv_ga hX (k := 1) (j := 1) gX4_7_X4 (by decide) rfl (by decide) dX4_canFire_6 ?_
      refine nv_bipush hX (m := 10) (by decide) dX4_canFire_9 ?_
      refine mv_ld hX (j := 1) (by decide) (by decide) rfl (by decide) (show _ < 11 by omega) dX4_canFire_11 ?_
      rw [hD.1]
      first | refine nv_icmp_ge hX 105 (by omega) (by omega) dX4_canFire_12 (by decide) (fun c_12 => ?_) (fun c_12 => ?_) | refine rv_icmp_ge hX 105 dX4_canFire_12 (by decide) (fun c_12 => ?_) (fun c_12 => ?_)
      · skip
        refine rv_iload_n hX dX4_canFire_105 rfl ?_
        first | refine zv_if_ne hX 113 dX4_canFire_106 (by decide) (fun c_106 => ?_) (fun c_106 => ?_) | refine nv_if_ne hX 113 (by omega) dX4_canFire_106 (by decide) (fun c_106 => ?_) (fun c_106 => ?_) | refine rv_if_ne hX 113 dX4_canFire_106 (by decide) (fun c_106 => ?_) (fun c_106 => ?_)
        · skip
          refine nv_iconst hX (m := 0) (by decide) dX4_canFire_113 ?_
          refine mv_retz hX hE (b := false) rfl dX4_canFire_114 ?_
          first
            | exact absurd (c_16.symm.trans c_106) (by decide)
            | exact ⟨rfl, ⟨fun _ hm => (by
                obtain ⟨j, hj⟩ := List.getElem?_of_mem hm
                exact h4 c_106 j (by have := (List.getElem?_eq_some_iff.mp hj).1; omega) hj), fun _ => rfl⟩⟩
            | exact ⟨rfl, ⟨fun e => (by cases e), fun hm => absurd (h3 c_106) hm⟩⟩
        · skip
          refine nv_iconst hX (m := 1) (by decide) dX4_canFire_109 ?_
          refine rv_goto hX 114 dX4_canFire_110 (by decide) ?_
          refine mv_retz hX hE (b := true) rfl dX4_canFire_114 ?_
          first
            | exact absurd (c_16.symm.trans c_106) (by decide)
            | exact ⟨rfl, ⟨fun _ hm => (by
                obtain ⟨j, hj⟩ := List.getElem?_of_mem hm
                exact h4 c_106 j (by have := (List.getElem?_eq_some_iff.mp hj).1; omega) hj), fun _ => rfl⟩⟩
            | exact ⟨rfl, ⟨fun e => (by cases e), fun hm => absurd (h3 c_106) hm⟩⟩
      · skip
        obtain ⟨e, he⟩ : ∃ e, D[k]? = some e := ⟨D[k], List.getElem?_eq_getElem (by omega)⟩
        obtain ⟨⟨q1, q2, q3, q4⟩, w1, w2, w3, w4⟩ := hD.2.2 k e he
        refine rv_iload_n hX dX4_canFire_15 rfl ?_
        first | refine zv_if_ne hX 105 dX4_canFire_16 (by decide) (fun c_16 => ?_) (fun c_16 => ?_) | refine nv_if_ne hX 105 (by omega) dX4_canFire_16 (by decide) (fun c_16 => ?_) (fun c_16 => ?_) | refine rv_if_ne hX 105 dX4_canFire_16 (by decide) (fun c_16 => ?_) (fun c_16 => ?_)
        · skip
          refine rv_iload_n hX dX4_canFire_105 rfl ?_
          first | refine zv_if_ne hX 113 dX4_canFire_106 (by decide) (fun c_106 => ?_) (fun c_106 => ?_) | refine nv_if_ne hX 113 (by omega) dX4_canFire_106 (by decide) (fun c_106 => ?_) (fun c_106 => ?_) | refine rv_if_ne hX 113 dX4_canFire_106 (by decide) (fun c_106 => ?_) (fun c_106 => ?_)
          · skip
            refine nv_iconst hX (m := 0) (by decide) dX4_canFire_113 ?_
            refine mv_retz hX hE (b := false) rfl dX4_canFire_114 ?_
            first
              | exact absurd (c_16.symm.trans c_106) (by decide)
              | exact ⟨rfl, ⟨fun _ hm => (by
                  obtain ⟨j, hj⟩ := List.getElem?_of_mem hm
                  exact h4 c_106 j (by have := (List.getElem?_eq_some_iff.mp hj).1; omega) hj), fun _ => rfl⟩⟩
              | exact ⟨rfl, ⟨fun e => (by cases e), fun hm => absurd (h3 c_106) hm⟩⟩
          · skip
            refine nv_iconst hX (m := 1) (by decide) dX4_canFire_109 ?_
            refine rv_goto hX 114 dX4_canFire_110 (by decide) ?_
            refine mv_retz hX hE (b := true) rfl dX4_canFire_114 ?_
            first
              | exact absurd (c_16.symm.trans c_106) (by decide)
              | exact ⟨rfl, ⟨fun _ hm => (by
                  obtain ⟨j, hj⟩ := List.getElem?_of_mem hm
                  exact h4 c_106 j (by have := (List.getElem?_eq_some_iff.mp hj).1; omega) hj), fun _ => rfl⟩⟩
              | exact ⟨rfl, ⟨fun e => (by cases e), fun hm => absurd (h3 c_106) hm⟩⟩
        · skip
          refine rv_aload_n hX dX4_canFire_19 rfl ?_
          refine mv_ga hX (k := 18) (j := 18) gX4_61_X4 (by decide) rfl (by decide) dX4_canFire_20 ?_
          refine nv_iconst hX (m := 4) (by decide) dX4_canFire_23 ?_
          refine rv_iload_n hX dX4_canFire_24 rfl ?_
          first | refine nv_imul hX dX4_canFire_25 ?_ | refine rv_imul hX dX4_canFire_25 ?_
          refine mv_ld hX (j := 18) (by decide) (by decide) rfl (by decide) (show _ < 20800 by omega) dX4_canFire_26 ?_
          rw [q1]
          refine rv_aload_n hX dX4_canFire_27 rfl ?_
          refine mv_ga hX (k := 3) (j := 3) gX4_16_X4 (by decide) rfl (by decide) dX4_canFire_28 ?_
          refine rv_aload_n hX dX4_canFire_31 rfl ?_
          refine mv_gi hX (k := 31) gX4_155_X4 (by decide) rfl dX4_canFire_32 ?_
          rw [hmt]
          refine mv_ld hX (j := 3) (by decide) (by decide) rfl (by decide) (show _ < 17 by omega) dX4_canFire_35 ?_
          rw [hnum]
          first | refine nv_icmp_ne hX 97 (by omega) (by omega) dX4_canFire_36 (by decide) (fun c_36 => ?_) (fun c_36 => ?_) | refine rv_icmp_ne hX 97 dX4_canFire_36 (by decide) (fun c_36 => ?_) (fun c_36 => ?_)
          · skip
            refine nv_iconst hX (m := 0) (by decide) dX4_canFire_97 ?_
            refine rv_istore_n hX dX4_canFire_98 (rv_st_1 rfl) ?_
            first | refine nv_iinc hX (m := 1) dX4_canFire_99 rfl (by decide) (rv_st_2 rfl) ?_ | refine rv_iinc hX dX4_canFire_99 rfl rfl (rv_st_2 rfl) ?_
            refine rv_goto hX 4 dX4_canFire_102 (by decide) ?_
            first
              | exact ih (k + 1) true (by omega) (by omega) (fun _ => by
                  have e9 : e = (num, sp_tagk tv (sp_atk its ks) 0, sp_tagk tv (sp_atk its ks) 1, sp_tagk tv (sp_atk its ks) 2) := by
                    rw [← c_36, ← c_54, ← c_72, ← c_90]
                  rw [← e9]
                  exact List.mem_of_getElem? he) (fun e => by cases e)
              | (refine ih (k + 1) false (by omega) (by omega) (fun e => by cases e) (fun _ j hj hj2 => ?_)
                 by_cases q : j = k
                 · subst q
                   rw [he] at hj2
                   cases hj2
                   first
                     | exact c_36 rfl
                     | exact c_54 rfl
                     | exact c_72 rfl
                     | exact c_90 rfl
                 · exact h4 c_16 j (by omega) hj2)
          · skip
            refine rv_aload_n hX dX4_canFire_39 rfl ?_
            refine mv_ga hX (k := 18) (j := 18) gX4_61_X4 (by decide) rfl (by decide) dX4_canFire_40 ?_
            refine nv_iconst hX (m := 4) (by decide) dX4_canFire_43 ?_
            refine rv_iload_n hX dX4_canFire_44 rfl ?_
            first | refine nv_imul hX dX4_canFire_45 ?_ | refine rv_imul hX dX4_canFire_45 ?_
            refine nv_iconst hX (m := 1) (by decide) dX4_canFire_46 ?_
            first | refine nv_iadd hX dX4_canFire_47 ?_ | refine rv_iadd hX dX4_canFire_47 ?_
            refine mv_ld hX (j := 18) (by decide) (by decide) rfl (by decide) (show _ < 20800 by omega) dX4_canFire_48 ?_
            rw [q2]
            refine rv_aload_n hX dX4_canFire_49 rfl ?_
            refine nv_iconst hX (m := 0) (by decide) dX4_canFire_50 ?_
            refine mv_calli hX iX4_408 rfl mdX4_tagOf (m_tagOf hG (d := d - 1) (by omega) hc ht htv (a := 0) (by decide)) (by omega) rfl rfl (Nat.le_of_ble_eq_true rfl) dX4_canFire_51 (fun r_51 τ_51 h_51 => ?_)
            obtain ⟨rfl, rfl⟩ := h_51
            first | refine nv_icmp_ne hX 97 (by omega) (by omega) dX4_canFire_54 (by decide) (fun c_54 => ?_) (fun c_54 => ?_) | refine rv_icmp_ne hX 97 dX4_canFire_54 (by decide) (fun c_54 => ?_) (fun c_54 => ?_)
            · skip
              refine nv_iconst hX (m := 0) (by decide) dX4_canFire_97 ?_
              refine rv_istore_n hX dX4_canFire_98 (rv_st_1 rfl) ?_
              first | refine nv_iinc hX (m := 1) dX4_canFire_99 rfl (by decide) (rv_st_2 rfl) ?_ | refine rv_iinc hX dX4_canFire_99 rfl rfl (rv_st_2 rfl) ?_
              refine rv_goto hX 4 dX4_canFire_102 (by decide) ?_
              first
                | exact ih (k + 1) true (by omega) (by omega) (fun _ => by
                    have e9 : e = (num, sp_tagk tv (sp_atk its ks) 0, sp_tagk tv (sp_atk its ks) 1, sp_tagk tv (sp_atk its ks) 2) := by
                      rw [← c_36, ← c_54, ← c_72, ← c_90]
                    rw [← e9]
                    exact List.mem_of_getElem? he) (fun e => by cases e)
                | (refine ih (k + 1) false (by omega) (by omega) (fun e => by cases e) (fun _ j hj hj2 => ?_)
                   by_cases q : j = k
                   · subst q
                     rw [he] at hj2
                     cases hj2
                     first
                       | exact c_36 rfl
                       | exact c_54 rfl
                       | exact c_72 rfl
                       | exact c_90 rfl
                   · exact h4 c_16 j (by omega) hj2)
            · skip
              refine rv_aload_n hX dX4_canFire_57 rfl ?_
              refine mv_ga hX (k := 18) (j := 18) gX4_61_X4 (by decide) rfl (by decide) dX4_canFire_58 ?_
              refine nv_iconst hX (m := 4) (by decide) dX4_canFire_61 ?_
              refine rv_iload_n hX dX4_canFire_62 rfl ?_
              first | refine nv_imul hX dX4_canFire_63 ?_ | refine rv_imul hX dX4_canFire_63 ?_
              refine nv_iconst hX (m := 2) (by decide) dX4_canFire_64 ?_
              first | refine nv_iadd hX dX4_canFire_65 ?_ | refine rv_iadd hX dX4_canFire_65 ?_
              refine mv_ld hX (j := 18) (by decide) (by decide) rfl (by decide) (show _ < 20800 by omega) dX4_canFire_66 ?_
              rw [q3]
              refine rv_aload_n hX dX4_canFire_67 rfl ?_
              refine nv_iconst hX (m := 1) (by decide) dX4_canFire_68 ?_
              refine mv_calli hX iX4_408 rfl mdX4_tagOf (m_tagOf hG (d := d - 1) (by omega) hc ht htv (a := 1) (by decide)) (by omega) rfl rfl (Nat.le_of_ble_eq_true rfl) dX4_canFire_69 (fun r_69 τ_69 h_69 => ?_)
              obtain ⟨rfl, rfl⟩ := h_69
              first | refine nv_icmp_ne hX 97 (by omega) (by omega) dX4_canFire_72 (by decide) (fun c_72 => ?_) (fun c_72 => ?_) | refine rv_icmp_ne hX 97 dX4_canFire_72 (by decide) (fun c_72 => ?_) (fun c_72 => ?_)
              · skip
                refine nv_iconst hX (m := 0) (by decide) dX4_canFire_97 ?_
                refine rv_istore_n hX dX4_canFire_98 (rv_st_1 rfl) ?_
                first | refine nv_iinc hX (m := 1) dX4_canFire_99 rfl (by decide) (rv_st_2 rfl) ?_ | refine rv_iinc hX dX4_canFire_99 rfl rfl (rv_st_2 rfl) ?_
                refine rv_goto hX 4 dX4_canFire_102 (by decide) ?_
                first
                  | exact ih (k + 1) true (by omega) (by omega) (fun _ => by
                      have e9 : e = (num, sp_tagk tv (sp_atk its ks) 0, sp_tagk tv (sp_atk its ks) 1, sp_tagk tv (sp_atk its ks) 2) := by
                        rw [← c_36, ← c_54, ← c_72, ← c_90]
                      rw [← e9]
                      exact List.mem_of_getElem? he) (fun e => by cases e)
                  | (refine ih (k + 1) false (by omega) (by omega) (fun e => by cases e) (fun _ j hj hj2 => ?_)
                     by_cases q : j = k
                     · subst q
                       rw [he] at hj2
                       cases hj2
                       first
                         | exact c_36 rfl
                         | exact c_54 rfl
                         | exact c_72 rfl
                         | exact c_90 rfl
                     · exact h4 c_16 j (by omega) hj2)
              · skip
                refine rv_aload_n hX dX4_canFire_75 rfl ?_
                refine mv_ga hX (k := 18) (j := 18) gX4_61_X4 (by decide) rfl (by decide) dX4_canFire_76 ?_
                refine nv_iconst hX (m := 4) (by decide) dX4_canFire_79 ?_
                refine rv_iload_n hX dX4_canFire_80 rfl ?_
                first | refine nv_imul hX dX4_canFire_81 ?_ | refine rv_imul hX dX4_canFire_81 ?_
                refine nv_iconst hX (m := 3) (by decide) dX4_canFire_82 ?_
                first | refine nv_iadd hX dX4_canFire_83 ?_ | refine rv_iadd hX dX4_canFire_83 ?_
                refine mv_ld hX (j := 18) (by decide) (by decide) rfl (by decide) (show _ < 20800 by omega) dX4_canFire_84 ?_
                rw [q4]
                refine rv_aload_n hX dX4_canFire_85 rfl ?_
                refine nv_iconst hX (m := 2) (by decide) dX4_canFire_86 ?_
                refine mv_calli hX iX4_408 rfl mdX4_tagOf (m_tagOf hG (d := d - 1) (by omega) hc ht htv (a := 2) (by decide)) (by omega) rfl rfl (Nat.le_of_ble_eq_true rfl) dX4_canFire_87 (fun r_87 τ_87 h_87 => ?_)
                obtain ⟨rfl, rfl⟩ := h_87
                first | refine nv_icmp_ne hX 97 (by omega) (by omega) dX4_canFire_90 (by decide) (fun c_90 => ?_) (fun c_90 => ?_) | refine rv_icmp_ne hX 97 dX4_canFire_90 (by decide) (fun c_90 => ?_) (fun c_90 => ?_)
                · skip
                  refine nv_iconst hX (m := 0) (by decide) dX4_canFire_97 ?_
                  refine rv_istore_n hX dX4_canFire_98 (rv_st_1 rfl) ?_
                  first | refine nv_iinc hX (m := 1) dX4_canFire_99 rfl (by decide) (rv_st_2 rfl) ?_ | refine rv_iinc hX dX4_canFire_99 rfl rfl (rv_st_2 rfl) ?_
                  refine rv_goto hX 4 dX4_canFire_102 (by decide) ?_
                  first
                    | exact ih (k + 1) true (by omega) (by omega) (fun _ => by
                        have e9 : e = (num, sp_tagk tv (sp_atk its ks) 0, sp_tagk tv (sp_atk its ks) 1, sp_tagk tv (sp_atk its ks) 2) := by
                          rw [← c_36, ← c_54, ← c_72, ← c_90]
                        rw [← e9]
                        exact List.mem_of_getElem? he) (fun e => by cases e)
                    | (refine ih (k + 1) false (by omega) (by omega) (fun e => by cases e) (fun _ j hj hj2 => ?_)
                       by_cases q : j = k
                       · subst q
                         rw [he] at hj2
                         cases hj2
                         first
                           | exact c_36 rfl
                           | exact c_54 rfl
                           | exact c_72 rfl
                           | exact c_90 rfl
                       · exact h4 c_16 j (by omega) hj2)
                · skip
                  refine nv_iconst hX (m := 1) (by decide) dX4_canFire_93 ?_
                  refine rv_goto hX 98 dX4_canFire_94 (by decide) ?_
                  refine rv_istore_n hX dX4_canFire_98 (rv_st_1 rfl) ?_
                  first | refine nv_iinc hX (m := 1) dX4_canFire_99 rfl (by decide) (rv_st_2 rfl) ?_ | refine rv_iinc hX dX4_canFire_99 rfl rfl (rv_st_2 rfl) ?_
                  refine rv_goto hX 4 dX4_canFire_102 (by decide) ?_
                  first
                    | exact ih (k + 1) true (by omega) (by omega) (fun _ => by
                        have e9 : e = (num, sp_tagk tv (sp_atk its ks) 0, sp_tagk tv (sp_atk its ks) 1, sp_tagk tv (sp_atk its ks) 2) := by
                          rw [← c_36, ← c_54, ← c_72, ← c_90]
                        rw [← e9]
                        exact List.mem_of_getElem? he) (fun e => by cases e)
                    | (refine ih (k + 1) false (by omega) (by omega) (fun e => by cases e) (fun _ j hj hj2 => ?_)
                       by_cases q : j = k
                       · subst q
                         rw [he] at hj2
                         cases hj2
                         first
                           | exact c_36 rfl
                           | exact c_54 rfl
                           | exact c_72 rfl
                           | exact c_90 rfl
                       · exact h4 c_16 j (by omega) hj2)
  refine nv_iconst hX (m := 0) (by decide) dX4_canFire_0 ?_
  refine rv_istore_n hX dX4_canFire_1 (rv_st_1 rfl) ?_
  refine nv_iconst hX (m := 0) (by decide) dX4_canFire_2 ?_
  refine rv_istore_n hX dX4_canFire_3 (rv_st_2 rfl) ?_
  exact loop _ 0 false (Nat.zero_le _) (Nat.lt_succ_self _) (fun e => by cases e) (fun _ j hj => absurd hj (by omega))
def sp_gtag (tv : Nat → Nat) (l : List Nat) : Nat := Nat.max (Nat.max (sp_tagk tv l 0) (sp_tagk tv l 1)) (sp_tagk tv l 2)
theorem m_greatestTag {G : rv_G} (hG : rv_GK G) {d : Nat} (hd : 2 ≤ d) {σ : rv_S} {S F : List Nat} {b : Nat} {its : List sp_I} {ks : List Nat} {tv : Nat → Nat} (hc : mCfg σ S F b (fun p => p) its) (ht : mTri σ its ks) (htv : ∀ k, k ∈ sp_atk its ks → σ.2.1 16 k = nI (tv k)) (htl : ∀ k, tv k < 2000000) : mC G d yX4_greatestTag wX4_greatestTag [] σ (mPi (fun r τ => τ = σ ∧ r = nI (sp_gtag tv (sp_atk its ks)))) := by
  refine mv_start hG (by decide +kernel) (Nat.le_of_ble_eq_true rfl) (fun X Hb o hX1 hX hE => ?_)
  subst hX1
  show rv_V X (rv_mh Hb o _) 0 [some (.ref o), none] []
  have t0 := sp_tagk_lt (l := sp_atk its ks) (a := 0) htl (by decide)
  have t1 := sp_tagk_lt (l := sp_atk its ks) (a := 1) htl (by decide)
  have t2 := sp_tagk_lt (l := sp_atk its ks) (a := 2) htl (by decide)
  have e : ∀ a b : Nat, Nat.max a b = max a b := fun _ _ => rfl
  refine rv_aload_n hX dX4_greatestTag_0 rfl ?_
  refine nv_iconst hX (m := 0) (by decide) dX4_greatestTag_1 ?_
  refine mv_calli hX iX4_408 rfl mdX4_tagOf (m_tagOf hG (d := d - 1) (by omega) hc ht htv (a := 0) (by decide)) (by omega) rfl rfl (Nat.le_of_ble_eq_true rfl) dX4_greatestTag_2 (fun r_2 τ_2 h_2 => ?_)
  obtain ⟨rfl, rfl⟩ := h_2
  refine rv_istore_n hX dX4_greatestTag_5 (rv_st_1 rfl) ?_
  refine rv_aload_n hX dX4_greatestTag_6 rfl ?_
  refine nv_iconst hX (m := 1) (by decide) dX4_greatestTag_7 ?_
  refine mv_calli hX iX4_408 rfl mdX4_tagOf (m_tagOf hG (d := d - 1) (by omega) hc ht htv (a := 1) (by decide)) (by omega) rfl rfl (Nat.le_of_ble_eq_true rfl) dX4_greatestTag_8 (fun r_8 τ_8 h_8 => ?_)
  obtain ⟨rfl, rfl⟩ := h_8
  refine rv_iload_n hX dX4_greatestTag_11 rfl ?_
  first | refine nv_icmp_le hX 23 (by omega) (by omega) dX4_greatestTag_12 (by decide) (fun c_12 => ?_) (fun c_12 => ?_) | refine rv_icmp_le hX 23 dX4_greatestTag_12 (by decide) (fun c_12 => ?_) (fun c_12 => ?_)
  · skip
    refine rv_iload_n hX dX4_greatestTag_23 rfl ?_
    refine rv_istore_n hX dX4_greatestTag_24 (rv_st_1 rfl) ?_
    refine rv_aload_n hX dX4_greatestTag_25 rfl ?_
    refine nv_iconst hX (m := 2) (by decide) dX4_greatestTag_26 ?_
    refine mv_calli hX iX4_408 rfl mdX4_tagOf (m_tagOf hG (d := d - 1) (by omega) hc ht htv (a := 2) (by decide)) (by omega) rfl rfl (Nat.le_of_ble_eq_true rfl) dX4_greatestTag_27 (fun r_27 τ_27 h_27 => ?_)
    obtain ⟨rfl, rfl⟩ := h_27
    refine rv_iload_n hX dX4_greatestTag_30 rfl ?_
    first | refine nv_icmp_le hX 42 (by omega) (by omega) dX4_greatestTag_31 (by decide) (fun c_31 => ?_) (fun c_31 => ?_) | refine rv_icmp_le hX 42 dX4_greatestTag_31 (by decide) (fun c_31 => ?_) (fun c_31 => ?_)
    · skip
      refine rv_iload_n hX dX4_greatestTag_42 rfl ?_
      refine mv_reti hX hE dX4_greatestTag_43 ?_
      refine ⟨rfl, ?_⟩
      unfold sp_gtag
      simp only [e]
      congr 1
      omega
    · skip
      refine rv_aload_n hX dX4_greatestTag_34 rfl ?_
      refine nv_iconst hX (m := 2) (by decide) dX4_greatestTag_35 ?_
      refine mv_calli hX iX4_408 rfl mdX4_tagOf (m_tagOf hG (d := d - 1) (by omega) hc ht htv (a := 2) (by decide)) (by omega) rfl rfl (Nat.le_of_ble_eq_true rfl) dX4_greatestTag_36 (fun r_36 τ_36 h_36 => ?_)
      obtain ⟨rfl, rfl⟩ := h_36
      refine rv_goto hX 43 dX4_greatestTag_39 (by decide) ?_
      refine mv_reti hX hE dX4_greatestTag_43 ?_
      refine ⟨rfl, ?_⟩
      unfold sp_gtag
      simp only [e]
      congr 1
      omega
  · skip
    refine rv_aload_n hX dX4_greatestTag_15 rfl ?_
    refine nv_iconst hX (m := 1) (by decide) dX4_greatestTag_16 ?_
    refine mv_calli hX iX4_408 rfl mdX4_tagOf (m_tagOf hG (d := d - 1) (by omega) hc ht htv (a := 1) (by decide)) (by omega) rfl rfl (Nat.le_of_ble_eq_true rfl) dX4_greatestTag_17 (fun r_17 τ_17 h_17 => ?_)
    obtain ⟨rfl, rfl⟩ := h_17
    refine rv_goto hX 24 dX4_greatestTag_20 (by decide) ?_
    refine rv_istore_n hX dX4_greatestTag_24 (rv_st_1 rfl) ?_
    refine rv_aload_n hX dX4_greatestTag_25 rfl ?_
    refine nv_iconst hX (m := 2) (by decide) dX4_greatestTag_26 ?_
    refine mv_calli hX iX4_408 rfl mdX4_tagOf (m_tagOf hG (d := d - 1) (by omega) hc ht htv (a := 2) (by decide)) (by omega) rfl rfl (Nat.le_of_ble_eq_true rfl) dX4_greatestTag_27 (fun r_27 τ_27 h_27 => ?_)
    obtain ⟨rfl, rfl⟩ := h_27
    refine rv_iload_n hX dX4_greatestTag_30 rfl ?_
    first | refine nv_icmp_le hX 42 (by omega) (by omega) dX4_greatestTag_31 (by decide) (fun c_31 => ?_) (fun c_31 => ?_) | refine rv_icmp_le hX 42 dX4_greatestTag_31 (by decide) (fun c_31 => ?_) (fun c_31 => ?_)
    · skip
      refine rv_iload_n hX dX4_greatestTag_42 rfl ?_
      refine mv_reti hX hE dX4_greatestTag_43 ?_
      refine ⟨rfl, ?_⟩
      unfold sp_gtag
      simp only [e]
      congr 1
      omega
    · skip
      refine rv_aload_n hX dX4_greatestTag_34 rfl ?_
      refine nv_iconst hX (m := 2) (by decide) dX4_greatestTag_35 ?_
      refine mv_calli hX iX4_408 rfl mdX4_tagOf (m_tagOf hG (d := d - 1) (by omega) hc ht htv (a := 2) (by decide)) (by omega) rfl rfl (Nat.le_of_ble_eq_true rfl) dX4_greatestTag_36 (fun r_36 τ_36 h_36 => ?_)
      obtain ⟨rfl, rfl⟩ := h_36
      refine rv_goto hX 43 dX4_greatestTag_39 (by decide) ?_
      refine mv_reti hX hE dX4_greatestTag_43 ?_
      refine ⟨rfl, ?_⟩
      unfold sp_gtag
      simp only [e]
      congr 1
      omega
