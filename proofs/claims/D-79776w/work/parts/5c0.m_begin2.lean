/-! THE REFERENCE: variables renamed -/
set_option maxRecDepth 100000
theorem sp_msk_old {m : Int32} {a b : List Nat} {t : Nat} (e : b = a ++ [t]) (h : mMsk m (fun u => decide (100 + u ∈ a))) (ht : ∀ u, 100 ≤ u → u ≠ t) : mMsk (m ||| nI 0) (fun u => decide (100 + u ∈ b)) := (h.or mMsk.zero).cg (fun u _ => by
  rw [e, Bool.or_false]
  refine decide_eq_decide.mpr ⟨fun g => List.mem_append.mpr (Or.inl g), fun g => ?_⟩
  rcases List.mem_append.mp g with g | g
  · exact g
  · exact absurd (List.mem_singleton.mp g) (ht _ (Nat.le_add_right _ _)))
theorem sp_msk_in {m : Int32} {a b : List Nat} {t : Nat} (e : b = a ++ [t]) (h : mMsk m (fun u => decide (100 + u ∈ a))) (ht : t ∈ a) : mMsk (m ||| nI 0) (fun u => decide (100 + u ∈ b)) := (h.or mMsk.zero).cg (fun u _ => by
  rw [e, Bool.or_false]
  refine decide_eq_decide.mpr ⟨fun g => List.mem_append.mpr (Or.inl g), fun g => ?_⟩
  rcases List.mem_append.mp g with g | g
  · exact g
  · rw [List.mem_singleton.mp g]; exact ht)
theorem sp_msk_new {m : Int32} {a b : List Nat} {t : Nat} (e : b = a ++ [t]) (h : mMsk m (fun u => decide (100 + u ∈ a))) (h1 : 100 ≤ t) (h8 : t < 108) : mMsk (m ||| nI 1 <<< (nI (t - 100) &&& 31)) (fun u => decide (100 + u ∈ b)) := (h.or (mMsk.one (v := t - 100) (by omega))).cg (fun u _ => by
  rw [e]
  show (decide (100 + u ∈ a) || decide (u = t - 100)) = _
  rw [← Bool.decide_or]
  refine decide_eq_decide.mpr ⟨fun g => ?_, fun g => ?_⟩
  · rcases g with g | g
    · exact List.mem_append.mpr (Or.inl g)
    · exact List.mem_append.mpr (Or.inr (List.mem_singleton.mpr (by omega)))
  · rcases List.mem_append.mp g with g | g
    · exact Or.inl g
    · exact Or.inr (by have := List.mem_singleton.mp g; omega))
theorem m_renamed {G : rv_G} (hG : rv_GK G) {d : Nat} (hd : 2 ≤ d) {σ : rv_S} {S : List Nat} {b : Nat} {C : sp_C} (hS : mRel σ S) (hbd : mBody σ b C) (hw : sp_wfC S C) (hb : b < 17) {v : Nat} (hv : v < 1000) : mC G d yX4_renamed wX4_renamed [.int (nI b), .int (nI v)] σ (mPi (fun r τ => τ = σ ∧ r = nI (sp_ren (sp_ft C.its) v))) := by
  refine mv_start hG (by decide +kernel) (Nat.le_of_ble_eq_true rfl) (fun X Hb o hX1 hX hE => ?_)
  subst hX1
  show rv_V X (rv_mh Hb o _) 0 [some (.ref o), some (.int (nI b)), some (.int (nI v)), none, none, none, none, none, none] []
  have hl := hw.len
  let st : Nat → Nat → List Nat := fun i k => sp_ft (C.its.take i) ++ (sp_it C.its i).2.2.take k
  have outer : ∀ (n i : Nat) (m : Int32) (x y z : Option Value), i ≤ C.its.length → C.its.length - i < n → v ∉ sp_ft (C.its.take i) → mMsk m (fun u => decide (100 + u ∈ sp_ft (C.its.take i))) → rv_V X (rv_mh Hb o σ) 8 [some (.ref o), some (.int (nI b)), some (.int (nI v)), some (.int m), some (.int (nI (sp_vs (sp_ft (C.its.take i))).length)), some (.int (nI i)), x, y, z] [] := by
    intro n
    induction n with
    | zero => intro i m x y z h1 h2; omega
    | succ n ihO =>
      intro i m x y z h1 h2 h3 h4
      refine rv_iload hX dX4_renamed_8 rfl ?_
      refine rv_aload_n hX dX4_renamed_10 rfl ?_
      refine mv_ga hX (k := 6) (j := 6) gX4_25_X4 (by decide) rfl (by decide) dX4_renamed_11 ?_
      refine rv_iload_n hX dX4_renamed_14 rfl ?_
      refine mv_ld hX (j := 6) (by decide) (by decide) rfl (by decide) (show _ < 17 by omega) dX4_renamed_15 ?_
      rw [hbd.len]
      first | refine nv_icmp_ge hX 126 (by omega) (by omega) dX4_renamed_16 (by decide) (fun c_16 => ?_) (fun c_16 => ?_) | refine rv_icmp_ge hX 126 dX4_renamed_16 (by decide) (fun c_16 => ?_) (fun c_16 => ?_)
      · skip
        refine rv_iload hX dX4_renamed_126 rfl ?_
        refine mv_reti hX hE dX4_renamed_128 ?_
        refine ⟨rfl, ?_⟩
        rw [show i = C.its.length by omega, List.take_length] at h3 ⊢
        rw [sp_ren_all h3]
      · skip
        refine nv_iconst hX (m := 0) (by decide) dX4_renamed_19 ?_
        refine rv_istore hX dX4_renamed_20 (rv_st_6 rfl) ?_
        have hit := sp_it_some (its := C.its) (i := i) (by omega)
        generalize sp_it C.its i = it at hit
        have hmi := hbd.its i _ hit
        have hwi := hw.its _ (List.mem_of_getElem? hit)
        have hli := hwi.len hS.2.2.1
        have inner : ∀ (n k : Nat) (m : Int32) (y z : Option Value), k ≤ it.2.2.length → it.2.2.length - k < n → v ∉ sp_ft (C.its.take i) ++ it.2.2.take k → mMsk m (fun u => decide (100 + u ∈ sp_ft (C.its.take i) ++ it.2.2.take k)) → rv_V X (rv_mh Hb o σ) 22 [some (.ref o), some (.int (nI b)), some (.int (nI v)), some (.int m), some (.int (nI (sp_vs (sp_ft (C.its.take i) ++ it.2.2.take k)).length)), some (.int (nI i)), some (.int (nI k)), y, z] [] := by
          intro n
          induction n with
          | zero => intro k m y z g1 g2; omega
          | succ n ih =>
            intro k m y z g1 g2 g3 g4
            refine rv_iload hX dX4_renamed_22 rfl ?_
            refine rv_aload_n hX dX4_renamed_24 rfl ?_
            refine rv_iload_n hX dX4_renamed_25 rfl ?_
            refine rv_iload hX dX4_renamed_26 rfl ?_
            refine mv_calli hX iX4_299 rfl mdX4_termsOf (m_termsOf hG (d := d - 1) (by omega) (b := b) (i := i) (by omega) hS hmi hwi) (by omega) rfl rfl (Nat.le_of_ble_eq_true rfl) dX4_renamed_28 (fun r_28 τ_28 h_28 => ?_)
            obtain ⟨rfl, rfl⟩ := h_28
            first | refine nv_icmp_ge hX 120 (by omega) (by omega) dX4_renamed_31 (by decide) (fun c_31 => ?_) (fun c_31 => ?_) | refine rv_icmp_ge hX 120 dX4_renamed_31 (by decide) (fun c_31 => ?_) (fun c_31 => ?_)
            · skip
              rw [show it.2.2.take k = it.2.2 from List.take_of_length_le (by omega), ← sp_ft_take hit] at g3 g4 ⊢
              first | refine nv_iinc hX (m := 1) dX4_renamed_120 rfl (by decide) (rv_st_5 rfl) ?_ | refine rv_iinc hX dX4_renamed_120 rfl rfl (rv_st_5 rfl) ?_
              refine rv_goto hX 8 dX4_renamed_123 (by decide) ?_
              exact ihO (i + 1) _ _ _ _ (by omega) (by omega) g3 g4
            · skip
              obtain ⟨t, ht⟩ : ∃ t, it.2.2[k]? = some t := ⟨it.2.2[k]'(by omega), List.getElem?_eq_getElem (by omega)⟩
              have htk : sp_ft (C.its.take i) ++ it.2.2.take (k + 1) = (sp_ft (C.its.take i) ++ it.2.2.take k) ++ [t] := by rw [List.take_succ, ht, List.append_assoc]; rfl
              have ht8 := hwi.2.2.2.2 t (List.mem_of_getElem? ht)
              have htv := hmi.2.2 k t ht
              refine rv_aload_n hX dX4_renamed_34 rfl ?_
              refine rv_iload_n hX dX4_renamed_35 rfl ?_
              refine rv_iload hX dX4_renamed_36 rfl ?_
              refine rv_iload hX dX4_renamed_38 rfl ?_
              refine mv_calli hX iX4_172 rfl mdX4_termOf (m_termOf hG (d := d - 1) (b := b) (i := i) (k := k) (by omega)) (by omega) rfl rfl (Nat.le_of_ble_eq_true rfl) dX4_renamed_40 (fun r_40 τ_40 h_40 => ?_)
              obtain ⟨rfl, rfl⟩ := h_40
              rw [htv]
              refine rv_istore hX dX4_renamed_43 (rv_st_7 rfl) ?_
              refine rv_iload hX dX4_renamed_45 rfl ?_
              refine rv_iload_n hX dX4_renamed_47 rfl ?_
              first | refine nv_icmp_ne hX 54 (by omega) (by omega) dX4_renamed_48 (by decide) (fun c_48 => ?_) (fun c_48 => ?_) | refine rv_icmp_ne hX 54 dX4_renamed_48 (by decide) (fun c_48 => ?_) (fun c_48 => ?_)
              · skip
                have hg3 : v ∉ sp_ft (C.its.take i) ++ it.2.2.take (k + 1) := by
                  rw [htk]
                  intro q
                  rcases List.mem_append.mp q with q | q
                  · exact g3 q
                  · have := List.mem_singleton.mp q; omega
                refine rv_iload hX dX4_renamed_54 rfl ?_
                refine nv_bipush hX (m := 100) (by decide) dX4_renamed_56 ?_
                first | refine nv_icmp_lt hX 77 (by omega) (by omega) dX4_renamed_58 (by decide) (fun c_58 => ?_) (fun c_58 => ?_) | refine rv_icmp_lt hX 77 dX4_renamed_58 (by decide) (fun c_58 => ?_) (fun c_58 => ?_)
                · skip
                  have hnl : (sp_vs (sp_ft (C.its.take i) ++ it.2.2.take k)).length + 0 = (sp_vs (sp_ft (C.its.take i) ++ it.2.2.take (k + 1))).length := by
                    rw [htk, sp_vs_snoc, if_neg (fun q => by have := q.1; omega)]
                    rfl
                  have hmm := sp_msk_old htk (t := t) g4 (fun u hu => Nat.ne_of_gt (Nat.lt_of_lt_of_le c_58 hu))
                  refine nv_iconst hX (m := 0) (by decide) dX4_renamed_77 ?_
                  refine rv_istore hX dX4_renamed_78 (rv_st_8 rfl) ?_
                  refine rv_iload_n hX dX4_renamed_80 rfl ?_
                  refine rv_iload hX dX4_renamed_81 rfl ?_
                  refine rv_if_eq hX 96 dX4_renamed_83 (by decide) (fun _ => ?_) (fun q => absurd q (by decide))
                  refine nv_iconst hX (m := 0) (by decide) dX4_renamed_96 ?_
                  refine rv_ior hX dX4_renamed_97 ?_
                  refine rv_istore_n hX dX4_renamed_98 (rv_st_3 rfl) ?_
                  refine rv_iload hX dX4_renamed_99 rfl ?_
                  refine rv_iload hX dX4_renamed_101 rfl ?_
                  refine rv_if_eq hX 110 dX4_renamed_103 (by decide) (fun _ => ?_) (fun q => absurd q (by decide))
                  refine nv_iconst hX (m := 0) (by decide) dX4_renamed_110 ?_
                  first | refine nv_iadd hX dX4_renamed_111 ?_ | refine rv_iadd hX dX4_renamed_111 ?_
                  refine rv_istore hX dX4_renamed_112 (rv_st_4 rfl) ?_
                  first | refine nv_iinc hX (m := 1) dX4_renamed_114 rfl (by decide) (rv_st_6 rfl) ?_ | refine rv_iinc hX dX4_renamed_114 rfl rfl (rv_st_6 rfl) ?_
                  refine rv_goto hX 22 dX4_renamed_117 (by decide) ?_
                  rw [hnl]
                  exact ih (k + 1) _ _ _ (by omega) (by omega) hg3 hmm
                · skip
                  refine rv_iload_n hX dX4_renamed_61 rfl ?_
                  refine rv_iload hX dX4_renamed_62 rfl ?_
                  refine nv_bipush hX (m := 100) (by decide) dX4_renamed_64 ?_
                  first | refine nv_isub hX (by omega) dX4_renamed_66 ?_ | refine rv_isub hX dX4_renamed_66 ?_
                  refine rv_ishr hX dX4_renamed_67 ?_
                  refine nv_iconst hX (m := 1) (by decide) dX4_renamed_68 ?_
                  refine rv_iand hX dX4_renamed_69 ?_
                  first | refine zv_if_ne hX 77 dX4_renamed_70 (by decide) (fun c_70 => ?_) (fun c_70 => ?_) | refine nv_if_ne hX 77 (by omega) dX4_renamed_70 (by decide) (fun c_70 => ?_) (fun c_70 => ?_) | refine rv_if_ne hX 77 dX4_renamed_70 (by decide) (fun c_70 => ?_) (fun c_70 => ?_)
                  · skip
                    have hin : t ∈ sp_ft (C.its.take i) ++ it.2.2.take k := by
                      have h1 : ib m (t - 100) = true := by
                        cases e : ib m (t - 100) with
                        | true => rfl
                        | false => exact absurd ((ib_test0 (by omega) m).mpr e) c_70
                      rw [g4 (t - 100)] at h1
                      have h2 := of_decide_eq_true (Bool.and_eq_true_iff.mp h1).2
                      rw [show 100 + (t - 100) = t by omega] at h2
                      exact h2
                    have hnl : (sp_vs (sp_ft (C.its.take i) ++ it.2.2.take k)).length + 0 = (sp_vs (sp_ft (C.its.take i) ++ it.2.2.take (k + 1))).length := by
                      rw [htk, sp_vs_snoc, if_neg (fun q => q.2 (sp_vs_mem.mpr ⟨by omega, hin⟩))]
                      rfl
                    have hmm := sp_msk_in htk g4 hin
                    refine nv_iconst hX (m := 0) (by decide) dX4_renamed_77 ?_
                    refine rv_istore hX dX4_renamed_78 (rv_st_8 rfl) ?_
                    refine rv_iload_n hX dX4_renamed_80 rfl ?_
                    refine rv_iload hX dX4_renamed_81 rfl ?_
                    refine rv_if_eq hX 96 dX4_renamed_83 (by decide) (fun _ => ?_) (fun q => absurd q (by decide))
                    refine nv_iconst hX (m := 0) (by decide) dX4_renamed_96 ?_
                    refine rv_ior hX dX4_renamed_97 ?_
                    refine rv_istore_n hX dX4_renamed_98 (rv_st_3 rfl) ?_
                    refine rv_iload hX dX4_renamed_99 rfl ?_
                    refine rv_iload hX dX4_renamed_101 rfl ?_
                    refine rv_if_eq hX 110 dX4_renamed_103 (by decide) (fun _ => ?_) (fun q => absurd q (by decide))
                    refine nv_iconst hX (m := 0) (by decide) dX4_renamed_110 ?_
                    first | refine nv_iadd hX dX4_renamed_111 ?_ | refine rv_iadd hX dX4_renamed_111 ?_
                    refine rv_istore hX dX4_renamed_112 (rv_st_4 rfl) ?_
                    first | refine nv_iinc hX (m := 1) dX4_renamed_114 rfl (by decide) (rv_st_6 rfl) ?_ | refine rv_iinc hX dX4_renamed_114 rfl rfl (rv_st_6 rfl) ?_
                    refine rv_goto hX 22 dX4_renamed_117 (by decide) ?_
                    rw [hnl]
                    exact ih (k + 1) _ _ _ (by omega) (by omega) hg3 hmm
                  · skip
                    have hni : t ∉ sp_ft (C.its.take i) ++ it.2.2.take k := fun hin => by
                      have h1 := (ib_test0 (by omega) m).mp c_70
                      rw [g4 (t - 100), decide_eq_true (show t - 100 < 8 by omega)] at h1
                      exact of_decide_eq_false h1 (by rw [show 100 + (t - 100) = t by omega]; exact hin)
                    have hnl : (sp_vs (sp_ft (C.its.take i) ++ it.2.2.take k)).length + 1 = (sp_vs (sp_ft (C.its.take i) ++ it.2.2.take (k + 1))).length := by
                      rw [htk, sp_vs_snoc, if_pos ⟨by omega, fun q => hni (sp_vs_mem.mp q).2⟩, List.length_append]
                      rfl
                    have hmm := sp_msk_new htk g4 (t := t) (by omega) (by omega)
                    refine nv_iconst hX (m := 1) (by decide) dX4_renamed_73 ?_
                    refine rv_goto hX 78 dX4_renamed_74 (by decide) ?_
                    refine rv_istore hX dX4_renamed_78 (rv_st_8 rfl) ?_
                    refine rv_iload_n hX dX4_renamed_80 rfl ?_
                    refine rv_iload hX dX4_renamed_81 rfl ?_
                    refine rv_if_eq hX 96 dX4_renamed_83 (by decide) (fun q => absurd q (by decide)) (fun _ => ?_)
                    refine nv_iconst hX (m := 1) (by decide) dX4_renamed_86 ?_
                    refine rv_iload hX dX4_renamed_87 rfl ?_
                    refine nv_bipush hX (m := 100) (by decide) dX4_renamed_89 ?_
                    first | refine nv_isub hX (by omega) dX4_renamed_91 ?_ | refine rv_isub hX dX4_renamed_91 ?_
                    refine rv_ishl hX dX4_renamed_92 ?_
                    refine rv_goto hX 97 dX4_renamed_93 (by decide) ?_
                    refine rv_ior hX dX4_renamed_97 ?_
                    refine rv_istore_n hX dX4_renamed_98 (rv_st_3 rfl) ?_
                    refine rv_iload hX dX4_renamed_99 rfl ?_
                    refine rv_iload hX dX4_renamed_101 rfl ?_
                    refine rv_if_eq hX 110 dX4_renamed_103 (by decide) (fun q => absurd q (by decide)) (fun _ => ?_)
                    refine nv_iconst hX (m := 1) (by decide) dX4_renamed_106 ?_
                    refine rv_goto hX 111 dX4_renamed_107 (by decide) ?_
                    first | refine nv_iadd hX dX4_renamed_111 ?_ | refine rv_iadd hX dX4_renamed_111 ?_
                    refine rv_istore hX dX4_renamed_112 (rv_st_4 rfl) ?_
                    first | refine nv_iinc hX (m := 1) dX4_renamed_114 rfl (by decide) (rv_st_6 rfl) ?_ | refine rv_iinc hX dX4_renamed_114 rfl rfl (rv_st_6 rfl) ?_
                    refine rv_goto hX 22 dX4_renamed_117 (by decide) ?_
                    rw [hnl]
                    exact ih (k + 1) _ _ _ (by omega) (by omega) hg3 hmm
              · skip
                refine rv_iload hX dX4_renamed_51 rfl ?_
                refine mv_reti hX hE dX4_renamed_53 ?_
                refine ⟨rfl, ?_⟩
                have hvt : t = v := by omega
                rw [sp_ft_split (k := k) hit, List.drop_eq_getElem_cons (by omega), show it.2.2[k] = v from by rw [← hvt]; exact Option.some.inj ((List.getElem?_eq_getElem (by omega)).symm.trans ht), List.cons_append, sp_ren_at g3]
        have hh := inner (it.2.2.length + 1) 0 m y z (Nat.zero_le _) (by omega) (by rw [List.take_zero, List.append_nil]; exact h3) (by rw [List.take_zero, List.append_nil]; exact h4)
        rw [List.take_zero, List.append_nil] at hh
        exact hh
  refine nv_iconst hX (m := 0) (by decide) dX4_renamed_0 ?_
  refine rv_istore_n hX dX4_renamed_1 (rv_st_3 rfl) ?_
  refine nv_iconst hX (m := 0) (by decide) dX4_renamed_2 ?_
  refine rv_istore hX dX4_renamed_3 (rv_st_4 rfl) ?_
  refine nv_iconst hX (m := 0) (by decide) dX4_renamed_5 ?_
  refine rv_istore hX dX4_renamed_6 (rv_st_5 rfl) ?_
  exact outer (C.its.length + 1) 0 _ _ _ _ (Nat.zero_le _) (by omega) (by rw [List.take_zero]; exact fun h => by cases h) (mMsk.zero.cg (fun u _ => by rw [List.take_zero]; rfl))
