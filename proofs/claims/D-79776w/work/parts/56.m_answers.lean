/-! THE REFERENCE: answers -/
set_option maxRecDepth 100000
def sp_ansP (rel : Nat) (a b c : Int32) (f : Nat) : Bool := decide (f / 1000000 = rel ∧ (a = -1 ∨ nI (sp_slot f 0) = a) ∧ (b = -1 ∨ nI (sp_slot f 1) = b) ∧ (c = -1 ∨ nI (sp_slot f 2) = c))
def sp_ans (F : List Nat) (rel : Nat) (a b c : Int32) : Nat := (F.filter (sp_ansP rel a b c)).length
theorem sp_filter_take {F : List Nat} {p : Nat → Bool} {k f : Nat} (h : F[k]? = some f) : ((F.take (k + 1)).filter p).length = ((F.take k).filter p).length + (if p f = true then 1 else 0) := by
  rw [sp_take_get h, List.filter_append, List.length_append]
  congr 1
  by_cases e : p f = true
  · rw [List.filter_cons_of_pos e, if_pos e]
    rfl
  · rw [List.filter_cons_of_neg e, if_neg e]
    rfl
theorem m_answers {G : rv_G} (hG : rv_GK G) {d : Nat} (hd : 2 ≤ d) {σ : rv_S} {S F : List Nat} {r a b c : Int32} (hS : mRel σ S) (hF : mFacts σ F) : mC G d yX4_answers wX4_answers [.int r, .int a, .int b, .int c] σ (mPi (fun x τ => ((¬ ∃ k, k < S.length ∧ r = nI k) ∧ τ = rv_sF σ 0 (nI 1)) ∨ ∃ k s, S[k]? = some s ∧ r = nI k ∧ ((¬ sp_isg s a b c ∧ τ = rv_sF σ 0 (nI 2)) ∨ (sp_isg s a b c ∧ τ = rv_sF σ 0 (nI 0) ∧ x = nI (sp_ans F k a b c))))) := by
  refine mv_start hG (by decide +kernel) (Nat.le_of_ble_eq_true rfl) (fun X Hb o hX1 hX hE => ?_)
  subst hX1
  show rv_V X (rv_mh Hb o _) 0 [some (.ref o), some (.int r), some (.int a), some (.int b), some (.int c), none, none, none, none] []
  have hS8 := hS.2.1
  have hF6 := hF.2.1
  have loop : ∀ (rel s : Nat), S[rel]? = some s → r = nI rel → sp_isg s a b c → ∀ (n k : Nat) (x y : Option Value), k ≤ F.length → F.length - k < n → rv_V X (rv_mh Hb o (rv_sF σ 0 (nI 0))) 44 [some (.ref o), some (.int r), some (.int a), some (.int b), some (.int c), some (.int (nI ((F.take k).filter (sp_ansP rel a b c)).length)), some (.int (nI k)), x, y] [] := by
    intro rel s hs hr hg n
    have hrl := (List.getElem?_eq_some_iff.mp hs).1
    induction n with
    | zero => intro k x y h1 h2; omega
    | succ n ih =>
      intro k x y h1 h2
      have h6 : (rv_sF σ 0 (nI 0)).2.1 1 6 = nI F.length := hF.1
      subst hr
      refine rv_iload hX dX4_answers_44 rfl ?_
      refine rv_aload_n hX dX4_answers_46 rfl ?_
      refine mv_ga hX (k := 1) (j := 1) gX4_7_X4 (by decide) rfl (by decide) dX4_answers_47 ?_
      refine nv_bipush hX (m := 6) (by decide) dX4_answers_50 ?_
      refine mv_ld hX (j := 1) (by decide) (by decide) rfl (by decide) (show _ < 11 by omega) dX4_answers_52 ?_
      rw [h6]
      first | refine nv_icmp_ge hX 149 (by omega) (by omega) dX4_answers_53 (by decide) (fun c_53 => ?_) (fun c_53 => ?_) | refine rv_icmp_ge hX 149 dX4_answers_53 (by decide) (fun c_53 => ?_) (fun c_53 => ?_)
      · skip
        refine rv_iload hX dX4_answers_149 rfl ?_
        refine mv_reti hX hE dX4_answers_151 ?_
        refine Or.inr ⟨rel, s, hs, rfl, Or.inr ⟨hg, rfl, ?_⟩⟩
        unfold sp_ans
        rw [List.take_of_length_le (by omega)]
      · skip
        obtain ⟨f, hf⟩ : ∃ f, F[k]? = some f := ⟨F[k], List.getElem?_eq_getElem (by omega)⟩
        have hf8 := hF.2.2.1 f (List.mem_of_getElem? hf)
        have hfk : (rv_sF σ 0 (nI 0)).2.1 15 k = nI f := hF.2.2.2 k f hf
        have hct := sp_filter_take (p := sp_ansP rel a b c) hf
        refine rv_aload_n hX dX4_answers_56 rfl ?_
        refine mv_ga hX (k := 15) (j := 15) gX4_52_X4 (by decide) rfl (by decide) dX4_answers_57 ?_
        refine rv_iload hX dX4_answers_60 rfl ?_
        refine mv_ld hX (j := 15) (by decide) (by decide) rfl (by decide) (show _ < 62 by omega) dX4_answers_62 ?_
        rw [hfk]
        refine rv_istore hX dX4_answers_63 (rv_st_7 rfl) ?_
        refine rv_iload_n hX dX4_answers_65 rfl ?_
        refine rv_iconst hX (v := -1) dX4_answers_66 (by decide) ?_
        first | refine nv_icmp_eq hX 80 (by omega) (by omega) dX4_answers_67 (by decide) (fun c_67 => ?_) (fun c_67 => ?_) | refine rv_icmp_eq hX 80 dX4_answers_67 (by decide) (fun c_67 => ?_) (fun c_67 => ?_)
        · skip
          refine rv_iload_n hX dX4_answers_80 rfl ?_
          refine rv_iconst hX (v := -1) dX4_answers_81 (by decide) ?_
          first | refine nv_icmp_eq hX 95 (by omega) (by omega) dX4_answers_82 (by decide) (fun c_82 => ?_) (fun c_82 => ?_) | refine rv_icmp_eq hX 95 dX4_answers_82 (by decide) (fun c_82 => ?_) (fun c_82 => ?_)
          · skip
            refine rv_iload hX dX4_answers_95 rfl ?_
            refine rv_iconst hX (v := -1) dX4_answers_97 (by decide) ?_
            first | refine nv_icmp_eq hX 112 (by omega) (by omega) dX4_answers_98 (by decide) (fun c_98 => ?_) (fun c_98 => ?_) | refine rv_icmp_eq hX 112 dX4_answers_98 (by decide) (fun c_98 => ?_) (fun c_98 => ?_)
            · skip
              refine nv_iconst hX (m := 1) (by decide) dX4_answers_112 ?_
              refine rv_goto hX 117 dX4_answers_113 (by decide) ?_
              refine rv_istore hX dX4_answers_117 (rv_st_8 rfl) ?_
              refine rv_iload hX dX4_answers_119 rfl ?_
              refine rv_iload hX dX4_answers_121 rfl ?_
              refine rv_if_eq hX 139 dX4_answers_123 (by decide) (fun q => absurd q (by decide)) (fun _ => ?_)
              refine rv_iload hX dX4_answers_126 rfl ?_
              refine rv_ldc hX q2291 dX4_answers_128 ?_
              rw [show (1000000 : Int32) = nI 1000000 from by decide]
              first | refine nv_idiv hX (by omega) (by omega) (by omega) dX4_answers_130 ?_ | refine rv_idiv hX dX4_answers_130 (by decide) ?_
              refine rv_iload_n hX dX4_answers_131 rfl ?_
              first | refine nv_icmp_ne hX 139 (by omega) (by omega) dX4_answers_132 (by decide) (fun c_132 => ?_) (fun c_132 => ?_) | refine rv_icmp_ne hX 139 dX4_answers_132 (by decide) (fun c_132 => ?_) (fun c_132 => ?_)
              · skip
                refine nv_iconst hX (m := 0) (by decide) dX4_answers_139 ?_
                first | refine nv_iadd hX dX4_answers_140 ?_ | refine rv_iadd hX dX4_answers_140 ?_
                refine rv_istore hX dX4_answers_141 (rv_st_5 rfl) ?_
                first | refine nv_iinc hX (m := 1) dX4_answers_143 rfl (by decide) (rv_st_6 rfl) ?_ | refine rv_iinc hX dX4_answers_143 rfl rfl (rv_st_6 rfl) ?_
                refine rv_goto hX 44 dX4_answers_146 (by decide) ?_
                have h9 := fun x y => ih (k + 1) x y (by omega) (by omega)
                rw [hct] at h9
                first
                  | (rw [if_pos (by
                      unfold sp_ansP
                      refine decide_eq_true ⟨c_132, ?_, ?_, ?_⟩
                      · first
                          | exact Or.inl c_67
                          | exact Or.inr c_77
                      · first
                          | exact Or.inl c_82
                          | exact Or.inr c_92
                      · first
                          | exact Or.inl c_98
                          | exact Or.inr c_109)] at h9
                     exact h9 _ _)
                  | (rw [if_neg (by
                      unfold sp_ansP
                      rw [decide_eq_true_iff]
                      rintro ⟨q0, q1, q2, q3⟩
                      first
                        | exact c_132 q0
                        | exact q1.elim c_67 c_77
                        | exact q2.elim c_82 c_92
                        | exact q3.elim c_98 c_109)] at h9
                     exact h9 _ _)
              · skip
                refine nv_iconst hX (m := 1) (by decide) dX4_answers_135 ?_
                refine rv_goto hX 140 dX4_answers_136 (by decide) ?_
                first | refine nv_iadd hX dX4_answers_140 ?_ | refine rv_iadd hX dX4_answers_140 ?_
                refine rv_istore hX dX4_answers_141 (rv_st_5 rfl) ?_
                first | refine nv_iinc hX (m := 1) dX4_answers_143 rfl (by decide) (rv_st_6 rfl) ?_ | refine rv_iinc hX dX4_answers_143 rfl rfl (rv_st_6 rfl) ?_
                refine rv_goto hX 44 dX4_answers_146 (by decide) ?_
                have h9 := fun x y => ih (k + 1) x y (by omega) (by omega)
                rw [hct] at h9
                first
                  | (rw [if_pos (by
                      unfold sp_ansP
                      refine decide_eq_true ⟨c_132, ?_, ?_, ?_⟩
                      · first
                          | exact Or.inl c_67
                          | exact Or.inr c_77
                      · first
                          | exact Or.inl c_82
                          | exact Or.inr c_92
                      · first
                          | exact Or.inl c_98
                          | exact Or.inr c_109)] at h9
                     exact h9 _ _)
                  | (rw [if_neg (by
                      unfold sp_ansP
                      rw [decide_eq_true_iff]
                      rintro ⟨q0, q1, q2, q3⟩
                      first
                        | exact c_132 q0
                        | exact q1.elim c_67 c_77
                        | exact q2.elim c_82 c_92
                        | exact q3.elim c_98 c_109)] at h9
                     exact h9 _ _)
            · skip
              refine rv_iload hX dX4_answers_101 rfl ?_
              refine nv_iconst hX (m := 2) (by decide) dX4_answers_103 ?_
              refine sv_calli hX iX4_176 mdX4_slotOf (m_slotOf hG (d := d - 1) hf8 (by omega)) (by omega) rfl rfl (Nat.le_of_ble_eq_true rfl) dX4_answers_104 (fun r_104 h_104 => ?_)
              obtain rfl := h_104
              refine rv_iload hX dX4_answers_107 rfl ?_
              first | refine nv_icmp_ne hX 116 (by omega) (by omega) dX4_answers_109 (by decide) (fun c_109 => ?_) (fun c_109 => ?_) | refine rv_icmp_ne hX 116 dX4_answers_109 (by decide) (fun c_109 => ?_) (fun c_109 => ?_)
              · skip
                refine nv_iconst hX (m := 0) (by decide) dX4_answers_116 ?_
                refine rv_istore hX dX4_answers_117 (rv_st_8 rfl) ?_
                refine rv_iload hX dX4_answers_119 rfl ?_
                refine rv_iload hX dX4_answers_121 rfl ?_
                refine rv_if_eq hX 139 dX4_answers_123 (by decide) (fun _ => ?_) (fun q => absurd q (by decide))
                refine nv_iconst hX (m := 0) (by decide) dX4_answers_139 ?_
                first | refine nv_iadd hX dX4_answers_140 ?_ | refine rv_iadd hX dX4_answers_140 ?_
                refine rv_istore hX dX4_answers_141 (rv_st_5 rfl) ?_
                first | refine nv_iinc hX (m := 1) dX4_answers_143 rfl (by decide) (rv_st_6 rfl) ?_ | refine rv_iinc hX dX4_answers_143 rfl rfl (rv_st_6 rfl) ?_
                refine rv_goto hX 44 dX4_answers_146 (by decide) ?_
                have h9 := fun x y => ih (k + 1) x y (by omega) (by omega)
                rw [hct] at h9
                first
                  | (rw [if_pos (by
                      unfold sp_ansP
                      refine decide_eq_true ⟨c_132, ?_, ?_, ?_⟩
                      · first
                          | exact Or.inl c_67
                          | exact Or.inr c_77
                      · first
                          | exact Or.inl c_82
                          | exact Or.inr c_92
                      · first
                          | exact Or.inl c_98
                          | exact Or.inr c_109)] at h9
                     exact h9 _ _)
                  | (rw [if_neg (by
                      unfold sp_ansP
                      rw [decide_eq_true_iff]
                      rintro ⟨q0, q1, q2, q3⟩
                      first
                        | exact c_132 q0
                        | exact q1.elim c_67 c_77
                        | exact q2.elim c_82 c_92
                        | exact q3.elim c_98 c_109)] at h9
                     exact h9 _ _)
              · skip
                refine nv_iconst hX (m := 1) (by decide) dX4_answers_112 ?_
                refine rv_goto hX 117 dX4_answers_113 (by decide) ?_
                refine rv_istore hX dX4_answers_117 (rv_st_8 rfl) ?_
                refine rv_iload hX dX4_answers_119 rfl ?_
                refine rv_iload hX dX4_answers_121 rfl ?_
                refine rv_if_eq hX 139 dX4_answers_123 (by decide) (fun q => absurd q (by decide)) (fun _ => ?_)
                refine rv_iload hX dX4_answers_126 rfl ?_
                refine rv_ldc hX q2291 dX4_answers_128 ?_
                rw [show (1000000 : Int32) = nI 1000000 from by decide]
                first | refine nv_idiv hX (by omega) (by omega) (by omega) dX4_answers_130 ?_ | refine rv_idiv hX dX4_answers_130 (by decide) ?_
                refine rv_iload_n hX dX4_answers_131 rfl ?_
                first | refine nv_icmp_ne hX 139 (by omega) (by omega) dX4_answers_132 (by decide) (fun c_132 => ?_) (fun c_132 => ?_) | refine rv_icmp_ne hX 139 dX4_answers_132 (by decide) (fun c_132 => ?_) (fun c_132 => ?_)
                · skip
                  refine nv_iconst hX (m := 0) (by decide) dX4_answers_139 ?_
                  first | refine nv_iadd hX dX4_answers_140 ?_ | refine rv_iadd hX dX4_answers_140 ?_
                  refine rv_istore hX dX4_answers_141 (rv_st_5 rfl) ?_
                  first | refine nv_iinc hX (m := 1) dX4_answers_143 rfl (by decide) (rv_st_6 rfl) ?_ | refine rv_iinc hX dX4_answers_143 rfl rfl (rv_st_6 rfl) ?_
                  refine rv_goto hX 44 dX4_answers_146 (by decide) ?_
                  have h9 := fun x y => ih (k + 1) x y (by omega) (by omega)
                  rw [hct] at h9
                  first
                    | (rw [if_pos (by
                        unfold sp_ansP
                        refine decide_eq_true ⟨c_132, ?_, ?_, ?_⟩
                        · first
                            | exact Or.inl c_67
                            | exact Or.inr c_77
                        · first
                            | exact Or.inl c_82
                            | exact Or.inr c_92
                        · first
                            | exact Or.inl c_98
                            | exact Or.inr c_109)] at h9
                       exact h9 _ _)
                    | (rw [if_neg (by
                        unfold sp_ansP
                        rw [decide_eq_true_iff]
                        rintro ⟨q0, q1, q2, q3⟩
                        first
                          | exact c_132 q0
                          | exact q1.elim c_67 c_77
                          | exact q2.elim c_82 c_92
                          | exact q3.elim c_98 c_109)] at h9
                       exact h9 _ _)
                · skip
                  refine nv_iconst hX (m := 1) (by decide) dX4_answers_135 ?_
                  refine rv_goto hX 140 dX4_answers_136 (by decide) ?_
                  first | refine nv_iadd hX dX4_answers_140 ?_ | refine rv_iadd hX dX4_answers_140 ?_
                  refine rv_istore hX dX4_answers_141 (rv_st_5 rfl) ?_
                  first | refine nv_iinc hX (m := 1) dX4_answers_143 rfl (by decide) (rv_st_6 rfl) ?_ | refine rv_iinc hX dX4_answers_143 rfl rfl (rv_st_6 rfl) ?_
                  refine rv_goto hX 44 dX4_answers_146 (by decide) ?_
                  have h9 := fun x y => ih (k + 1) x y (by omega) (by omega)
                  rw [hct] at h9
                  first
                    | (rw [if_pos (by
                        unfold sp_ansP
                        refine decide_eq_true ⟨c_132, ?_, ?_, ?_⟩
                        · first
                            | exact Or.inl c_67
                            | exact Or.inr c_77
                        · first
                            | exact Or.inl c_82
                            | exact Or.inr c_92
                        · first
                            | exact Or.inl c_98
                            | exact Or.inr c_109)] at h9
                       exact h9 _ _)
                    | (rw [if_neg (by
                        unfold sp_ansP
                        rw [decide_eq_true_iff]
                        rintro ⟨q0, q1, q2, q3⟩
                        first
                          | exact c_132 q0
                          | exact q1.elim c_67 c_77
                          | exact q2.elim c_82 c_92
                          | exact q3.elim c_98 c_109)] at h9
                       exact h9 _ _)
          · skip
            refine rv_iload hX dX4_answers_85 rfl ?_
            refine nv_iconst hX (m := 1) (by decide) dX4_answers_87 ?_
            refine sv_calli hX iX4_176 mdX4_slotOf (m_slotOf hG (d := d - 1) hf8 (by omega)) (by omega) rfl rfl (Nat.le_of_ble_eq_true rfl) dX4_answers_88 (fun r_88 h_88 => ?_)
            obtain rfl := h_88
            refine rv_iload_n hX dX4_answers_91 rfl ?_
            first | refine nv_icmp_ne hX 116 (by omega) (by omega) dX4_answers_92 (by decide) (fun c_92 => ?_) (fun c_92 => ?_) | refine rv_icmp_ne hX 116 dX4_answers_92 (by decide) (fun c_92 => ?_) (fun c_92 => ?_)
            · skip
              refine nv_iconst hX (m := 0) (by decide) dX4_answers_116 ?_
              refine rv_istore hX dX4_answers_117 (rv_st_8 rfl) ?_
              refine rv_iload hX dX4_answers_119 rfl ?_
              refine rv_iload hX dX4_answers_121 rfl ?_
              refine rv_if_eq hX 139 dX4_answers_123 (by decide) (fun _ => ?_) (fun q => absurd q (by decide))
              refine nv_iconst hX (m := 0) (by decide) dX4_answers_139 ?_
              first | refine nv_iadd hX dX4_answers_140 ?_ | refine rv_iadd hX dX4_answers_140 ?_
              refine rv_istore hX dX4_answers_141 (rv_st_5 rfl) ?_
              first | refine nv_iinc hX (m := 1) dX4_answers_143 rfl (by decide) (rv_st_6 rfl) ?_ | refine rv_iinc hX dX4_answers_143 rfl rfl (rv_st_6 rfl) ?_
              refine rv_goto hX 44 dX4_answers_146 (by decide) ?_
              have h9 := fun x y => ih (k + 1) x y (by omega) (by omega)
              rw [hct] at h9
              first
                | (rw [if_pos (by
                    unfold sp_ansP
                    refine decide_eq_true ⟨c_132, ?_, ?_, ?_⟩
                    · first
                        | exact Or.inl c_67
                        | exact Or.inr c_77
                    · first
                        | exact Or.inl c_82
                        | exact Or.inr c_92
                    · first
                        | exact Or.inl c_98
                        | exact Or.inr c_109)] at h9
                   exact h9 _ _)
                | (rw [if_neg (by
                    unfold sp_ansP
                    rw [decide_eq_true_iff]
                    rintro ⟨q0, q1, q2, q3⟩
                    first
                      | exact c_132 q0
                      | exact q1.elim c_67 c_77
                      | exact q2.elim c_82 c_92
                      | exact q3.elim c_98 c_109)] at h9
                   exact h9 _ _)
            · skip
              refine rv_iload hX dX4_answers_95 rfl ?_
              refine rv_iconst hX (v := -1) dX4_answers_97 (by decide) ?_
              first | refine nv_icmp_eq hX 112 (by omega) (by omega) dX4_answers_98 (by decide) (fun c_98 => ?_) (fun c_98 => ?_) | refine rv_icmp_eq hX 112 dX4_answers_98 (by decide) (fun c_98 => ?_) (fun c_98 => ?_)
              · skip
                refine nv_iconst hX (m := 1) (by decide) dX4_answers_112 ?_
                refine rv_goto hX 117 dX4_answers_113 (by decide) ?_
                refine rv_istore hX dX4_answers_117 (rv_st_8 rfl) ?_
                refine rv_iload hX dX4_answers_119 rfl ?_
                refine rv_iload hX dX4_answers_121 rfl ?_
                refine rv_if_eq hX 139 dX4_answers_123 (by decide) (fun q => absurd q (by decide)) (fun _ => ?_)
                refine rv_iload hX dX4_answers_126 rfl ?_
                refine rv_ldc hX q2291 dX4_answers_128 ?_
                rw [show (1000000 : Int32) = nI 1000000 from by decide]
                first | refine nv_idiv hX (by omega) (by omega) (by omega) dX4_answers_130 ?_ | refine rv_idiv hX dX4_answers_130 (by decide) ?_
                refine rv_iload_n hX dX4_answers_131 rfl ?_
                first | refine nv_icmp_ne hX 139 (by omega) (by omega) dX4_answers_132 (by decide) (fun c_132 => ?_) (fun c_132 => ?_) | refine rv_icmp_ne hX 139 dX4_answers_132 (by decide) (fun c_132 => ?_) (fun c_132 => ?_)
                · skip
                  refine nv_iconst hX (m := 0) (by decide) dX4_answers_139 ?_
                  first | refine nv_iadd hX dX4_answers_140 ?_ | refine rv_iadd hX dX4_answers_140 ?_
                  refine rv_istore hX dX4_answers_141 (rv_st_5 rfl) ?_
                  first | refine nv_iinc hX (m := 1) dX4_answers_143 rfl (by decide) (rv_st_6 rfl) ?_ | refine rv_iinc hX dX4_answers_143 rfl rfl (rv_st_6 rfl) ?_
                  refine rv_goto hX 44 dX4_answers_146 (by decide) ?_
                  have h9 := fun x y => ih (k + 1) x y (by omega) (by omega)
                  rw [hct] at h9
                  first
                    | (rw [if_pos (by
                        unfold sp_ansP
                        refine decide_eq_true ⟨c_132, ?_, ?_, ?_⟩
                        · first
                            | exact Or.inl c_67
                            | exact Or.inr c_77
                        · first
                            | exact Or.inl c_82
                            | exact Or.inr c_92
                        · first
                            | exact Or.inl c_98
                            | exact Or.inr c_109)] at h9
                       exact h9 _ _)
                    | (rw [if_neg (by
                        unfold sp_ansP
                        rw [decide_eq_true_iff]
                        rintro ⟨q0, q1, q2, q3⟩
                        first
                          | exact c_132 q0
                          | exact q1.elim c_67 c_77
                          | exact q2.elim c_82 c_92
                          | exact q3.elim c_98 c_109)] at h9
                       exact h9 _ _)
                · skip
                  refine nv_iconst hX (m := 1) (by decide) dX4_answers_135 ?_
                  refine rv_goto hX 140 dX4_answers_136 (by decide) ?_
                  first | refine nv_iadd hX dX4_answers_140 ?_ | refine rv_iadd hX dX4_answers_140 ?_
                  refine rv_istore hX dX4_answers_141 (rv_st_5 rfl) ?_
                  first | refine nv_iinc hX (m := 1) dX4_answers_143 rfl (by decide) (rv_st_6 rfl) ?_ | refine rv_iinc hX dX4_answers_143 rfl rfl (rv_st_6 rfl) ?_
                  refine rv_goto hX 44 dX4_answers_146 (by decide) ?_
                  have h9 := fun x y => ih (k + 1) x y (by omega) (by omega)
                  rw [hct] at h9
                  first
                    | (rw [if_pos (by
                        unfold sp_ansP
                        refine decide_eq_true ⟨c_132, ?_, ?_, ?_⟩
                        · first
                            | exact Or.inl c_67
                            | exact Or.inr c_77
                        · first
                            | exact Or.inl c_82
                            | exact Or.inr c_92
                        · first
                            | exact Or.inl c_98
                            | exact Or.inr c_109)] at h9
                       exact h9 _ _)
                    | (rw [if_neg (by
                        unfold sp_ansP
                        rw [decide_eq_true_iff]
                        rintro ⟨q0, q1, q2, q3⟩
                        first
                          | exact c_132 q0
                          | exact q1.elim c_67 c_77
                          | exact q2.elim c_82 c_92
                          | exact q3.elim c_98 c_109)] at h9
                       exact h9 _ _)
              · skip
                refine rv_iload hX dX4_answers_101 rfl ?_
                refine nv_iconst hX (m := 2) (by decide) dX4_answers_103 ?_
                refine sv_calli hX iX4_176 mdX4_slotOf (m_slotOf hG (d := d - 1) hf8 (by omega)) (by omega) rfl rfl (Nat.le_of_ble_eq_true rfl) dX4_answers_104 (fun r_104 h_104 => ?_)
                obtain rfl := h_104
                refine rv_iload hX dX4_answers_107 rfl ?_
                first | refine nv_icmp_ne hX 116 (by omega) (by omega) dX4_answers_109 (by decide) (fun c_109 => ?_) (fun c_109 => ?_) | refine rv_icmp_ne hX 116 dX4_answers_109 (by decide) (fun c_109 => ?_) (fun c_109 => ?_)
                · skip
                  refine nv_iconst hX (m := 0) (by decide) dX4_answers_116 ?_
                  refine rv_istore hX dX4_answers_117 (rv_st_8 rfl) ?_
                  refine rv_iload hX dX4_answers_119 rfl ?_
                  refine rv_iload hX dX4_answers_121 rfl ?_
                  refine rv_if_eq hX 139 dX4_answers_123 (by decide) (fun _ => ?_) (fun q => absurd q (by decide))
                  refine nv_iconst hX (m := 0) (by decide) dX4_answers_139 ?_
                  first | refine nv_iadd hX dX4_answers_140 ?_ | refine rv_iadd hX dX4_answers_140 ?_
                  refine rv_istore hX dX4_answers_141 (rv_st_5 rfl) ?_
                  first | refine nv_iinc hX (m := 1) dX4_answers_143 rfl (by decide) (rv_st_6 rfl) ?_ | refine rv_iinc hX dX4_answers_143 rfl rfl (rv_st_6 rfl) ?_
                  refine rv_goto hX 44 dX4_answers_146 (by decide) ?_
                  have h9 := fun x y => ih (k + 1) x y (by omega) (by omega)
                  rw [hct] at h9
                  first
                    | (rw [if_pos (by
                        unfold sp_ansP
                        refine decide_eq_true ⟨c_132, ?_, ?_, ?_⟩
                        · first
                            | exact Or.inl c_67
                            | exact Or.inr c_77
                        · first
                            | exact Or.inl c_82
                            | exact Or.inr c_92
                        · first
                            | exact Or.inl c_98
                            | exact Or.inr c_109)] at h9
                       exact h9 _ _)
                    | (rw [if_neg (by
                        unfold sp_ansP
                        rw [decide_eq_true_iff]
                        rintro ⟨q0, q1, q2, q3⟩
                        first
                          | exact c_132 q0
                          | exact q1.elim c_67 c_77
                          | exact q2.elim c_82 c_92
                          | exact q3.elim c_98 c_109)] at h9
                       exact h9 _ _)
                · skip
                  refine nv_iconst hX (m := 1) (by decide) dX4_answers_112 ?_
                  refine rv_goto hX 117 dX4_answers_113 (by decide) ?_
                  refine rv_istore hX dX4_answers_117 (rv_st_8 rfl) ?_
                  refine rv_iload hX dX4_answers_119 rfl ?_
                  refine rv_iload hX dX4_answers_121 rfl ?_
                  refine rv_if_eq hX 139 dX4_answers_123 (by decide) (fun q => absurd q (by decide)) (fun _ => ?_)
                  refine rv_iload hX dX4_answers_126 rfl ?_
                  refine rv_ldc hX q2291 dX4_answers_128 ?_
                  rw [show (1000000 : Int32) = nI 1000000 from by decide]
                  first | refine nv_idiv hX (by omega) (by omega) (by omega) dX4_answers_130 ?_ | refine rv_idiv hX dX4_answers_130 (by decide) ?_
                  refine rv_iload_n hX dX4_answers_131 rfl ?_
                  first | refine nv_icmp_ne hX 139 (by omega) (by omega) dX4_answers_132 (by decide) (fun c_132 => ?_) (fun c_132 => ?_) | refine rv_icmp_ne hX 139 dX4_answers_132 (by decide) (fun c_132 => ?_) (fun c_132 => ?_)
                  · skip
                    refine nv_iconst hX (m := 0) (by decide) dX4_answers_139 ?_
                    first | refine nv_iadd hX dX4_answers_140 ?_ | refine rv_iadd hX dX4_answers_140 ?_
                    refine rv_istore hX dX4_answers_141 (rv_st_5 rfl) ?_
                    first | refine nv_iinc hX (m := 1) dX4_answers_143 rfl (by decide) (rv_st_6 rfl) ?_ | refine rv_iinc hX dX4_answers_143 rfl rfl (rv_st_6 rfl) ?_
                    refine rv_goto hX 44 dX4_answers_146 (by decide) ?_
                    have h9 := fun x y => ih (k + 1) x y (by omega) (by omega)
                    rw [hct] at h9
                    first
                      | (rw [if_pos (by
                          unfold sp_ansP
                          refine decide_eq_true ⟨c_132, ?_, ?_, ?_⟩
                          · first
                              | exact Or.inl c_67
                              | exact Or.inr c_77
                          · first
                              | exact Or.inl c_82
                              | exact Or.inr c_92
                          · first
                              | exact Or.inl c_98
                              | exact Or.inr c_109)] at h9
                         exact h9 _ _)
                      | (rw [if_neg (by
                          unfold sp_ansP
                          rw [decide_eq_true_iff]
                          rintro ⟨q0, q1, q2, q3⟩
                          first
                            | exact c_132 q0
                            | exact q1.elim c_67 c_77
                            | exact q2.elim c_82 c_92
                            | exact q3.elim c_98 c_109)] at h9
                         exact h9 _ _)
                  · skip
                    refine nv_iconst hX (m := 1) (by decide) dX4_answers_135 ?_
                    refine rv_goto hX 140 dX4_answers_136 (by decide) ?_
                    first | refine nv_iadd hX dX4_answers_140 ?_ | refine rv_iadd hX dX4_answers_140 ?_
                    refine rv_istore hX dX4_answers_141 (rv_st_5 rfl) ?_
                    first | refine nv_iinc hX (m := 1) dX4_answers_143 rfl (by decide) (rv_st_6 rfl) ?_ | refine rv_iinc hX dX4_answers_143 rfl rfl (rv_st_6 rfl) ?_
                    refine rv_goto hX 44 dX4_answers_146 (by decide) ?_
                    have h9 := fun x y => ih (k + 1) x y (by omega) (by omega)
                    rw [hct] at h9
                    first
                      | (rw [if_pos (by
                          unfold sp_ansP
                          refine decide_eq_true ⟨c_132, ?_, ?_, ?_⟩
                          · first
                              | exact Or.inl c_67
                              | exact Or.inr c_77
                          · first
                              | exact Or.inl c_82
                              | exact Or.inr c_92
                          · first
                              | exact Or.inl c_98
                              | exact Or.inr c_109)] at h9
                         exact h9 _ _)
                      | (rw [if_neg (by
                          unfold sp_ansP
                          rw [decide_eq_true_iff]
                          rintro ⟨q0, q1, q2, q3⟩
                          first
                            | exact c_132 q0
                            | exact q1.elim c_67 c_77
                            | exact q2.elim c_82 c_92
                            | exact q3.elim c_98 c_109)] at h9
                         exact h9 _ _)
        · skip
          refine rv_iload hX dX4_answers_70 rfl ?_
          refine nv_iconst hX (m := 0) (by decide) dX4_answers_72 ?_
          refine sv_calli hX iX4_176 mdX4_slotOf (m_slotOf hG (d := d - 1) hf8 (by omega)) (by omega) rfl rfl (Nat.le_of_ble_eq_true rfl) dX4_answers_73 (fun r_73 h_73 => ?_)
          obtain rfl := h_73
          refine rv_iload_n hX dX4_answers_76 rfl ?_
          first | refine nv_icmp_ne hX 116 (by omega) (by omega) dX4_answers_77 (by decide) (fun c_77 => ?_) (fun c_77 => ?_) | refine rv_icmp_ne hX 116 dX4_answers_77 (by decide) (fun c_77 => ?_) (fun c_77 => ?_)
          · skip
            refine nv_iconst hX (m := 0) (by decide) dX4_answers_116 ?_
            refine rv_istore hX dX4_answers_117 (rv_st_8 rfl) ?_
            refine rv_iload hX dX4_answers_119 rfl ?_
            refine rv_iload hX dX4_answers_121 rfl ?_
            refine rv_if_eq hX 139 dX4_answers_123 (by decide) (fun _ => ?_) (fun q => absurd q (by decide))
            refine nv_iconst hX (m := 0) (by decide) dX4_answers_139 ?_
            first | refine nv_iadd hX dX4_answers_140 ?_ | refine rv_iadd hX dX4_answers_140 ?_
            refine rv_istore hX dX4_answers_141 (rv_st_5 rfl) ?_
            first | refine nv_iinc hX (m := 1) dX4_answers_143 rfl (by decide) (rv_st_6 rfl) ?_ | refine rv_iinc hX dX4_answers_143 rfl rfl (rv_st_6 rfl) ?_
            refine rv_goto hX 44 dX4_answers_146 (by decide) ?_
            have h9 := fun x y => ih (k + 1) x y (by omega) (by omega)
            rw [hct] at h9
            first
              | (rw [if_pos (by
                  unfold sp_ansP
                  refine decide_eq_true ⟨c_132, ?_, ?_, ?_⟩
                  · first
                      | exact Or.inl c_67
                      | exact Or.inr c_77
                  · first
                      | exact Or.inl c_82
                      | exact Or.inr c_92
                  · first
                      | exact Or.inl c_98
                      | exact Or.inr c_109)] at h9
                 exact h9 _ _)
              | (rw [if_neg (by
                  unfold sp_ansP
                  rw [decide_eq_true_iff]
                  rintro ⟨q0, q1, q2, q3⟩
                  first
                    | exact c_132 q0
                    | exact q1.elim c_67 c_77
                    | exact q2.elim c_82 c_92
                    | exact q3.elim c_98 c_109)] at h9
                 exact h9 _ _)
          · skip
            refine rv_iload_n hX dX4_answers_80 rfl ?_
            refine rv_iconst hX (v := -1) dX4_answers_81 (by decide) ?_
            first | refine nv_icmp_eq hX 95 (by omega) (by omega) dX4_answers_82 (by decide) (fun c_82 => ?_) (fun c_82 => ?_) | refine rv_icmp_eq hX 95 dX4_answers_82 (by decide) (fun c_82 => ?_) (fun c_82 => ?_)
            · skip
              refine rv_iload hX dX4_answers_95 rfl ?_
              refine rv_iconst hX (v := -1) dX4_answers_97 (by decide) ?_
              first | refine nv_icmp_eq hX 112 (by omega) (by omega) dX4_answers_98 (by decide) (fun c_98 => ?_) (fun c_98 => ?_) | refine rv_icmp_eq hX 112 dX4_answers_98 (by decide) (fun c_98 => ?_) (fun c_98 => ?_)
              · skip
                refine nv_iconst hX (m := 1) (by decide) dX4_answers_112 ?_
                refine rv_goto hX 117 dX4_answers_113 (by decide) ?_
                refine rv_istore hX dX4_answers_117 (rv_st_8 rfl) ?_
                refine rv_iload hX dX4_answers_119 rfl ?_
                refine rv_iload hX dX4_answers_121 rfl ?_
                refine rv_if_eq hX 139 dX4_answers_123 (by decide) (fun q => absurd q (by decide)) (fun _ => ?_)
                refine rv_iload hX dX4_answers_126 rfl ?_
                refine rv_ldc hX q2291 dX4_answers_128 ?_
                rw [show (1000000 : Int32) = nI 1000000 from by decide]
                first | refine nv_idiv hX (by omega) (by omega) (by omega) dX4_answers_130 ?_ | refine rv_idiv hX dX4_answers_130 (by decide) ?_
                refine rv_iload_n hX dX4_answers_131 rfl ?_
                first | refine nv_icmp_ne hX 139 (by omega) (by omega) dX4_answers_132 (by decide) (fun c_132 => ?_) (fun c_132 => ?_) | refine rv_icmp_ne hX 139 dX4_answers_132 (by decide) (fun c_132 => ?_) (fun c_132 => ?_)
                · skip
                  refine nv_iconst hX (m := 0) (by decide) dX4_answers_139 ?_
                  first | refine nv_iadd hX dX4_answers_140 ?_ | refine rv_iadd hX dX4_answers_140 ?_
                  refine rv_istore hX dX4_answers_141 (rv_st_5 rfl) ?_
                  first | refine nv_iinc hX (m := 1) dX4_answers_143 rfl (by decide) (rv_st_6 rfl) ?_ | refine rv_iinc hX dX4_answers_143 rfl rfl (rv_st_6 rfl) ?_
                  refine rv_goto hX 44 dX4_answers_146 (by decide) ?_
                  have h9 := fun x y => ih (k + 1) x y (by omega) (by omega)
                  rw [hct] at h9
                  first
                    | (rw [if_pos (by
                        unfold sp_ansP
                        refine decide_eq_true ⟨c_132, ?_, ?_, ?_⟩
                        · first
                            | exact Or.inl c_67
                            | exact Or.inr c_77
                        · first
                            | exact Or.inl c_82
                            | exact Or.inr c_92
                        · first
                            | exact Or.inl c_98
                            | exact Or.inr c_109)] at h9
                       exact h9 _ _)
                    | (rw [if_neg (by
                        unfold sp_ansP
                        rw [decide_eq_true_iff]
                        rintro ⟨q0, q1, q2, q3⟩
                        first
                          | exact c_132 q0
                          | exact q1.elim c_67 c_77
                          | exact q2.elim c_82 c_92
                          | exact q3.elim c_98 c_109)] at h9
                       exact h9 _ _)
                · skip
                  refine nv_iconst hX (m := 1) (by decide) dX4_answers_135 ?_
                  refine rv_goto hX 140 dX4_answers_136 (by decide) ?_
                  first | refine nv_iadd hX dX4_answers_140 ?_ | refine rv_iadd hX dX4_answers_140 ?_
                  refine rv_istore hX dX4_answers_141 (rv_st_5 rfl) ?_
                  first | refine nv_iinc hX (m := 1) dX4_answers_143 rfl (by decide) (rv_st_6 rfl) ?_ | refine rv_iinc hX dX4_answers_143 rfl rfl (rv_st_6 rfl) ?_
                  refine rv_goto hX 44 dX4_answers_146 (by decide) ?_
                  have h9 := fun x y => ih (k + 1) x y (by omega) (by omega)
                  rw [hct] at h9
                  first
                    | (rw [if_pos (by
                        unfold sp_ansP
                        refine decide_eq_true ⟨c_132, ?_, ?_, ?_⟩
                        · first
                            | exact Or.inl c_67
                            | exact Or.inr c_77
                        · first
                            | exact Or.inl c_82
                            | exact Or.inr c_92
                        · first
                            | exact Or.inl c_98
                            | exact Or.inr c_109)] at h9
                       exact h9 _ _)
                    | (rw [if_neg (by
                        unfold sp_ansP
                        rw [decide_eq_true_iff]
                        rintro ⟨q0, q1, q2, q3⟩
                        first
                          | exact c_132 q0
                          | exact q1.elim c_67 c_77
                          | exact q2.elim c_82 c_92
                          | exact q3.elim c_98 c_109)] at h9
                       exact h9 _ _)
              · skip
                refine rv_iload hX dX4_answers_101 rfl ?_
                refine nv_iconst hX (m := 2) (by decide) dX4_answers_103 ?_
                refine sv_calli hX iX4_176 mdX4_slotOf (m_slotOf hG (d := d - 1) hf8 (by omega)) (by omega) rfl rfl (Nat.le_of_ble_eq_true rfl) dX4_answers_104 (fun r_104 h_104 => ?_)
                obtain rfl := h_104
                refine rv_iload hX dX4_answers_107 rfl ?_
                first | refine nv_icmp_ne hX 116 (by omega) (by omega) dX4_answers_109 (by decide) (fun c_109 => ?_) (fun c_109 => ?_) | refine rv_icmp_ne hX 116 dX4_answers_109 (by decide) (fun c_109 => ?_) (fun c_109 => ?_)
                · skip
                  refine nv_iconst hX (m := 0) (by decide) dX4_answers_116 ?_
                  refine rv_istore hX dX4_answers_117 (rv_st_8 rfl) ?_
                  refine rv_iload hX dX4_answers_119 rfl ?_
                  refine rv_iload hX dX4_answers_121 rfl ?_
                  refine rv_if_eq hX 139 dX4_answers_123 (by decide) (fun _ => ?_) (fun q => absurd q (by decide))
                  refine nv_iconst hX (m := 0) (by decide) dX4_answers_139 ?_
                  first | refine nv_iadd hX dX4_answers_140 ?_ | refine rv_iadd hX dX4_answers_140 ?_
                  refine rv_istore hX dX4_answers_141 (rv_st_5 rfl) ?_
                  first | refine nv_iinc hX (m := 1) dX4_answers_143 rfl (by decide) (rv_st_6 rfl) ?_ | refine rv_iinc hX dX4_answers_143 rfl rfl (rv_st_6 rfl) ?_
                  refine rv_goto hX 44 dX4_answers_146 (by decide) ?_
                  have h9 := fun x y => ih (k + 1) x y (by omega) (by omega)
                  rw [hct] at h9
                  first
                    | (rw [if_pos (by
                        unfold sp_ansP
                        refine decide_eq_true ⟨c_132, ?_, ?_, ?_⟩
                        · first
                            | exact Or.inl c_67
                            | exact Or.inr c_77
                        · first
                            | exact Or.inl c_82
                            | exact Or.inr c_92
                        · first
                            | exact Or.inl c_98
                            | exact Or.inr c_109)] at h9
                       exact h9 _ _)
                    | (rw [if_neg (by
                        unfold sp_ansP
                        rw [decide_eq_true_iff]
                        rintro ⟨q0, q1, q2, q3⟩
                        first
                          | exact c_132 q0
                          | exact q1.elim c_67 c_77
                          | exact q2.elim c_82 c_92
                          | exact q3.elim c_98 c_109)] at h9
                       exact h9 _ _)
                · skip
                  refine nv_iconst hX (m := 1) (by decide) dX4_answers_112 ?_
                  refine rv_goto hX 117 dX4_answers_113 (by decide) ?_
                  refine rv_istore hX dX4_answers_117 (rv_st_8 rfl) ?_
                  refine rv_iload hX dX4_answers_119 rfl ?_
                  refine rv_iload hX dX4_answers_121 rfl ?_
                  refine rv_if_eq hX 139 dX4_answers_123 (by decide) (fun q => absurd q (by decide)) (fun _ => ?_)
                  refine rv_iload hX dX4_answers_126 rfl ?_
                  refine rv_ldc hX q2291 dX4_answers_128 ?_
                  rw [show (1000000 : Int32) = nI 1000000 from by decide]
                  first | refine nv_idiv hX (by omega) (by omega) (by omega) dX4_answers_130 ?_ | refine rv_idiv hX dX4_answers_130 (by decide) ?_
                  refine rv_iload_n hX dX4_answers_131 rfl ?_
                  first | refine nv_icmp_ne hX 139 (by omega) (by omega) dX4_answers_132 (by decide) (fun c_132 => ?_) (fun c_132 => ?_) | refine rv_icmp_ne hX 139 dX4_answers_132 (by decide) (fun c_132 => ?_) (fun c_132 => ?_)
                  · skip
                    refine nv_iconst hX (m := 0) (by decide) dX4_answers_139 ?_
                    first | refine nv_iadd hX dX4_answers_140 ?_ | refine rv_iadd hX dX4_answers_140 ?_
                    refine rv_istore hX dX4_answers_141 (rv_st_5 rfl) ?_
                    first | refine nv_iinc hX (m := 1) dX4_answers_143 rfl (by decide) (rv_st_6 rfl) ?_ | refine rv_iinc hX dX4_answers_143 rfl rfl (rv_st_6 rfl) ?_
                    refine rv_goto hX 44 dX4_answers_146 (by decide) ?_
                    have h9 := fun x y => ih (k + 1) x y (by omega) (by omega)
                    rw [hct] at h9
                    first
                      | (rw [if_pos (by
                          unfold sp_ansP
                          refine decide_eq_true ⟨c_132, ?_, ?_, ?_⟩
                          · first
                              | exact Or.inl c_67
                              | exact Or.inr c_77
                          · first
                              | exact Or.inl c_82
                              | exact Or.inr c_92
                          · first
                              | exact Or.inl c_98
                              | exact Or.inr c_109)] at h9
                         exact h9 _ _)
                      | (rw [if_neg (by
                          unfold sp_ansP
                          rw [decide_eq_true_iff]
                          rintro ⟨q0, q1, q2, q3⟩
                          first
                            | exact c_132 q0
                            | exact q1.elim c_67 c_77
                            | exact q2.elim c_82 c_92
                            | exact q3.elim c_98 c_109)] at h9
                         exact h9 _ _)
                  · skip
                    refine nv_iconst hX (m := 1) (by decide) dX4_answers_135 ?_
                    refine rv_goto hX 140 dX4_answers_136 (by decide) ?_
                    first | refine nv_iadd hX dX4_answers_140 ?_ | refine rv_iadd hX dX4_answers_140 ?_
                    refine rv_istore hX dX4_answers_141 (rv_st_5 rfl) ?_
                    first | refine nv_iinc hX (m := 1) dX4_answers_143 rfl (by decide) (rv_st_6 rfl) ?_ | refine rv_iinc hX dX4_answers_143 rfl rfl (rv_st_6 rfl) ?_
                    refine rv_goto hX 44 dX4_answers_146 (by decide) ?_
                    have h9 := fun x y => ih (k + 1) x y (by omega) (by omega)
                    rw [hct] at h9
                    first
                      | (rw [if_pos (by
                          unfold sp_ansP
                          refine decide_eq_true ⟨c_132, ?_, ?_, ?_⟩
                          · first
                              | exact Or.inl c_67
                              | exact Or.inr c_77
                          · first
                              | exact Or.inl c_82
                              | exact Or.inr c_92
                          · first
                              | exact Or.inl c_98
                              | exact Or.inr c_109)] at h9
                         exact h9 _ _)
                      | (rw [if_neg (by
                          unfold sp_ansP
                          rw [decide_eq_true_iff]
                          rintro ⟨q0, q1, q2, q3⟩
                          first
                            | exact c_132 q0
                            | exact q1.elim c_67 c_77
                            | exact q2.elim c_82 c_92
                            | exact q3.elim c_98 c_109)] at h9
                         exact h9 _ _)
            · skip
              refine rv_iload hX dX4_answers_85 rfl ?_
              refine nv_iconst hX (m := 1) (by decide) dX4_answers_87 ?_
              refine sv_calli hX iX4_176 mdX4_slotOf (m_slotOf hG (d := d - 1) hf8 (by omega)) (by omega) rfl rfl (Nat.le_of_ble_eq_true rfl) dX4_answers_88 (fun r_88 h_88 => ?_)
              obtain rfl := h_88
              refine rv_iload_n hX dX4_answers_91 rfl ?_
              first | refine nv_icmp_ne hX 116 (by omega) (by omega) dX4_answers_92 (by decide) (fun c_92 => ?_) (fun c_92 => ?_) | refine rv_icmp_ne hX 116 dX4_answers_92 (by decide) (fun c_92 => ?_) (fun c_92 => ?_)
              · skip
                refine nv_iconst hX (m := 0) (by decide) dX4_answers_116 ?_
                refine rv_istore hX dX4_answers_117 (rv_st_8 rfl) ?_
                refine rv_iload hX dX4_answers_119 rfl ?_
                refine rv_iload hX dX4_answers_121 rfl ?_
                refine rv_if_eq hX 139 dX4_answers_123 (by decide) (fun _ => ?_) (fun q => absurd q (by decide))
                refine nv_iconst hX (m := 0) (by decide) dX4_answers_139 ?_
                first | refine nv_iadd hX dX4_answers_140 ?_ | refine rv_iadd hX dX4_answers_140 ?_
                refine rv_istore hX dX4_answers_141 (rv_st_5 rfl) ?_
                first | refine nv_iinc hX (m := 1) dX4_answers_143 rfl (by decide) (rv_st_6 rfl) ?_ | refine rv_iinc hX dX4_answers_143 rfl rfl (rv_st_6 rfl) ?_
                refine rv_goto hX 44 dX4_answers_146 (by decide) ?_
                have h9 := fun x y => ih (k + 1) x y (by omega) (by omega)
                rw [hct] at h9
                first
                  | (rw [if_pos (by
                      unfold sp_ansP
                      refine decide_eq_true ⟨c_132, ?_, ?_, ?_⟩
                      · first
                          | exact Or.inl c_67
                          | exact Or.inr c_77
                      · first
                          | exact Or.inl c_82
                          | exact Or.inr c_92
                      · first
                          | exact Or.inl c_98
                          | exact Or.inr c_109)] at h9
                     exact h9 _ _)
                  | (rw [if_neg (by
                      unfold sp_ansP
                      rw [decide_eq_true_iff]
                      rintro ⟨q0, q1, q2, q3⟩
                      first
                        | exact c_132 q0
                        | exact q1.elim c_67 c_77
                        | exact q2.elim c_82 c_92
                        | exact q3.elim c_98 c_109)] at h9
                     exact h9 _ _)
              · skip
                refine rv_iload hX dX4_answers_95 rfl ?_
                refine rv_iconst hX (v := -1) dX4_answers_97 (by decide) ?_
                first | refine nv_icmp_eq hX 112 (by omega) (by omega) dX4_answers_98 (by decide) (fun c_98 => ?_) (fun c_98 => ?_) | refine rv_icmp_eq hX 112 dX4_answers_98 (by decide) (fun c_98 => ?_) (fun c_98 => ?_)
                · skip
                  refine nv_iconst hX (m := 1) (by decide) dX4_answers_112 ?_
                  refine rv_goto hX 117 dX4_answers_113 (by decide) ?_
                  refine rv_istore hX dX4_answers_117 (rv_st_8 rfl) ?_
                  refine rv_iload hX dX4_answers_119 rfl ?_
                  refine rv_iload hX dX4_answers_121 rfl ?_
                  refine rv_if_eq hX 139 dX4_answers_123 (by decide) (fun q => absurd q (by decide)) (fun _ => ?_)
                  refine rv_iload hX dX4_answers_126 rfl ?_
                  refine rv_ldc hX q2291 dX4_answers_128 ?_
                  rw [show (1000000 : Int32) = nI 1000000 from by decide]
                  first | refine nv_idiv hX (by omega) (by omega) (by omega) dX4_answers_130 ?_ | refine rv_idiv hX dX4_answers_130 (by decide) ?_
                  refine rv_iload_n hX dX4_answers_131 rfl ?_
                  first | refine nv_icmp_ne hX 139 (by omega) (by omega) dX4_answers_132 (by decide) (fun c_132 => ?_) (fun c_132 => ?_) | refine rv_icmp_ne hX 139 dX4_answers_132 (by decide) (fun c_132 => ?_) (fun c_132 => ?_)
                  · skip
                    refine nv_iconst hX (m := 0) (by decide) dX4_answers_139 ?_
                    first | refine nv_iadd hX dX4_answers_140 ?_ | refine rv_iadd hX dX4_answers_140 ?_
                    refine rv_istore hX dX4_answers_141 (rv_st_5 rfl) ?_
                    first | refine nv_iinc hX (m := 1) dX4_answers_143 rfl (by decide) (rv_st_6 rfl) ?_ | refine rv_iinc hX dX4_answers_143 rfl rfl (rv_st_6 rfl) ?_
                    refine rv_goto hX 44 dX4_answers_146 (by decide) ?_
                    have h9 := fun x y => ih (k + 1) x y (by omega) (by omega)
                    rw [hct] at h9
                    first
                      | (rw [if_pos (by
                          unfold sp_ansP
                          refine decide_eq_true ⟨c_132, ?_, ?_, ?_⟩
                          · first
                              | exact Or.inl c_67
                              | exact Or.inr c_77
                          · first
                              | exact Or.inl c_82
                              | exact Or.inr c_92
                          · first
                              | exact Or.inl c_98
                              | exact Or.inr c_109)] at h9
                         exact h9 _ _)
                      | (rw [if_neg (by
                          unfold sp_ansP
                          rw [decide_eq_true_iff]
                          rintro ⟨q0, q1, q2, q3⟩
                          first
                            | exact c_132 q0
                            | exact q1.elim c_67 c_77
                            | exact q2.elim c_82 c_92
                            | exact q3.elim c_98 c_109)] at h9
                         exact h9 _ _)
                  · skip
                    refine nv_iconst hX (m := 1) (by decide) dX4_answers_135 ?_
                    refine rv_goto hX 140 dX4_answers_136 (by decide) ?_
                    first | refine nv_iadd hX dX4_answers_140 ?_ | refine rv_iadd hX dX4_answers_140 ?_
                    refine rv_istore hX dX4_answers_141 (rv_st_5 rfl) ?_
                    first | refine nv_iinc hX (m := 1) dX4_answers_143 rfl (by decide) (rv_st_6 rfl) ?_ | refine rv_iinc hX dX4_answers_143 rfl rfl (rv_st_6 rfl) ?_
                    refine rv_goto hX 44 dX4_answers_146 (by decide) ?_
                    have h9 := fun x y => ih (k + 1) x y (by omega) (by omega)
                    rw [hct] at h9
                    first
                      | (rw [if_pos (by
                          unfold sp_ansP
                          refine decide_eq_true ⟨c_132, ?_, ?_, ?_⟩
                          · first
                              | exact Or.inl c_67
                              | exact Or.inr c_77
                          · first
                              | exact Or.inl c_82
                              | exact Or.inr c_92
                          · first
                              | exact Or.inl c_98
                              | exact Or.inr c_109)] at h9
                         exact h9 _ _)
                      | (rw [if_neg (by
                          unfold sp_ansP
                          rw [decide_eq_true_iff]
                          rintro ⟨q0, q1, q2, q3⟩
                          first
                            | exact c_132 q0
                            | exact q1.elim c_67 c_77
                            | exact q2.elim c_82 c_92
                            | exact q3.elim c_98 c_109)] at h9
                         exact h9 _ _)
                · skip
                  refine rv_iload hX dX4_answers_101 rfl ?_
                  refine nv_iconst hX (m := 2) (by decide) dX4_answers_103 ?_
                  refine sv_calli hX iX4_176 mdX4_slotOf (m_slotOf hG (d := d - 1) hf8 (by omega)) (by omega) rfl rfl (Nat.le_of_ble_eq_true rfl) dX4_answers_104 (fun r_104 h_104 => ?_)
                  obtain rfl := h_104
                  refine rv_iload hX dX4_answers_107 rfl ?_
                  first | refine nv_icmp_ne hX 116 (by omega) (by omega) dX4_answers_109 (by decide) (fun c_109 => ?_) (fun c_109 => ?_) | refine rv_icmp_ne hX 116 dX4_answers_109 (by decide) (fun c_109 => ?_) (fun c_109 => ?_)
                  · skip
                    refine nv_iconst hX (m := 0) (by decide) dX4_answers_116 ?_
                    refine rv_istore hX dX4_answers_117 (rv_st_8 rfl) ?_
                    refine rv_iload hX dX4_answers_119 rfl ?_
                    refine rv_iload hX dX4_answers_121 rfl ?_
                    refine rv_if_eq hX 139 dX4_answers_123 (by decide) (fun _ => ?_) (fun q => absurd q (by decide))
                    refine nv_iconst hX (m := 0) (by decide) dX4_answers_139 ?_
                    first | refine nv_iadd hX dX4_answers_140 ?_ | refine rv_iadd hX dX4_answers_140 ?_
                    refine rv_istore hX dX4_answers_141 (rv_st_5 rfl) ?_
                    first | refine nv_iinc hX (m := 1) dX4_answers_143 rfl (by decide) (rv_st_6 rfl) ?_ | refine rv_iinc hX dX4_answers_143 rfl rfl (rv_st_6 rfl) ?_
                    refine rv_goto hX 44 dX4_answers_146 (by decide) ?_
                    have h9 := fun x y => ih (k + 1) x y (by omega) (by omega)
                    rw [hct] at h9
                    first
                      | (rw [if_pos (by
                          unfold sp_ansP
                          refine decide_eq_true ⟨c_132, ?_, ?_, ?_⟩
                          · first
                              | exact Or.inl c_67
                              | exact Or.inr c_77
                          · first
                              | exact Or.inl c_82
                              | exact Or.inr c_92
                          · first
                              | exact Or.inl c_98
                              | exact Or.inr c_109)] at h9
                         exact h9 _ _)
                      | (rw [if_neg (by
                          unfold sp_ansP
                          rw [decide_eq_true_iff]
                          rintro ⟨q0, q1, q2, q3⟩
                          first
                            | exact c_132 q0
                            | exact q1.elim c_67 c_77
                            | exact q2.elim c_82 c_92
                            | exact q3.elim c_98 c_109)] at h9
                         exact h9 _ _)
                  · skip
                    refine nv_iconst hX (m := 1) (by decide) dX4_answers_112 ?_
                    refine rv_goto hX 117 dX4_answers_113 (by decide) ?_
                    refine rv_istore hX dX4_answers_117 (rv_st_8 rfl) ?_
                    refine rv_iload hX dX4_answers_119 rfl ?_
                    refine rv_iload hX dX4_answers_121 rfl ?_
                    refine rv_if_eq hX 139 dX4_answers_123 (by decide) (fun q => absurd q (by decide)) (fun _ => ?_)
                    refine rv_iload hX dX4_answers_126 rfl ?_
                    refine rv_ldc hX q2291 dX4_answers_128 ?_
                    rw [show (1000000 : Int32) = nI 1000000 from by decide]
                    first | refine nv_idiv hX (by omega) (by omega) (by omega) dX4_answers_130 ?_ | refine rv_idiv hX dX4_answers_130 (by decide) ?_
                    refine rv_iload_n hX dX4_answers_131 rfl ?_
                    first | refine nv_icmp_ne hX 139 (by omega) (by omega) dX4_answers_132 (by decide) (fun c_132 => ?_) (fun c_132 => ?_) | refine rv_icmp_ne hX 139 dX4_answers_132 (by decide) (fun c_132 => ?_) (fun c_132 => ?_)
                    · skip
                      refine nv_iconst hX (m := 0) (by decide) dX4_answers_139 ?_
                      first | refine nv_iadd hX dX4_answers_140 ?_ | refine rv_iadd hX dX4_answers_140 ?_
                      refine rv_istore hX dX4_answers_141 (rv_st_5 rfl) ?_
                      first | refine nv_iinc hX (m := 1) dX4_answers_143 rfl (by decide) (rv_st_6 rfl) ?_ | refine rv_iinc hX dX4_answers_143 rfl rfl (rv_st_6 rfl) ?_
                      refine rv_goto hX 44 dX4_answers_146 (by decide) ?_
                      have h9 := fun x y => ih (k + 1) x y (by omega) (by omega)
                      rw [hct] at h9
                      first
                        | (rw [if_pos (by
                            unfold sp_ansP
                            refine decide_eq_true ⟨c_132, ?_, ?_, ?_⟩
                            · first
                                | exact Or.inl c_67
                                | exact Or.inr c_77
                            · first
                                | exact Or.inl c_82
                                | exact Or.inr c_92
                            · first
                                | exact Or.inl c_98
                                | exact Or.inr c_109)] at h9
                           exact h9 _ _)
                        | (rw [if_neg (by
                            unfold sp_ansP
                            rw [decide_eq_true_iff]
                            rintro ⟨q0, q1, q2, q3⟩
                            first
                              | exact c_132 q0
                              | exact q1.elim c_67 c_77
                              | exact q2.elim c_82 c_92
                              | exact q3.elim c_98 c_109)] at h9
                           exact h9 _ _)
                    · skip
                      refine nv_iconst hX (m := 1) (by decide) dX4_answers_135 ?_
                      refine rv_goto hX 140 dX4_answers_136 (by decide) ?_
                      first | refine nv_iadd hX dX4_answers_140 ?_ | refine rv_iadd hX dX4_answers_140 ?_
                      refine rv_istore hX dX4_answers_141 (rv_st_5 rfl) ?_
                      first | refine nv_iinc hX (m := 1) dX4_answers_143 rfl (by decide) (rv_st_6 rfl) ?_ | refine rv_iinc hX dX4_answers_143 rfl rfl (rv_st_6 rfl) ?_
                      refine rv_goto hX 44 dX4_answers_146 (by decide) ?_
                      have h9 := fun x y => ih (k + 1) x y (by omega) (by omega)
                      rw [hct] at h9
                      first
                        | (rw [if_pos (by
                            unfold sp_ansP
                            refine decide_eq_true ⟨c_132, ?_, ?_, ?_⟩
                            · first
                                | exact Or.inl c_67
                                | exact Or.inr c_77
                            · first
                                | exact Or.inl c_82
                                | exact Or.inr c_92
                            · first
                                | exact Or.inl c_98
                                | exact Or.inr c_109)] at h9
                           exact h9 _ _)
                        | (rw [if_neg (by
                            unfold sp_ansP
                            rw [decide_eq_true_iff]
                            rintro ⟨q0, q1, q2, q3⟩
                            first
                              | exact c_132 q0
                              | exact q1.elim c_67 c_77
                              | exact q2.elim c_82 c_92
                              | exact q3.elim c_98 c_109)] at h9
                           exact h9 _ _)
  refine rv_aload_n hX dX4_answers_0 rfl ?_
  refine rv_aload_n hX dX4_answers_1 rfl ?_
  refine rv_iload_n hX dX4_answers_2 rfl ?_
  refine mv_callz hX iX4_140 rfl mdX4_isRelation (m_isRelation hG (d := d - 1) (by omega) hS) (by omega) rfl rfl (Nat.le_of_ble_eq_true rfl) dX4_answers_3 (fun r_3 τ_3 h_3 => ?_)
  obtain ⟨rfl, hr⟩ := h_3
  first | refine zv_if_ne hX 13 dX4_answers_6 (by decide) (fun c_6 => ?_) (fun c_6 => ?_) | refine nv_if_ne hX 13 (by omega) dX4_answers_6 (by decide) (fun c_6 => ?_) (fun c_6 => ?_) | refine rv_if_ne hX 13 dX4_answers_6 (by decide) (fun c_6 => ?_) (fun c_6 => ?_)
  · skip
    obtain ⟨k, hk1, rfl⟩ := hr.mp c_6
    obtain ⟨s, hs⟩ : ∃ s, S[k]? = some s := ⟨S[k], List.getElem?_eq_getElem hk1⟩
    refine rv_aload_n hX dX4_answers_13 rfl ?_
    refine rv_iload_n hX dX4_answers_14 rfl ?_
    refine rv_iload_n hX dX4_answers_15 rfl ?_
    refine rv_iload_n hX dX4_answers_16 rfl ?_
    refine rv_iload hX dX4_answers_17 rfl ?_
    refine mv_callz hX iX4_364 rfl mdX4_isGoal (m_isGoal hG (d := d - 1) (by omega) hS hs) (by omega) rfl rfl (Nat.le_of_ble_eq_true rfl) dX4_answers_19 (fun r_19 τ_19 h_19 => ?_)
    obtain ⟨rfl, hg⟩ := h_19
    first | refine zv_if_eq hX 29 dX4_answers_22 (by decide) (fun c_22 => ?_) (fun c_22 => ?_) | refine nv_if_eq hX 29 (by omega) dX4_answers_22 (by decide) (fun c_22 => ?_) (fun c_22 => ?_) | refine rv_if_eq hX 29 dX4_answers_22 (by decide) (fun c_22 => ?_) (fun c_22 => ?_)
    · skip
      refine nv_iconst hX (m := 2) (by decide) dX4_answers_29 ?_
      refine mv_callz hX iX4_266 rfl mdX4_goesWell (m_goesWell hG (d := d - 1) (by decide)) (by omega) rfl rfl (Nat.le_of_ble_eq_true rfl) dX4_answers_30 (fun r_30 τ_30 h_30 => ?_)
      obtain ⟨rfl, hw⟩ := h_30
      first | refine zv_if_ne hX 38 dX4_answers_33 (by decide) (fun c_33 => ?_) (fun c_33 => ?_) | refine nv_if_ne hX 38 (by omega) dX4_answers_33 (by decide) (fun c_33 => ?_) (fun c_33 => ?_) | refine rv_if_ne hX 38 dX4_answers_33 (by decide) (fun c_33 => ?_) (fun c_33 => ?_)
      · skip
        refine nv_iconst hX (m := 0) (by decide) dX4_answers_38 ?_
        refine rv_istore hX dX4_answers_39 (rv_st_5 rfl) ?_
        refine nv_iconst hX (m := 0) (by decide) dX4_answers_41 ?_
        refine rv_istore hX dX4_answers_42 (rv_st_6 rfl) ?_
        first
          | exact loop k s hs rfl (hg.mp c_22) _ 0 none none (Nat.zero_le _) (Nat.lt_succ_self _)
          | (rw [hw] at c_33; exact absurd c_33 (by decide))
      · skip
        refine nv_iconst hX (m := 0) (by decide) dX4_answers_36 ?_
        refine mv_reti hX hE dX4_answers_37 ?_
        first
          | (refine Or.inl ⟨fun h => ?_, rfl⟩
             have := hr.mpr h
             rw [c_6] at this
             cases this)
          | (refine Or.inr ⟨k, s, hs, rfl, Or.inl ⟨fun h => ?_, rfl⟩⟩
             have := hg.mpr h
             rw [c_22] at this
             cases this)
          | (rw [hw] at c_33; exact absurd c_33 (by decide))
    · skip
      refine nv_iconst hX (m := 0) (by decide) dX4_answers_25 ?_
      refine rv_goto hX 30 dX4_answers_26 (by decide) ?_
      refine mv_callz hX iX4_266 rfl mdX4_goesWell (m_goesWell hG (d := d - 1) (by decide)) (by omega) rfl rfl (Nat.le_of_ble_eq_true rfl) dX4_answers_30 (fun r_30 τ_30 h_30 => ?_)
      obtain ⟨rfl, hw⟩ := h_30
      first | refine zv_if_ne hX 38 dX4_answers_33 (by decide) (fun c_33 => ?_) (fun c_33 => ?_) | refine nv_if_ne hX 38 (by omega) dX4_answers_33 (by decide) (fun c_33 => ?_) (fun c_33 => ?_) | refine rv_if_ne hX 38 dX4_answers_33 (by decide) (fun c_33 => ?_) (fun c_33 => ?_)
      · skip
        refine nv_iconst hX (m := 0) (by decide) dX4_answers_38 ?_
        refine rv_istore hX dX4_answers_39 (rv_st_5 rfl) ?_
        refine nv_iconst hX (m := 0) (by decide) dX4_answers_41 ?_
        refine rv_istore hX dX4_answers_42 (rv_st_6 rfl) ?_
        first
          | exact loop k s hs rfl (hg.mp c_22) _ 0 none none (Nat.zero_le _) (Nat.lt_succ_self _)
          | (rw [hw] at c_33; exact absurd c_33 (by decide))
      · skip
        refine nv_iconst hX (m := 0) (by decide) dX4_answers_36 ?_
        refine mv_reti hX hE dX4_answers_37 ?_
        first
          | (refine Or.inl ⟨fun h => ?_, rfl⟩
             have := hr.mpr h
             rw [c_6] at this
             cases this)
          | (refine Or.inr ⟨k, s, hs, rfl, Or.inl ⟨fun h => ?_, rfl⟩⟩
             have := hg.mpr h
             rw [c_22] at this
             cases this)
          | (rw [hw] at c_33; exact absurd c_33 (by decide))
  · skip
    refine nv_iconst hX (m := 1) (by decide) dX4_answers_9 ?_
    refine rv_goto hX 30 dX4_answers_10 (by decide) ?_
    refine mv_callz hX iX4_266 rfl mdX4_goesWell (m_goesWell hG (d := d - 1) (by decide)) (by omega) rfl rfl (Nat.le_of_ble_eq_true rfl) dX4_answers_30 (fun r_30 τ_30 h_30 => ?_)
    obtain ⟨rfl, hw⟩ := h_30
    first | refine zv_if_ne hX 38 dX4_answers_33 (by decide) (fun c_33 => ?_) (fun c_33 => ?_) | refine nv_if_ne hX 38 (by omega) dX4_answers_33 (by decide) (fun c_33 => ?_) (fun c_33 => ?_) | refine rv_if_ne hX 38 dX4_answers_33 (by decide) (fun c_33 => ?_) (fun c_33 => ?_)
    · skip
      refine nv_iconst hX (m := 0) (by decide) dX4_answers_38 ?_
      refine rv_istore hX dX4_answers_39 (rv_st_5 rfl) ?_
      refine nv_iconst hX (m := 0) (by decide) dX4_answers_41 ?_
      refine rv_istore hX dX4_answers_42 (rv_st_6 rfl) ?_
      first
        | exact loop k s hs rfl (hg.mp c_22) _ 0 none none (Nat.zero_le _) (Nat.lt_succ_self _)
        | (rw [hw] at c_33; exact absurd c_33 (by decide))
    · skip
      refine nv_iconst hX (m := 0) (by decide) dX4_answers_36 ?_
      refine mv_reti hX hE dX4_answers_37 ?_
      first
        | (refine Or.inl ⟨fun h => ?_, rfl⟩
           have := hr.mpr h
           rw [c_6] at this
           cases this)
        | (refine Or.inr ⟨k, s, hs, rfl, Or.inl ⟨fun h => ?_, rfl⟩⟩
           have := hg.mpr h
           rw [c_22] at this
           cases this)
        | (rw [hw] at c_33; exact absurd c_33 (by decide))
