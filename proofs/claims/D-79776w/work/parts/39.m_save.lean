/-! THE REFERENCE: saving and bringing back -/
set_option maxRecDepth 100000
def rv_cpd (σ : rv_S) (j1 p j2 q n : Nat) (τ : rv_S) : Prop := (∀ i, i < n → τ.2.1 j2 (q + i) = σ.2.1 j1 (p + i)) ∧ (∀ i, i < q ∨ q + n ≤ i → τ.2.1 j2 i = σ.2.1 j2 i) ∧ rv_same [] [j2] σ τ
theorem rv_cpd_sA {σ : rv_S} {j1 p j2 q n : Nat} : rv_cpd σ j1 p j2 q n (rv_sA σ j2 (sp_cp (σ.2.1 j1) (σ.2.1 j2) p q n)) := by
  refine ⟨fun i hi => ?_, fun i hi => ?_, .a (List.mem_singleton.mpr rfl)⟩
  · rw [rv_sA_2, if_pos rfl]
    unfold sp_cp
    rw [if_pos (by omega), show q + i - q = i by omega]
  · rw [rv_sA_2, if_pos rfl]
    unfold sp_cp
    rw [if_neg (by omega)]
theorem mv_copyE {X : rv_X} {y : MethodName} {cc : ByteArray} {d ix : Nat} {hb : rv_H} {o : Nat} {σ : rv_S} {pc : Nat} {L : List (Option Value)} {st stk : List Value} (hX : rv_K X y cc d) (hl : rv_ls y.cls ix yX4_copy) (hG : rv_GK X.1) {j1 j2 p q n : Nat} (h1 : rv_ia j1) (h2 : rv_ia j2) (hp : p + n ≤ rv_s j1) (hq : q + n ≤ rv_s j2) (hdis : j1 ≠ j2 ∨ p + n ≤ q ∨ q + n ≤ p) (hd : 1 ≤ d) (hst : stk = .int (nI n) :: .int (nI q) :: .ref (o + j2) :: .int (nI p) :: .ref (o + j1) :: st) (hroom : (st.map fun v => v.category).sum ≤ 8) (dg : decode cc pc = .ok (.invokestatic ix, 3)) (kk : ∀ τ, rv_cpd σ j1 p j2 q n τ → rv_V X (rv_mh hb o τ) (pc + 3) L (.int (nI (q + n)) :: st)) : rv_V X (rv_mh hb o σ) pc L stk := mv_copy hX hl hG h1 h2 hp hq hdis hd hst hroom dg (kk _ rv_cpd_sA)
/-- rows D (place, offset, how many) lie in P from q0 on -/
def svL (σ τ : rv_S) (P q0 : Nat) (D : List (Nat × Nat × Nat)) (m : Nat) : Prop := (∀ e, e ∈ D → e.2.1 + e.2.2 ≤ m ∧ ∀ i, i < e.2.2 → τ.2.1 P (q0 + e.2.1 + i) = σ.2.1 e.1 i) ∧ (∀ i, i < q0 ∨ q0 + m ≤ i → τ.2.1 P i = σ.2.1 P i) ∧ rv_same [] [19, 20, 21] σ τ
theorem svL.step {σ τ τ' : rv_S} {P q0 m j n q : Nat} {D : List (Nat × Nat × Nat)} (h : svL σ τ P q0 D m) (hc : rv_cpd τ j 0 P q n τ') (hq : q = q0 + m) (hj : j ∉ [19, 20, 21]) (hP : P ∈ [19, 20, 21]) : svL σ τ' P q0 (D ++ [(j, m, n)]) (m + n) := by
  subst hq
  obtain ⟨a, b, c⟩ := h
  obtain ⟨d, e, f⟩ := hc
  refine ⟨fun x hx => ?_, fun i hi => ?_, c.tr (f.mn (by decide) (fun k hk => by rw [List.mem_singleton.mp hk]; exact hP))⟩
  · rcases List.mem_append.mp hx with hx | hx
    · obtain ⟨a1, a2⟩ := a x hx
      refine ⟨by omega, fun i hi => ?_⟩
      rw [e _ (by omega)]
      exact a2 i hi
    · rw [List.mem_singleton.mp hx]
      refine ⟨Nat.le_refl _, fun i hi => ?_⟩
      show τ'.2.1 P (q0 + m + i) = σ.2.1 j i
      rw [d i hi, Nat.zero_add, c.2.1 j hj]
  · rw [e i (by omega), b i (by omega)]
theorem svL.same {σ τ τ' : rv_S} {P q0 m : Nat} {D : List (Nat × Nat × Nat)} {js : List Nat} (h : svL σ τ P q0 D m) (hs : rv_same [] js τ τ') (hP : P ∉ js) (hj : ∀ j, j ∈ js → j ∈ [19, 20, 21]) : svL σ τ' P q0 D m := by
  obtain ⟨a, b, c⟩ := h
  exact ⟨fun x hx => ⟨(a x hx).1, fun i hi => by rw [hs.2.1 P hP]; exact (a x hx).2 i hi⟩, fun i hi => by rw [hs.2.1 P hP]; exact b i hi, c.tr (hs.mn (by decide) hj)⟩
theorem svL.nil {σ τ : rv_S} {P q0 : Nat} (hs : rv_same [] [19, 20, 21] σ τ) (hP : τ.2.1 P = σ.2.1 P) : svL σ τ P q0 [] 0 := ⟨fun x hx => (by cases hx), fun i _ => by rw [hP], hs⟩
def sv_B : List (Nat × Nat × Nat) := [(3, 0, 17), (4, 17, 17), (5, 34, 51), (6, 85, 17), (7, 102, 102), (8, 204, 102), (9, 306, 306), (10, 612, 17), (11, 629, 17), (12, 646, 17)]
def sv_F : List (Nat × Nat × Nat) := [(2, 0, 8), (13, 8, 60), (14, 68, 60), (15, 128, 60), (16, 188, 60), (17, 248, 8)]
def svIn (σ τ : rv_S) (w : Nat) : Prop := (∀ i, i < 11 → τ.2.1 19 (11 * w + i) = σ.2.1 1 i) ∧ (∀ e, e ∈ sv_B → ∀ i, i < e.2.2 → τ.2.1 20 (680 * w + e.2.1 + i) = σ.2.1 e.1 i) ∧ ∀ e, e ∈ sv_F → ∀ i, i < e.2.2 → τ.2.1 21 (256 * w + e.2.1 + i) = σ.2.1 e.1 i
def svOut (σ τ : rv_S) (w : Nat) : Prop := (∀ i, i < 11 * w ∨ 11 * w + 11 ≤ i → τ.2.1 19 i = σ.2.1 19 i) ∧ (∀ i, i < 680 * w ∨ 680 * w + 663 ≤ i → τ.2.1 20 i = σ.2.1 20 i) ∧ ∀ i, i < 256 * w ∨ 256 * w + 256 ≤ i → τ.2.1 21 i = σ.2.1 21 i
theorem m_save {G : rv_G} (hG : rv_GK G) {d : Nat} (hd : 1 ≤ d) {σ : rv_S} {w : Nat} (hw : w ≤ 3) : mC G d yX4_save wX4_save [.int (nI w)] σ (mPv (fun τ => svIn σ τ w ∧ svOut σ τ w ∧ rv_same [] [19, 20, 21] σ τ)) := by
  refine mv_start hG (by decide +kernel) (Nat.le_of_ble_eq_true rfl) (fun X Hb o hX1 hX hE => ?_)
  subst hX1
  show rv_V X (rv_mh Hb o _) 0 [some (.ref o), some (.int (nI w)), none, none] []
  refine nv_sipush hX (m := 680) (by decide) dX4_save_0 ?_
  refine rv_iload_n hX dX4_save_3 rfl ?_
  first | refine nv_imul hX dX4_save_4 ?_ | refine rv_imul hX dX4_save_4 ?_
  refine rv_istore_n hX dX4_save_5 (rv_st_2 rfl) ?_
  refine rv_aload_n hX dX4_save_6 rfl ?_
  refine mv_ga hX (k := 1) (j := 1) gX4_7_X4 (by decide) rfl (by decide) dX4_save_7 ?_
  refine nv_iconst hX (m := 0) (by decide) dX4_save_10 ?_
  refine rv_aload_n hX dX4_save_11 rfl ?_
  refine mv_ga hX (k := 19) (j := 19) gX4_64_X4 (by decide) rfl (by decide) dX4_save_12 ?_
  refine nv_bipush hX (m := 11) (by decide) dX4_save_15 ?_
  refine rv_iload_n hX dX4_save_17 rfl ?_
  first | refine nv_imul hX dX4_save_18 ?_ | refine rv_imul hX dX4_save_18 ?_
  refine nv_bipush hX (m := 11) (by decide) dX4_save_19 ?_
  refine mv_copyE hX iX4_144 hG (j1 := 1) (j2 := 19) ⟨by decide, by decide, rfl, by decide⟩ ⟨by decide, by decide, rfl, by decide⟩ (show _ ≤ 11 by omega) (show _ ≤ 44 by omega) (Or.inl (by decide)) (by omega) rfl (Nat.le_of_ble_eq_true rfl) dX4_save_21 (fun τ_21 h_21 => ?_)
  refine rv_istore_n hX dX4_save_24 (rv_st_3 rfl) ?_
  refine rv_aload_n hX dX4_save_25 rfl ?_
  refine mv_ga hX (k := 3) (j := 3) gX4_16_X4 (by decide) rfl (by decide) dX4_save_26 ?_
  refine nv_iconst hX (m := 0) (by decide) dX4_save_29 ?_
  refine rv_aload_n hX dX4_save_30 rfl ?_
  refine mv_ga hX (k := 20) (j := 20) gX4_67_X4 (by decide) rfl (by decide) dX4_save_31 ?_
  refine rv_iload_n hX dX4_save_34 rfl ?_
  refine nv_bipush hX (m := 17) (by decide) dX4_save_35 ?_
  refine mv_copyE hX iX4_144 hG (j1 := 3) (j2 := 20) ⟨by decide, by decide, rfl, by decide⟩ ⟨by decide, by decide, rfl, by decide⟩ (show _ ≤ 17 by omega) (show _ ≤ 2720 by omega) (Or.inl (by decide)) (by omega) rfl (Nat.le_of_ble_eq_true rfl) dX4_save_37 (fun τ_37 h_37 => ?_)
  refine rv_istore_n hX dX4_save_40 (rv_st_3 rfl) ?_
  refine rv_aload_n hX dX4_save_41 rfl ?_
  refine mv_ga hX (k := 4) (j := 4) gX4_19_X4 (by decide) rfl (by decide) dX4_save_42 ?_
  refine nv_iconst hX (m := 0) (by decide) dX4_save_45 ?_
  refine rv_aload_n hX dX4_save_46 rfl ?_
  refine mv_ga hX (k := 20) (j := 20) gX4_67_X4 (by decide) rfl (by decide) dX4_save_47 ?_
  refine rv_iload_n hX dX4_save_50 rfl ?_
  refine nv_bipush hX (m := 17) (by decide) dX4_save_51 ?_
  refine mv_copyE hX iX4_144 hG (j1 := 4) (j2 := 20) ⟨by decide, by decide, rfl, by decide⟩ ⟨by decide, by decide, rfl, by decide⟩ (show _ ≤ 17 by omega) (show _ ≤ 2720 by omega) (Or.inl (by decide)) (by omega) rfl (Nat.le_of_ble_eq_true rfl) dX4_save_53 (fun τ_53 h_53 => ?_)
  refine rv_istore_n hX dX4_save_56 (rv_st_3 rfl) ?_
  refine rv_aload_n hX dX4_save_57 rfl ?_
  refine mv_ga hX (k := 5) (j := 5) gX4_22_X4 (by decide) rfl (by decide) dX4_save_58 ?_
  refine nv_iconst hX (m := 0) (by decide) dX4_save_61 ?_
  refine rv_aload_n hX dX4_save_62 rfl ?_
  refine mv_ga hX (k := 20) (j := 20) gX4_67_X4 (by decide) rfl (by decide) dX4_save_63 ?_
  refine rv_iload_n hX dX4_save_66 rfl ?_
  refine nv_bipush hX (m := 51) (by decide) dX4_save_67 ?_
  refine mv_copyE hX iX4_144 hG (j1 := 5) (j2 := 20) ⟨by decide, by decide, rfl, by decide⟩ ⟨by decide, by decide, rfl, by decide⟩ (show _ ≤ 51 by omega) (show _ ≤ 2720 by omega) (Or.inl (by decide)) (by omega) rfl (Nat.le_of_ble_eq_true rfl) dX4_save_69 (fun τ_69 h_69 => ?_)
  refine rv_istore_n hX dX4_save_72 (rv_st_3 rfl) ?_
  refine rv_aload_n hX dX4_save_73 rfl ?_
  refine mv_ga hX (k := 6) (j := 6) gX4_25_X4 (by decide) rfl (by decide) dX4_save_74 ?_
  refine nv_iconst hX (m := 0) (by decide) dX4_save_77 ?_
  refine rv_aload_n hX dX4_save_78 rfl ?_
  refine mv_ga hX (k := 20) (j := 20) gX4_67_X4 (by decide) rfl (by decide) dX4_save_79 ?_
  refine rv_iload_n hX dX4_save_82 rfl ?_
  refine nv_bipush hX (m := 17) (by decide) dX4_save_83 ?_
  refine mv_copyE hX iX4_144 hG (j1 := 6) (j2 := 20) ⟨by decide, by decide, rfl, by decide⟩ ⟨by decide, by decide, rfl, by decide⟩ (show _ ≤ 17 by omega) (show _ ≤ 2720 by omega) (Or.inl (by decide)) (by omega) rfl (Nat.le_of_ble_eq_true rfl) dX4_save_85 (fun τ_85 h_85 => ?_)
  refine rv_istore_n hX dX4_save_88 (rv_st_3 rfl) ?_
  refine rv_aload_n hX dX4_save_89 rfl ?_
  refine mv_ga hX (k := 7) (j := 7) gX4_28_X4 (by decide) rfl (by decide) dX4_save_90 ?_
  refine nv_iconst hX (m := 0) (by decide) dX4_save_93 ?_
  refine rv_aload_n hX dX4_save_94 rfl ?_
  refine mv_ga hX (k := 20) (j := 20) gX4_67_X4 (by decide) rfl (by decide) dX4_save_95 ?_
  refine rv_iload_n hX dX4_save_98 rfl ?_
  refine nv_bipush hX (m := 102) (by decide) dX4_save_99 ?_
  refine mv_copyE hX iX4_144 hG (j1 := 7) (j2 := 20) ⟨by decide, by decide, rfl, by decide⟩ ⟨by decide, by decide, rfl, by decide⟩ (show _ ≤ 102 by omega) (show _ ≤ 2720 by omega) (Or.inl (by decide)) (by omega) rfl (Nat.le_of_ble_eq_true rfl) dX4_save_101 (fun τ_101 h_101 => ?_)
  refine rv_istore_n hX dX4_save_104 (rv_st_3 rfl) ?_
  refine rv_aload_n hX dX4_save_105 rfl ?_
  refine mv_ga hX (k := 8) (j := 8) gX4_31_X4 (by decide) rfl (by decide) dX4_save_106 ?_
  refine nv_iconst hX (m := 0) (by decide) dX4_save_109 ?_
  refine rv_aload_n hX dX4_save_110 rfl ?_
  refine mv_ga hX (k := 20) (j := 20) gX4_67_X4 (by decide) rfl (by decide) dX4_save_111 ?_
  refine rv_iload_n hX dX4_save_114 rfl ?_
  refine nv_bipush hX (m := 102) (by decide) dX4_save_115 ?_
  refine mv_copyE hX iX4_144 hG (j1 := 8) (j2 := 20) ⟨by decide, by decide, rfl, by decide⟩ ⟨by decide, by decide, rfl, by decide⟩ (show _ ≤ 102 by omega) (show _ ≤ 2720 by omega) (Or.inl (by decide)) (by omega) rfl (Nat.le_of_ble_eq_true rfl) dX4_save_117 (fun τ_117 h_117 => ?_)
  refine rv_istore_n hX dX4_save_120 (rv_st_3 rfl) ?_
  refine rv_aload_n hX dX4_save_121 rfl ?_
  refine mv_ga hX (k := 9) (j := 9) gX4_34_X4 (by decide) rfl (by decide) dX4_save_122 ?_
  refine nv_iconst hX (m := 0) (by decide) dX4_save_125 ?_
  refine rv_aload_n hX dX4_save_126 rfl ?_
  refine mv_ga hX (k := 20) (j := 20) gX4_67_X4 (by decide) rfl (by decide) dX4_save_127 ?_
  refine rv_iload_n hX dX4_save_130 rfl ?_
  refine nv_sipush hX (m := 306) (by decide) dX4_save_131 ?_
  refine mv_copyE hX iX4_144 hG (j1 := 9) (j2 := 20) ⟨by decide, by decide, rfl, by decide⟩ ⟨by decide, by decide, rfl, by decide⟩ (show _ ≤ 306 by omega) (show _ ≤ 2720 by omega) (Or.inl (by decide)) (by omega) rfl (Nat.le_of_ble_eq_true rfl) dX4_save_134 (fun τ_134 h_134 => ?_)
  refine rv_istore_n hX dX4_save_137 (rv_st_3 rfl) ?_
  refine rv_aload_n hX dX4_save_138 rfl ?_
  refine mv_ga hX (k := 10) (j := 10) gX4_37_X4 (by decide) rfl (by decide) dX4_save_139 ?_
  refine nv_iconst hX (m := 0) (by decide) dX4_save_142 ?_
  refine rv_aload_n hX dX4_save_143 rfl ?_
  refine mv_ga hX (k := 20) (j := 20) gX4_67_X4 (by decide) rfl (by decide) dX4_save_144 ?_
  refine rv_iload_n hX dX4_save_147 rfl ?_
  refine nv_bipush hX (m := 17) (by decide) dX4_save_148 ?_
  refine mv_copyE hX iX4_144 hG (j1 := 10) (j2 := 20) ⟨by decide, by decide, rfl, by decide⟩ ⟨by decide, by decide, rfl, by decide⟩ (show _ ≤ 17 by omega) (show _ ≤ 2720 by omega) (Or.inl (by decide)) (by omega) rfl (Nat.le_of_ble_eq_true rfl) dX4_save_150 (fun τ_150 h_150 => ?_)
  refine rv_istore_n hX dX4_save_153 (rv_st_3 rfl) ?_
  refine rv_aload_n hX dX4_save_154 rfl ?_
  refine mv_ga hX (k := 11) (j := 11) gX4_40_X4 (by decide) rfl (by decide) dX4_save_155 ?_
  refine nv_iconst hX (m := 0) (by decide) dX4_save_158 ?_
  refine rv_aload_n hX dX4_save_159 rfl ?_
  refine mv_ga hX (k := 20) (j := 20) gX4_67_X4 (by decide) rfl (by decide) dX4_save_160 ?_
  refine rv_iload_n hX dX4_save_163 rfl ?_
  refine nv_bipush hX (m := 17) (by decide) dX4_save_164 ?_
  refine mv_copyE hX iX4_144 hG (j1 := 11) (j2 := 20) ⟨by decide, by decide, rfl, by decide⟩ ⟨by decide, by decide, rfl, by decide⟩ (show _ ≤ 17 by omega) (show _ ≤ 2720 by omega) (Or.inl (by decide)) (by omega) rfl (Nat.le_of_ble_eq_true rfl) dX4_save_166 (fun τ_166 h_166 => ?_)
  refine rv_istore_n hX dX4_save_169 (rv_st_3 rfl) ?_
  refine rv_aload_n hX dX4_save_170 rfl ?_
  refine mv_ga hX (k := 12) (j := 12) gX4_43_X4 (by decide) rfl (by decide) dX4_save_171 ?_
  refine nv_iconst hX (m := 0) (by decide) dX4_save_174 ?_
  refine rv_aload_n hX dX4_save_175 rfl ?_
  refine mv_ga hX (k := 20) (j := 20) gX4_67_X4 (by decide) rfl (by decide) dX4_save_176 ?_
  refine rv_iload_n hX dX4_save_179 rfl ?_
  refine nv_bipush hX (m := 17) (by decide) dX4_save_180 ?_
  refine mv_copyE hX iX4_144 hG (j1 := 12) (j2 := 20) ⟨by decide, by decide, rfl, by decide⟩ ⟨by decide, by decide, rfl, by decide⟩ (show _ ≤ 17 by omega) (show _ ≤ 2720 by omega) (Or.inl (by decide)) (by omega) rfl (Nat.le_of_ble_eq_true rfl) dX4_save_182 (fun τ_182 h_182 => ?_)
  refine rv_istore_n hX dX4_save_185 (rv_st_3 rfl) ?_
  refine rv_aload_n hX dX4_save_186 rfl ?_
  refine mv_ga hX (k := 2) (j := 2) gX4_13_X4 (by decide) rfl (by decide) dX4_save_187 ?_
  refine nv_iconst hX (m := 0) (by decide) dX4_save_190 ?_
  refine rv_aload_n hX dX4_save_191 rfl ?_
  refine mv_ga hX (k := 21) (j := 21) gX4_70_X4 (by decide) rfl (by decide) dX4_save_192 ?_
  refine nv_sipush hX (m := 256) (by decide) dX4_save_195 ?_
  refine rv_iload_n hX dX4_save_198 rfl ?_
  first | refine nv_imul hX dX4_save_199 ?_ | refine rv_imul hX dX4_save_199 ?_
  refine nv_bipush hX (m := 8) (by decide) dX4_save_200 ?_
  refine mv_copyE hX iX4_144 hG (j1 := 2) (j2 := 21) ⟨by decide, by decide, rfl, by decide⟩ ⟨by decide, by decide, rfl, by decide⟩ (show _ ≤ 8 by omega) (show _ ≤ 1024 by omega) (Or.inl (by decide)) (by omega) rfl (Nat.le_of_ble_eq_true rfl) dX4_save_202 (fun τ_202 h_202 => ?_)
  refine rv_istore_n hX dX4_save_205 (rv_st_3 rfl) ?_
  refine rv_aload_n hX dX4_save_206 rfl ?_
  refine mv_ga hX (k := 13) (j := 13) gX4_46_X4 (by decide) rfl (by decide) dX4_save_207 ?_
  refine nv_iconst hX (m := 0) (by decide) dX4_save_210 ?_
  refine rv_aload_n hX dX4_save_211 rfl ?_
  refine mv_ga hX (k := 21) (j := 21) gX4_70_X4 (by decide) rfl (by decide) dX4_save_212 ?_
  refine rv_iload_n hX dX4_save_215 rfl ?_
  refine nv_bipush hX (m := 60) (by decide) dX4_save_216 ?_
  refine mv_copyE hX iX4_144 hG (j1 := 13) (j2 := 21) ⟨by decide, by decide, rfl, by decide⟩ ⟨by decide, by decide, rfl, by decide⟩ (show _ ≤ 62 by omega) (show _ ≤ 1024 by omega) (Or.inl (by decide)) (by omega) rfl (Nat.le_of_ble_eq_true rfl) dX4_save_218 (fun τ_218 h_218 => ?_)
  refine rv_istore_n hX dX4_save_221 (rv_st_3 rfl) ?_
  refine rv_aload_n hX dX4_save_222 rfl ?_
  refine mv_ga hX (k := 14) (j := 14) gX4_49_X4 (by decide) rfl (by decide) dX4_save_223 ?_
  refine nv_iconst hX (m := 0) (by decide) dX4_save_226 ?_
  refine rv_aload_n hX dX4_save_227 rfl ?_
  refine mv_ga hX (k := 21) (j := 21) gX4_70_X4 (by decide) rfl (by decide) dX4_save_228 ?_
  refine rv_iload_n hX dX4_save_231 rfl ?_
  refine nv_bipush hX (m := 60) (by decide) dX4_save_232 ?_
  refine mv_copyE hX iX4_144 hG (j1 := 14) (j2 := 21) ⟨by decide, by decide, rfl, by decide⟩ ⟨by decide, by decide, rfl, by decide⟩ (show _ ≤ 62 by omega) (show _ ≤ 1024 by omega) (Or.inl (by decide)) (by omega) rfl (Nat.le_of_ble_eq_true rfl) dX4_save_234 (fun τ_234 h_234 => ?_)
  refine rv_istore_n hX dX4_save_237 (rv_st_3 rfl) ?_
  refine rv_aload_n hX dX4_save_238 rfl ?_
  refine mv_ga hX (k := 15) (j := 15) gX4_52_X4 (by decide) rfl (by decide) dX4_save_239 ?_
  refine nv_iconst hX (m := 0) (by decide) dX4_save_242 ?_
  refine rv_aload_n hX dX4_save_243 rfl ?_
  refine mv_ga hX (k := 21) (j := 21) gX4_70_X4 (by decide) rfl (by decide) dX4_save_244 ?_
  refine rv_iload_n hX dX4_save_247 rfl ?_
  refine nv_bipush hX (m := 60) (by decide) dX4_save_248 ?_
  refine mv_copyE hX iX4_144 hG (j1 := 15) (j2 := 21) ⟨by decide, by decide, rfl, by decide⟩ ⟨by decide, by decide, rfl, by decide⟩ (show _ ≤ 62 by omega) (show _ ≤ 1024 by omega) (Or.inl (by decide)) (by omega) rfl (Nat.le_of_ble_eq_true rfl) dX4_save_250 (fun τ_250 h_250 => ?_)
  refine rv_istore_n hX dX4_save_253 (rv_st_3 rfl) ?_
  refine rv_aload_n hX dX4_save_254 rfl ?_
  refine mv_ga hX (k := 16) (j := 16) gX4_55_X4 (by decide) rfl (by decide) dX4_save_255 ?_
  refine nv_iconst hX (m := 0) (by decide) dX4_save_258 ?_
  refine rv_aload_n hX dX4_save_259 rfl ?_
  refine mv_ga hX (k := 21) (j := 21) gX4_70_X4 (by decide) rfl (by decide) dX4_save_260 ?_
  refine rv_iload_n hX dX4_save_263 rfl ?_
  refine nv_bipush hX (m := 60) (by decide) dX4_save_264 ?_
  refine mv_copyE hX iX4_144 hG (j1 := 16) (j2 := 21) ⟨by decide, by decide, rfl, by decide⟩ ⟨by decide, by decide, rfl, by decide⟩ (show _ ≤ 62 by omega) (show _ ≤ 1024 by omega) (Or.inl (by decide)) (by omega) rfl (Nat.le_of_ble_eq_true rfl) dX4_save_266 (fun τ_266 h_266 => ?_)
  refine rv_istore_n hX dX4_save_269 (rv_st_3 rfl) ?_
  refine rv_aload_n hX dX4_save_270 rfl ?_
  refine mv_ga hX (k := 17) (j := 17) gX4_58_X4 (by decide) rfl (by decide) dX4_save_271 ?_
  refine nv_iconst hX (m := 0) (by decide) dX4_save_274 ?_
  refine rv_aload_n hX dX4_save_275 rfl ?_
  refine mv_ga hX (k := 21) (j := 21) gX4_70_X4 (by decide) rfl (by decide) dX4_save_276 ?_
  refine rv_iload_n hX dX4_save_279 rfl ?_
  refine nv_bipush hX (m := 8) (by decide) dX4_save_280 ?_
  refine mv_copyE hX iX4_144 hG (j1 := 17) (j2 := 21) ⟨by decide, by decide, rfl, by decide⟩ ⟨by decide, by decide, rfl, by decide⟩ (show _ ≤ 8 by omega) (show _ ≤ 1024 by omega) (Or.inl (by decide)) (by omega) rfl (Nat.le_of_ble_eq_true rfl) dX4_save_282 (fun τ_282 h_282 => ?_)
  refine rv_istore_n hX dX4_save_285 (rv_st_3 rfl) ?_
  refine mv_retv hX hE dX4_save_286 ?_
  have n1 := svL.nil (σ := σ) (τ := σ) (P := 19) (q0 := 11 * w) .rf rfl
  have n2 := n1.step h_21 rfl (by decide) (by decide)
  have b0 := svL.nil (σ := σ) (τ := τ_21) (P := 20) (q0 := 680 * w) n2.2.2 (h_21.2.2.2.1 20 (by decide))
  have b1 := b0.step h_37 (by omega) (by decide) (by decide)
  have b2 := b1.step h_53 (by omega) (by decide) (by decide)
  have b3 := b2.step h_69 (by omega) (by decide) (by decide)
  have b4 := b3.step h_85 (by omega) (by decide) (by decide)
  have b5 := b4.step h_101 (by omega) (by decide) (by decide)
  have b6 := b5.step h_117 (by omega) (by decide) (by decide)
  have b7 := b6.step h_134 (by omega) (by decide) (by decide)
  have b8 := b7.step h_150 (by omega) (by decide) (by decide)
  have b9 := b8.step h_166 (by omega) (by decide) (by decide)
  have b10 := b9.step h_182 (by omega) (by decide) (by decide)
  have fB : rv_same [] [20] τ_21 τ_182 := (((((((((h_37.2.2).tr h_53.2.2).tr h_69.2.2).tr h_85.2.2).tr h_101.2.2).tr h_117.2.2).tr h_134.2.2).tr h_150.2.2).tr h_166.2.2).tr h_182.2.2
  have c0 := svL.nil (σ := σ) (τ := τ_182) (P := 21) (q0 := 256 * w) b10.2.2 (by rw [fB.2.1 21 (by decide)]; exact h_21.2.2.2.1 21 (by decide))
  have c1 := c0.step h_202 (by omega) (by decide) (by decide)
  have c2 := c1.step h_218 (by omega) (by decide) (by decide)
  have c3 := c2.step h_234 (by omega) (by decide) (by decide)
  have c4 := c3.step h_250 (by omega) (by decide) (by decide)
  have c5 := c4.step h_266 (by omega) (by decide) (by decide)
  have c6 := c5.step h_282 (by omega) (by decide) (by decide)
  have fF : rv_same [] [21] τ_182 τ_282 := (((((h_202.2.2).tr h_218.2.2).tr h_234.2.2).tr h_250.2.2).tr h_266.2.2).tr h_282.2.2
  have n3 := (n2.same fB (by decide) (by decide)).same fF (by decide) (by decide)
  have b11 := b10.same fF (by decide) (by decide)
  refine ⟨⟨fun i hi => ?_, fun e he => (b11.1 e he).2, fun e he => (c6.1 e he).2⟩, ⟨n3.2.1, b11.2.1, c6.2.1⟩, c6.2.2⟩
  exact (n3.1 (1, 0, 11) (by simp)).2 i hi
/-- rows brought back: (place, source, from, how many) -/
def bkL (σ τ : rv_S) (D : List (Nat × Nat × Nat × Nat)) : Prop := (∀ e, e ∈ D → (∀ i, i < e.2.2.2 → τ.2.1 e.1 i = σ.2.1 e.2.1 (e.2.2.1 + i)) ∧ ∀ i, e.2.2.2 ≤ i → τ.2.1 e.1 i = σ.2.1 e.1 i) ∧ rv_same [] (D.map (fun e => e.1)) σ τ
theorem bkL.step {σ τ τ' : rv_S} {D : List (Nat × Nat × Nat × Nat)} {j src pos n : Nat} (h : bkL σ τ D) (hc : rv_cpd τ src pos j 0 n τ') (h1 : src ∉ D.map (fun e => e.1)) (h2 : j ∉ D.map (fun e => e.1)) : bkL σ τ' (D ++ [(j, src, pos, n)]) := by
  obtain ⟨a, b⟩ := h
  obtain ⟨c, d, e⟩ := hc
  refine ⟨fun x hx => ?_, ?_⟩
  · rcases List.mem_append.mp hx with hx | hx
    · have hne : x.1 ∉ [j] := fun q => h2 (by rw [← List.mem_singleton.mp q]; exact List.mem_map.mpr ⟨x, hx, rfl⟩)
      rw [e.2.1 x.1 hne]
      exact a x hx
    · rw [List.mem_singleton.mp hx]
      refine ⟨fun i hi => ?_, fun i hi => ?_⟩
      · have := c i hi
        rw [Nat.zero_add] at this
        show τ'.2.1 j i = σ.2.1 src (pos + i)
        rw [this, b.2.1 src h1]
      · show τ'.2.1 j i = σ.2.1 j i
        have hi' : n ≤ i := hi
        rw [d i (by omega), b.2.1 j h2]
  · rw [List.map_append]
    exact (b.mn (fun _ q => q) (fun k q => List.mem_append_left _ q)).tr (e.mn (fun _ q => q) (fun k q => List.mem_append_right _ q))
def bk_D (w : Nat) : List (Nat × Nat × Nat × Nat) := [(1, 19, 11 * w, 11), (3, 20, 680 * w, 16), (4, 20, 680 * w + 17, 16), (5, 20, 680 * w + 34, 48), (6, 20, 680 * w + 85, 16), (7, 20, 680 * w + 102, 96), (8, 20, 680 * w + 204, 96), (9, 20, 680 * w + 306, 288), (10, 20, 680 * w + 612, 16), (11, 20, 680 * w + 629, 16), (12, 20, 680 * w + 646, 16), (2, 21, 256 * w, 8), (13, 21, 256 * w + 8, 60), (14, 21, 256 * w + 68, 60), (15, 21, 256 * w + 128, 60), (16, 21, 256 * w + 188, 60), (17, 21, 256 * w + 248, 8)]
/-- which numbers of a row are brought back -/
def bk_E : List (Nat × Nat) := [(1, 11), (3, 16), (4, 16), (5, 48), (6, 16), (7, 96), (8, 96), (9, 288), (10, 16), (11, 16), (12, 16), (2, 8), (13, 60), (14, 60), (15, 60), (16, 60), (17, 8)]
theorem m_bringBack {G : rv_G} (hG : rv_GK G) {d : Nat} (hd : 1 ≤ d) {υ σ : rv_S} {w : Nat} (hw : w ≤ 3) (hs : svIn υ σ w) : mC G d yX4_bringBack wX4_bringBack [.int (nI w)] σ (mPv (fun τ => (∀ e, e ∈ bk_E → (∀ i, i < e.2 → τ.2.1 e.1 i = υ.2.1 e.1 i) ∧ ∀ i, e.2 ≤ i → τ.2.1 e.1 i = σ.2.1 e.1 i) ∧ rv_same [] [1, 2, 3, 4, 5, 6, 7, 8, 9, 10, 11, 12, 13, 14, 15, 16, 17] σ τ)) := by
  refine mv_start hG (by decide +kernel) (Nat.le_of_ble_eq_true rfl) (fun X Hb o hX1 hX hE => ?_)
  subst hX1
  show rv_V X (rv_mh Hb o _) 0 [some (.ref o), some (.int (nI w)), none, none] []
  refine rv_aload_n hX dX4_bringBack_0 rfl ?_
  refine mv_ga hX (k := 19) (j := 19) gX4_64_X4 (by decide) rfl (by decide) dX4_bringBack_1 ?_
  refine nv_bipush hX (m := 11) (by decide) dX4_bringBack_4 ?_
  refine rv_iload_n hX dX4_bringBack_6 rfl ?_
  first | refine nv_imul hX dX4_bringBack_7 ?_ | refine rv_imul hX dX4_bringBack_7 ?_
  refine rv_aload_n hX dX4_bringBack_8 rfl ?_
  refine mv_ga hX (k := 1) (j := 1) gX4_7_X4 (by decide) rfl (by decide) dX4_bringBack_9 ?_
  refine nv_iconst hX (m := 0) (by decide) dX4_bringBack_12 ?_
  refine nv_bipush hX (m := 11) (by decide) dX4_bringBack_13 ?_
  refine mv_copyE hX iX4_144 hG (j1 := 19) (j2 := 1) ⟨by decide, by decide, rfl, by decide⟩ ⟨by decide, by decide, rfl, by decide⟩ (show _ ≤ 44 by omega) (show _ ≤ 11 by omega) (Or.inl (by decide)) (by omega) rfl (Nat.le_of_ble_eq_true rfl) dX4_bringBack_15 (fun τ_15 h_15 => ?_)
  refine rv_istore_n hX dX4_bringBack_18 (rv_st_2 rfl) ?_
  refine nv_sipush hX (m := 680) (by decide) dX4_bringBack_19 ?_
  refine rv_iload_n hX dX4_bringBack_22 rfl ?_
  first | refine nv_imul hX dX4_bringBack_23 ?_ | refine rv_imul hX dX4_bringBack_23 ?_
  refine rv_istore_n hX dX4_bringBack_24 (rv_st_3 rfl) ?_
  refine rv_aload_n hX dX4_bringBack_25 rfl ?_
  refine mv_ga hX (k := 20) (j := 20) gX4_67_X4 (by decide) rfl (by decide) dX4_bringBack_26 ?_
  refine rv_iload_n hX dX4_bringBack_29 rfl ?_
  refine rv_aload_n hX dX4_bringBack_30 rfl ?_
  refine mv_ga hX (k := 3) (j := 3) gX4_16_X4 (by decide) rfl (by decide) dX4_bringBack_31 ?_
  refine nv_iconst hX (m := 0) (by decide) dX4_bringBack_34 ?_
  refine nv_bipush hX (m := 16) (by decide) dX4_bringBack_35 ?_
  refine mv_copyE hX iX4_144 hG (j1 := 20) (j2 := 3) ⟨by decide, by decide, rfl, by decide⟩ ⟨by decide, by decide, rfl, by decide⟩ (show _ ≤ 2720 by omega) (show _ ≤ 17 by omega) (Or.inl (by decide)) (by omega) rfl (Nat.le_of_ble_eq_true rfl) dX4_bringBack_37 (fun τ_37 h_37 => ?_)
  refine rv_istore_n hX dX4_bringBack_40 (rv_st_2 rfl) ?_
  refine rv_aload_n hX dX4_bringBack_41 rfl ?_
  refine mv_ga hX (k := 20) (j := 20) gX4_67_X4 (by decide) rfl (by decide) dX4_bringBack_42 ?_
  refine rv_iload_n hX dX4_bringBack_45 rfl ?_
  refine nv_bipush hX (m := 17) (by decide) dX4_bringBack_46 ?_
  first | refine nv_iadd hX dX4_bringBack_48 ?_ | refine rv_iadd hX dX4_bringBack_48 ?_
  refine rv_aload_n hX dX4_bringBack_49 rfl ?_
  refine mv_ga hX (k := 4) (j := 4) gX4_19_X4 (by decide) rfl (by decide) dX4_bringBack_50 ?_
  refine nv_iconst hX (m := 0) (by decide) dX4_bringBack_53 ?_
  refine nv_bipush hX (m := 16) (by decide) dX4_bringBack_54 ?_
  refine mv_copyE hX iX4_144 hG (j1 := 20) (j2 := 4) ⟨by decide, by decide, rfl, by decide⟩ ⟨by decide, by decide, rfl, by decide⟩ (show _ ≤ 2720 by omega) (show _ ≤ 17 by omega) (Or.inl (by decide)) (by omega) rfl (Nat.le_of_ble_eq_true rfl) dX4_bringBack_56 (fun τ_56 h_56 => ?_)
  refine rv_istore_n hX dX4_bringBack_59 (rv_st_2 rfl) ?_
  refine rv_aload_n hX dX4_bringBack_60 rfl ?_
  refine mv_ga hX (k := 20) (j := 20) gX4_67_X4 (by decide) rfl (by decide) dX4_bringBack_61 ?_
  refine rv_iload_n hX dX4_bringBack_64 rfl ?_
  refine nv_bipush hX (m := 34) (by decide) dX4_bringBack_65 ?_
  first | refine nv_iadd hX dX4_bringBack_67 ?_ | refine rv_iadd hX dX4_bringBack_67 ?_
  refine rv_aload_n hX dX4_bringBack_68 rfl ?_
  refine mv_ga hX (k := 5) (j := 5) gX4_22_X4 (by decide) rfl (by decide) dX4_bringBack_69 ?_
  refine nv_iconst hX (m := 0) (by decide) dX4_bringBack_72 ?_
  refine nv_bipush hX (m := 48) (by decide) dX4_bringBack_73 ?_
  refine mv_copyE hX iX4_144 hG (j1 := 20) (j2 := 5) ⟨by decide, by decide, rfl, by decide⟩ ⟨by decide, by decide, rfl, by decide⟩ (show _ ≤ 2720 by omega) (show _ ≤ 51 by omega) (Or.inl (by decide)) (by omega) rfl (Nat.le_of_ble_eq_true rfl) dX4_bringBack_75 (fun τ_75 h_75 => ?_)
  refine rv_istore_n hX dX4_bringBack_78 (rv_st_2 rfl) ?_
  refine rv_aload_n hX dX4_bringBack_79 rfl ?_
  refine mv_ga hX (k := 20) (j := 20) gX4_67_X4 (by decide) rfl (by decide) dX4_bringBack_80 ?_
  refine rv_iload_n hX dX4_bringBack_83 rfl ?_
  refine nv_bipush hX (m := 85) (by decide) dX4_bringBack_84 ?_
  first | refine nv_iadd hX dX4_bringBack_86 ?_ | refine rv_iadd hX dX4_bringBack_86 ?_
  refine rv_aload_n hX dX4_bringBack_87 rfl ?_
  refine mv_ga hX (k := 6) (j := 6) gX4_25_X4 (by decide) rfl (by decide) dX4_bringBack_88 ?_
  refine nv_iconst hX (m := 0) (by decide) dX4_bringBack_91 ?_
  refine nv_bipush hX (m := 16) (by decide) dX4_bringBack_92 ?_
  refine mv_copyE hX iX4_144 hG (j1 := 20) (j2 := 6) ⟨by decide, by decide, rfl, by decide⟩ ⟨by decide, by decide, rfl, by decide⟩ (show _ ≤ 2720 by omega) (show _ ≤ 17 by omega) (Or.inl (by decide)) (by omega) rfl (Nat.le_of_ble_eq_true rfl) dX4_bringBack_94 (fun τ_94 h_94 => ?_)
  refine rv_istore_n hX dX4_bringBack_97 (rv_st_2 rfl) ?_
  refine rv_aload_n hX dX4_bringBack_98 rfl ?_
  refine mv_ga hX (k := 20) (j := 20) gX4_67_X4 (by decide) rfl (by decide) dX4_bringBack_99 ?_
  refine rv_iload_n hX dX4_bringBack_102 rfl ?_
  refine nv_bipush hX (m := 102) (by decide) dX4_bringBack_103 ?_
  first | refine nv_iadd hX dX4_bringBack_105 ?_ | refine rv_iadd hX dX4_bringBack_105 ?_
  refine rv_aload_n hX dX4_bringBack_106 rfl ?_
  refine mv_ga hX (k := 7) (j := 7) gX4_28_X4 (by decide) rfl (by decide) dX4_bringBack_107 ?_
  refine nv_iconst hX (m := 0) (by decide) dX4_bringBack_110 ?_
  refine nv_bipush hX (m := 96) (by decide) dX4_bringBack_111 ?_
  refine mv_copyE hX iX4_144 hG (j1 := 20) (j2 := 7) ⟨by decide, by decide, rfl, by decide⟩ ⟨by decide, by decide, rfl, by decide⟩ (show _ ≤ 2720 by omega) (show _ ≤ 102 by omega) (Or.inl (by decide)) (by omega) rfl (Nat.le_of_ble_eq_true rfl) dX4_bringBack_113 (fun τ_113 h_113 => ?_)
  refine rv_istore_n hX dX4_bringBack_116 (rv_st_2 rfl) ?_
  refine rv_aload_n hX dX4_bringBack_117 rfl ?_
  refine mv_ga hX (k := 20) (j := 20) gX4_67_X4 (by decide) rfl (by decide) dX4_bringBack_118 ?_
  refine rv_iload_n hX dX4_bringBack_121 rfl ?_
  refine nv_sipush hX (m := 204) (by decide) dX4_bringBack_122 ?_
  first | refine nv_iadd hX dX4_bringBack_125 ?_ | refine rv_iadd hX dX4_bringBack_125 ?_
  refine rv_aload_n hX dX4_bringBack_126 rfl ?_
  refine mv_ga hX (k := 8) (j := 8) gX4_31_X4 (by decide) rfl (by decide) dX4_bringBack_127 ?_
  refine nv_iconst hX (m := 0) (by decide) dX4_bringBack_130 ?_
  refine nv_bipush hX (m := 96) (by decide) dX4_bringBack_131 ?_
  refine mv_copyE hX iX4_144 hG (j1 := 20) (j2 := 8) ⟨by decide, by decide, rfl, by decide⟩ ⟨by decide, by decide, rfl, by decide⟩ (show _ ≤ 2720 by omega) (show _ ≤ 102 by omega) (Or.inl (by decide)) (by omega) rfl (Nat.le_of_ble_eq_true rfl) dX4_bringBack_133 (fun τ_133 h_133 => ?_)
  refine rv_istore_n hX dX4_bringBack_136 (rv_st_2 rfl) ?_
  refine rv_aload_n hX dX4_bringBack_137 rfl ?_
  refine mv_ga hX (k := 20) (j := 20) gX4_67_X4 (by decide) rfl (by decide) dX4_bringBack_138 ?_
  refine rv_iload_n hX dX4_bringBack_141 rfl ?_
  refine nv_sipush hX (m := 306) (by decide) dX4_bringBack_142 ?_
  first | refine nv_iadd hX dX4_bringBack_145 ?_ | refine rv_iadd hX dX4_bringBack_145 ?_
  refine rv_aload_n hX dX4_bringBack_146 rfl ?_
  refine mv_ga hX (k := 9) (j := 9) gX4_34_X4 (by decide) rfl (by decide) dX4_bringBack_147 ?_
  refine nv_iconst hX (m := 0) (by decide) dX4_bringBack_150 ?_
  refine nv_sipush hX (m := 288) (by decide) dX4_bringBack_151 ?_
  refine mv_copyE hX iX4_144 hG (j1 := 20) (j2 := 9) ⟨by decide, by decide, rfl, by decide⟩ ⟨by decide, by decide, rfl, by decide⟩ (show _ ≤ 2720 by omega) (show _ ≤ 306 by omega) (Or.inl (by decide)) (by omega) rfl (Nat.le_of_ble_eq_true rfl) dX4_bringBack_154 (fun τ_154 h_154 => ?_)
  refine rv_istore_n hX dX4_bringBack_157 (rv_st_2 rfl) ?_
  refine rv_aload_n hX dX4_bringBack_158 rfl ?_
  refine mv_ga hX (k := 20) (j := 20) gX4_67_X4 (by decide) rfl (by decide) dX4_bringBack_159 ?_
  refine rv_iload_n hX dX4_bringBack_162 rfl ?_
  refine nv_sipush hX (m := 612) (by decide) dX4_bringBack_163 ?_
  first | refine nv_iadd hX dX4_bringBack_166 ?_ | refine rv_iadd hX dX4_bringBack_166 ?_
  refine rv_aload_n hX dX4_bringBack_167 rfl ?_
  refine mv_ga hX (k := 10) (j := 10) gX4_37_X4 (by decide) rfl (by decide) dX4_bringBack_168 ?_
  refine nv_iconst hX (m := 0) (by decide) dX4_bringBack_171 ?_
  refine nv_bipush hX (m := 16) (by decide) dX4_bringBack_172 ?_
  refine mv_copyE hX iX4_144 hG (j1 := 20) (j2 := 10) ⟨by decide, by decide, rfl, by decide⟩ ⟨by decide, by decide, rfl, by decide⟩ (show _ ≤ 2720 by omega) (show _ ≤ 17 by omega) (Or.inl (by decide)) (by omega) rfl (Nat.le_of_ble_eq_true rfl) dX4_bringBack_174 (fun τ_174 h_174 => ?_)
  refine rv_istore_n hX dX4_bringBack_177 (rv_st_2 rfl) ?_
  refine rv_aload_n hX dX4_bringBack_178 rfl ?_
  refine mv_ga hX (k := 20) (j := 20) gX4_67_X4 (by decide) rfl (by decide) dX4_bringBack_179 ?_
  refine rv_iload_n hX dX4_bringBack_182 rfl ?_
  refine nv_sipush hX (m := 629) (by decide) dX4_bringBack_183 ?_
  first | refine nv_iadd hX dX4_bringBack_186 ?_ | refine rv_iadd hX dX4_bringBack_186 ?_
  refine rv_aload_n hX dX4_bringBack_187 rfl ?_
  refine mv_ga hX (k := 11) (j := 11) gX4_40_X4 (by decide) rfl (by decide) dX4_bringBack_188 ?_
  refine nv_iconst hX (m := 0) (by decide) dX4_bringBack_191 ?_
  refine nv_bipush hX (m := 16) (by decide) dX4_bringBack_192 ?_
  refine mv_copyE hX iX4_144 hG (j1 := 20) (j2 := 11) ⟨by decide, by decide, rfl, by decide⟩ ⟨by decide, by decide, rfl, by decide⟩ (show _ ≤ 2720 by omega) (show _ ≤ 17 by omega) (Or.inl (by decide)) (by omega) rfl (Nat.le_of_ble_eq_true rfl) dX4_bringBack_194 (fun τ_194 h_194 => ?_)
  refine rv_istore_n hX dX4_bringBack_197 (rv_st_2 rfl) ?_
  refine rv_aload_n hX dX4_bringBack_198 rfl ?_
  refine mv_ga hX (k := 20) (j := 20) gX4_67_X4 (by decide) rfl (by decide) dX4_bringBack_199 ?_
  refine rv_iload_n hX dX4_bringBack_202 rfl ?_
  refine nv_sipush hX (m := 646) (by decide) dX4_bringBack_203 ?_
  first | refine nv_iadd hX dX4_bringBack_206 ?_ | refine rv_iadd hX dX4_bringBack_206 ?_
  refine rv_aload_n hX dX4_bringBack_207 rfl ?_
  refine mv_ga hX (k := 12) (j := 12) gX4_43_X4 (by decide) rfl (by decide) dX4_bringBack_208 ?_
  refine nv_iconst hX (m := 0) (by decide) dX4_bringBack_211 ?_
  refine nv_bipush hX (m := 16) (by decide) dX4_bringBack_212 ?_
  refine mv_copyE hX iX4_144 hG (j1 := 20) (j2 := 12) ⟨by decide, by decide, rfl, by decide⟩ ⟨by decide, by decide, rfl, by decide⟩ (show _ ≤ 2720 by omega) (show _ ≤ 17 by omega) (Or.inl (by decide)) (by omega) rfl (Nat.le_of_ble_eq_true rfl) dX4_bringBack_214 (fun τ_214 h_214 => ?_)
  refine rv_istore_n hX dX4_bringBack_217 (rv_st_2 rfl) ?_
  refine nv_sipush hX (m := 256) (by decide) dX4_bringBack_218 ?_
  refine rv_iload_n hX dX4_bringBack_221 rfl ?_
  first | refine nv_imul hX dX4_bringBack_222 ?_ | refine rv_imul hX dX4_bringBack_222 ?_
  refine rv_istore_n hX dX4_bringBack_223 (rv_st_3 rfl) ?_
  refine rv_aload_n hX dX4_bringBack_224 rfl ?_
  refine mv_ga hX (k := 21) (j := 21) gX4_70_X4 (by decide) rfl (by decide) dX4_bringBack_225 ?_
  refine rv_iload_n hX dX4_bringBack_228 rfl ?_
  refine rv_aload_n hX dX4_bringBack_229 rfl ?_
  refine mv_ga hX (k := 2) (j := 2) gX4_13_X4 (by decide) rfl (by decide) dX4_bringBack_230 ?_
  refine nv_iconst hX (m := 0) (by decide) dX4_bringBack_233 ?_
  refine nv_bipush hX (m := 8) (by decide) dX4_bringBack_234 ?_
  refine mv_copyE hX iX4_144 hG (j1 := 21) (j2 := 2) ⟨by decide, by decide, rfl, by decide⟩ ⟨by decide, by decide, rfl, by decide⟩ (show _ ≤ 1024 by omega) (show _ ≤ 8 by omega) (Or.inl (by decide)) (by omega) rfl (Nat.le_of_ble_eq_true rfl) dX4_bringBack_236 (fun τ_236 h_236 => ?_)
  refine rv_istore_n hX dX4_bringBack_239 (rv_st_2 rfl) ?_
  refine rv_aload_n hX dX4_bringBack_240 rfl ?_
  refine mv_ga hX (k := 21) (j := 21) gX4_70_X4 (by decide) rfl (by decide) dX4_bringBack_241 ?_
  refine rv_iload_n hX dX4_bringBack_244 rfl ?_
  refine nv_bipush hX (m := 8) (by decide) dX4_bringBack_245 ?_
  first | refine nv_iadd hX dX4_bringBack_247 ?_ | refine rv_iadd hX dX4_bringBack_247 ?_
  refine rv_aload_n hX dX4_bringBack_248 rfl ?_
  refine mv_ga hX (k := 13) (j := 13) gX4_46_X4 (by decide) rfl (by decide) dX4_bringBack_249 ?_
  refine nv_iconst hX (m := 0) (by decide) dX4_bringBack_252 ?_
  refine nv_bipush hX (m := 60) (by decide) dX4_bringBack_253 ?_
  refine mv_copyE hX iX4_144 hG (j1 := 21) (j2 := 13) ⟨by decide, by decide, rfl, by decide⟩ ⟨by decide, by decide, rfl, by decide⟩ (show _ ≤ 1024 by omega) (show _ ≤ 62 by omega) (Or.inl (by decide)) (by omega) rfl (Nat.le_of_ble_eq_true rfl) dX4_bringBack_255 (fun τ_255 h_255 => ?_)
  refine rv_istore_n hX dX4_bringBack_258 (rv_st_2 rfl) ?_
  refine rv_aload_n hX dX4_bringBack_259 rfl ?_
  refine mv_ga hX (k := 21) (j := 21) gX4_70_X4 (by decide) rfl (by decide) dX4_bringBack_260 ?_
  refine rv_iload_n hX dX4_bringBack_263 rfl ?_
  refine nv_bipush hX (m := 68) (by decide) dX4_bringBack_264 ?_
  first | refine nv_iadd hX dX4_bringBack_266 ?_ | refine rv_iadd hX dX4_bringBack_266 ?_
  refine rv_aload_n hX dX4_bringBack_267 rfl ?_
  refine mv_ga hX (k := 14) (j := 14) gX4_49_X4 (by decide) rfl (by decide) dX4_bringBack_268 ?_
  refine nv_iconst hX (m := 0) (by decide) dX4_bringBack_271 ?_
  refine nv_bipush hX (m := 60) (by decide) dX4_bringBack_272 ?_
  refine mv_copyE hX iX4_144 hG (j1 := 21) (j2 := 14) ⟨by decide, by decide, rfl, by decide⟩ ⟨by decide, by decide, rfl, by decide⟩ (show _ ≤ 1024 by omega) (show _ ≤ 62 by omega) (Or.inl (by decide)) (by omega) rfl (Nat.le_of_ble_eq_true rfl) dX4_bringBack_274 (fun τ_274 h_274 => ?_)
  refine rv_istore_n hX dX4_bringBack_277 (rv_st_2 rfl) ?_
  refine rv_aload_n hX dX4_bringBack_278 rfl ?_
  refine mv_ga hX (k := 21) (j := 21) gX4_70_X4 (by decide) rfl (by decide) dX4_bringBack_279 ?_
  refine rv_iload_n hX dX4_bringBack_282 rfl ?_
  refine nv_sipush hX (m := 128) (by decide) dX4_bringBack_283 ?_
  first | refine nv_iadd hX dX4_bringBack_286 ?_ | refine rv_iadd hX dX4_bringBack_286 ?_
  refine rv_aload_n hX dX4_bringBack_287 rfl ?_
  refine mv_ga hX (k := 15) (j := 15) gX4_52_X4 (by decide) rfl (by decide) dX4_bringBack_288 ?_
  refine nv_iconst hX (m := 0) (by decide) dX4_bringBack_291 ?_
  refine nv_bipush hX (m := 60) (by decide) dX4_bringBack_292 ?_
  refine mv_copyE hX iX4_144 hG (j1 := 21) (j2 := 15) ⟨by decide, by decide, rfl, by decide⟩ ⟨by decide, by decide, rfl, by decide⟩ (show _ ≤ 1024 by omega) (show _ ≤ 62 by omega) (Or.inl (by decide)) (by omega) rfl (Nat.le_of_ble_eq_true rfl) dX4_bringBack_294 (fun τ_294 h_294 => ?_)
  refine rv_istore_n hX dX4_bringBack_297 (rv_st_2 rfl) ?_
  refine rv_aload_n hX dX4_bringBack_298 rfl ?_
  refine mv_ga hX (k := 21) (j := 21) gX4_70_X4 (by decide) rfl (by decide) dX4_bringBack_299 ?_
  refine rv_iload_n hX dX4_bringBack_302 rfl ?_
  refine nv_sipush hX (m := 188) (by decide) dX4_bringBack_303 ?_
  first | refine nv_iadd hX dX4_bringBack_306 ?_ | refine rv_iadd hX dX4_bringBack_306 ?_
  refine rv_aload_n hX dX4_bringBack_307 rfl ?_
  refine mv_ga hX (k := 16) (j := 16) gX4_55_X4 (by decide) rfl (by decide) dX4_bringBack_308 ?_
  refine nv_iconst hX (m := 0) (by decide) dX4_bringBack_311 ?_
  refine nv_bipush hX (m := 60) (by decide) dX4_bringBack_312 ?_
  refine mv_copyE hX iX4_144 hG (j1 := 21) (j2 := 16) ⟨by decide, by decide, rfl, by decide⟩ ⟨by decide, by decide, rfl, by decide⟩ (show _ ≤ 1024 by omega) (show _ ≤ 62 by omega) (Or.inl (by decide)) (by omega) rfl (Nat.le_of_ble_eq_true rfl) dX4_bringBack_314 (fun τ_314 h_314 => ?_)
  refine rv_istore_n hX dX4_bringBack_317 (rv_st_2 rfl) ?_
  refine rv_aload_n hX dX4_bringBack_318 rfl ?_
  refine mv_ga hX (k := 21) (j := 21) gX4_70_X4 (by decide) rfl (by decide) dX4_bringBack_319 ?_
  refine rv_iload_n hX dX4_bringBack_322 rfl ?_
  refine nv_sipush hX (m := 248) (by decide) dX4_bringBack_323 ?_
  first | refine nv_iadd hX dX4_bringBack_326 ?_ | refine rv_iadd hX dX4_bringBack_326 ?_
  refine rv_aload_n hX dX4_bringBack_327 rfl ?_
  refine mv_ga hX (k := 17) (j := 17) gX4_58_X4 (by decide) rfl (by decide) dX4_bringBack_328 ?_
  refine nv_iconst hX (m := 0) (by decide) dX4_bringBack_331 ?_
  refine nv_bipush hX (m := 8) (by decide) dX4_bringBack_332 ?_
  refine mv_copyE hX iX4_144 hG (j1 := 21) (j2 := 17) ⟨by decide, by decide, rfl, by decide⟩ ⟨by decide, by decide, rfl, by decide⟩ (show _ ≤ 1024 by omega) (show _ ≤ 8 by omega) (Or.inl (by decide)) (by omega) rfl (Nat.le_of_ble_eq_true rfl) dX4_bringBack_334 (fun τ_334 h_334 => ?_)
  refine rv_istore_n hX dX4_bringBack_337 (rv_st_2 rfl) ?_
  refine mv_retv hX hE dX4_bringBack_338 ?_
  have b0 : bkL σ σ [] := ⟨fun e he => (by cases he), .rf⟩
  have b1 := b0.step h_15 (by simp) (by simp)
  have b2 := b1.step h_37 (by simp) (by simp)
  have b3 := b2.step h_56 (by simp) (by simp)
  have b4 := b3.step h_75 (by simp) (by simp)
  have b5 := b4.step h_94 (by simp) (by simp)
  have b6 := b5.step h_113 (by simp) (by simp)
  have b7 := b6.step h_133 (by simp) (by simp)
  have b8 := b7.step h_154 (by simp) (by simp)
  have b9 := b8.step h_174 (by simp) (by simp)
  have b10 := b9.step h_194 (by simp) (by simp)
  have b11 := b10.step h_214 (by simp) (by simp)
  have b12 := b11.step h_236 (by simp) (by simp)
  have b13 := b12.step h_255 (by simp) (by simp)
  have b14 := b13.step h_274 (by simp) (by simp)
  have b15 := b14.step h_294 (by simp) (by simp)
  have b16 := b15.step h_314 (by simp) (by simp)
  have b17 := b16.step h_334 (by simp) (by simp)
  have hD : bkL σ τ_334 (bk_D w) := b17
  obtain ⟨h1, h2, h3⟩ := hs
  refine ⟨fun e he => ?_, hD.2.mn (fun _ q => q) (fun k q => by simp only [bk_D, List.map_cons, List.map_nil] at q; revert k; decide)⟩
  have q := fun x => hD.1 x
  unfold bk_E at he
  simp only [List.mem_cons, List.not_mem_nil, or_false] at he
  rcases he with rfl | rfl | rfl | rfl | rfl | rfl | rfl | rfl | rfl | rfl | rfl | rfl | rfl | rfl | rfl | rfl | rfl
  · exact ⟨fun i hi => ((q (1, 19, 11 * w, 11) (by simp [bk_D])).1 i hi).trans (h1 i hi), (q (1, 19, 11 * w, 11) (by simp [bk_D])).2⟩
  · exact ⟨fun i hi => ((q (3, 20, 680 * w, 16) (by simp [bk_D])).1 i hi).trans (h2 (3, 0, 17) (by simp [sv_B]) i (show i < 17 from Nat.lt_of_lt_of_le hi (by decide))), (q (3, 20, 680 * w, 16) (by simp [bk_D])).2⟩
  · exact ⟨fun i hi => ((q (4, 20, 680 * w + 17, 16) (by simp [bk_D])).1 i hi).trans (h2 (4, 17, 17) (by simp [sv_B]) i (show i < 17 from Nat.lt_of_lt_of_le hi (by decide))), (q (4, 20, 680 * w + 17, 16) (by simp [bk_D])).2⟩
  · exact ⟨fun i hi => ((q (5, 20, 680 * w + 34, 48) (by simp [bk_D])).1 i hi).trans (h2 (5, 34, 51) (by simp [sv_B]) i (show i < 51 from Nat.lt_of_lt_of_le hi (by decide))), (q (5, 20, 680 * w + 34, 48) (by simp [bk_D])).2⟩
  · exact ⟨fun i hi => ((q (6, 20, 680 * w + 85, 16) (by simp [bk_D])).1 i hi).trans (h2 (6, 85, 17) (by simp [sv_B]) i (show i < 17 from Nat.lt_of_lt_of_le hi (by decide))), (q (6, 20, 680 * w + 85, 16) (by simp [bk_D])).2⟩
  · exact ⟨fun i hi => ((q (7, 20, 680 * w + 102, 96) (by simp [bk_D])).1 i hi).trans (h2 (7, 102, 102) (by simp [sv_B]) i (show i < 102 from Nat.lt_of_lt_of_le hi (by decide))), (q (7, 20, 680 * w + 102, 96) (by simp [bk_D])).2⟩
  · exact ⟨fun i hi => ((q (8, 20, 680 * w + 204, 96) (by simp [bk_D])).1 i hi).trans (h2 (8, 204, 102) (by simp [sv_B]) i (show i < 102 from Nat.lt_of_lt_of_le hi (by decide))), (q (8, 20, 680 * w + 204, 96) (by simp [bk_D])).2⟩
  · exact ⟨fun i hi => ((q (9, 20, 680 * w + 306, 288) (by simp [bk_D])).1 i hi).trans (h2 (9, 306, 306) (by simp [sv_B]) i (show i < 306 from Nat.lt_of_lt_of_le hi (by decide))), (q (9, 20, 680 * w + 306, 288) (by simp [bk_D])).2⟩
  · exact ⟨fun i hi => ((q (10, 20, 680 * w + 612, 16) (by simp [bk_D])).1 i hi).trans (h2 (10, 612, 17) (by simp [sv_B]) i (show i < 17 from Nat.lt_of_lt_of_le hi (by decide))), (q (10, 20, 680 * w + 612, 16) (by simp [bk_D])).2⟩
  · exact ⟨fun i hi => ((q (11, 20, 680 * w + 629, 16) (by simp [bk_D])).1 i hi).trans (h2 (11, 629, 17) (by simp [sv_B]) i (show i < 17 from Nat.lt_of_lt_of_le hi (by decide))), (q (11, 20, 680 * w + 629, 16) (by simp [bk_D])).2⟩
  · exact ⟨fun i hi => ((q (12, 20, 680 * w + 646, 16) (by simp [bk_D])).1 i hi).trans (h2 (12, 646, 17) (by simp [sv_B]) i (show i < 17 from Nat.lt_of_lt_of_le hi (by decide))), (q (12, 20, 680 * w + 646, 16) (by simp [bk_D])).2⟩
  · exact ⟨fun i hi => ((q (2, 21, 256 * w, 8) (by simp [bk_D])).1 i hi).trans (h3 (2, 0, 8) (by simp [sv_F]) i hi), (q (2, 21, 256 * w, 8) (by simp [bk_D])).2⟩
  · exact ⟨fun i hi => ((q (13, 21, 256 * w + 8, 60) (by simp [bk_D])).1 i hi).trans (h3 (13, 8, 60) (by simp [sv_F]) i hi), (q (13, 21, 256 * w + 8, 60) (by simp [bk_D])).2⟩
  · exact ⟨fun i hi => ((q (14, 21, 256 * w + 68, 60) (by simp [bk_D])).1 i hi).trans (h3 (14, 68, 60) (by simp [sv_F]) i hi), (q (14, 21, 256 * w + 68, 60) (by simp [bk_D])).2⟩
  · exact ⟨fun i hi => ((q (15, 21, 256 * w + 128, 60) (by simp [bk_D])).1 i hi).trans (h3 (15, 128, 60) (by simp [sv_F]) i hi), (q (15, 21, 256 * w + 128, 60) (by simp [bk_D])).2⟩
  · exact ⟨fun i hi => ((q (16, 21, 256 * w + 188, 60) (by simp [bk_D])).1 i hi).trans (h3 (16, 188, 60) (by simp [sv_F]) i hi), (q (16, 21, 256 * w + 188, 60) (by simp [bk_D])).2⟩
  · exact ⟨fun i hi => ((q (17, 21, 256 * w + 248, 8) (by simp [bk_D])).1 i hi).trans (h3 (17, 248, 8) (by simp [sv_F]) i hi), (q (17, 21, 256 * w + 248, 8) (by simp [bk_D])).2⟩
