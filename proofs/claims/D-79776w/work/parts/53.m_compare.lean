/-! THE REFERENCE: the activation that comes first -/
set_option maxRecDepth 100000
/-- an activation: the deed's place, greatest tag, fact, tags -/
abbrev sp_Act : Type := Nat × Nat × Nat × Nat × Nat × Nat
def sp_act (tv : Nat → Nat) (i : Nat) (C : sp_C) (q : sp_Q) : sp_Act := (i, sp_gtag tv (sp_atk C.its q.1), sp_key C q, sp_tagk tv (sp_atk C.its q.1) 0, sp_tagk tv (sp_atk C.its q.1) 1, sp_tagk tv (sp_atk C.its q.1) 2)
/-- whether a deed's activation with a tag comes ahead of another's -/
def sp_ahead (C E : sp_C) (tag tagE : Nat) : Prop := E.sal < C.sal ∨ (C.sal = E.sal ∧ (tagE < tag ∨ (tag = tagE ∧ E.its.length < C.its.length)))
def mBest (σ : rv_S) (B : Option sp_Act) : Prop := match B with
  | none => σ.1 52 = -1
  | some a => σ.1 52 = nI (10 + a.1) ∧ σ.1 53 = nI a.2.1 ∧ σ.1 54 = nI a.2.2.1 ∧ σ.2.1 40 0 = nI a.2.2.2.1 ∧ σ.2.1 40 1 = nI a.2.2.2.2.1 ∧ σ.2.1 40 2 = nI a.2.2.2.2.2
theorem m_compare {G : rv_G} (hG : rv_GK G) {d : Nat} (hd : 3 ≤ d) {σ : rv_S} {S F : List Nat} {i : Nat} {C : sp_C} {q : sp_Q} {tv : Nat → Nat} {B : Option sp_Act} {Cs : List sp_C} (hB : mBF σ S F (10 + i) C) (hc : mCfg σ S F (10 + i) (fun p => p) C.its) (ht : mTri σ C.its q.1) (hv : mVal σ q.2) (hk : ∀ t, t ∈ C.hts → t < 200 → (sp_val q.2 t).isSome = true) (htv : ∀ k, k ∈ sp_atk C.its q.1 → σ.2.1 16 k = nI (tv k)) (htl : ∀ k, tv k < 2000000) (hbst : mBest σ B) (hBE : ∀ a, B = some a → ∃ E, Cs[a.1]? = some E ∧ mBody σ (10 + a.1) E ∧ E.its.length ≤ 6 ∧ a.1 < 6 ∧ a.2.1 < 2000000) : mC G d yX4_compare wX4_compare [.int (nI (10 + i))] σ (mPv (fun τ => rv_same [52, 53, 54] [40] σ τ ∧ ((mBest τ (some (sp_act tv i C q)) ∧ (B = none ∨ ∃ a E, B = some a ∧ Cs[a.1]? = some E ∧ sp_ahead C E (sp_gtag tv (sp_atk C.its q.1)) a.2.1)) ∨ (τ = σ ∧ ∃ a E, B = some a ∧ Cs[a.1]? = some E ∧ ¬ sp_ahead C E (sp_gtag tv (sp_atk C.its q.1)) a.2.1)))) := by
  refine mv_start hG (by decide +kernel) (Nat.le_of_ble_eq_true rfl) (fun X Hb o hX1 hX hE => ?_)
  subst hX1
  show rv_V X (rv_mh Hb o _) 0 [some (.ref o), some (.int (nI (10 + i))), none, none, none] []
  have hb17 := hB.2.2.2.2
  have hl6 := hB.2.2.2.1.len.2
  have t0 := sp_tagk_lt (l := sp_atk C.its q.1) (a := 0) htl (by decide)
  have t1 := sp_tagk_lt (l := sp_atk C.its q.1) (a := 1) htl (by decide)
  have t2 := sp_tagk_lt (l := sp_atk C.its q.1) (a := 2) htl (by decide)
  have hgt : sp_gtag tv (sp_atk C.its q.1) < 2000000 := by
    have e : ∀ a b : Nat, Nat.max a b = max a b := fun _ _ => rfl
    unfold sp_gtag
    simp only [e]
    omega
  have put : (B = none ∨ ∃ a E, B = some a ∧ Cs[a.1]? = some E ∧ sp_ahead C E (sp_gtag tv (sp_atk C.its q.1)) a.2.1) → ∀ (x y : Option Value), rv_V X (rv_mh Hb o σ) 150 [some (.ref o), some (.int (nI (10 + i))), some (.int (nI (sp_gtag tv (sp_atk C.its q.1)))), x, y] [] := by
    intro hah x y
    have s1 : ∀ a b, rv_same [52, 53] [] σ (rv_sF (rv_sF σ 52 a) 53 b) := fun a b => (rv_same.f (by decide)).tr (.f (by decide))
    have s2 : ∀ a b c, rv_same [52, 53, 54] [] σ (rv_sF (rv_sF (rv_sF σ 52 a) 53 b) 54 c) := fun a b c => ((rv_same.f (by decide)).tr (.f (by decide))).tr (.f (by decide))
    have s3 : ∀ a b c x, rv_same [52, 53, 54] [40] σ (rv_sU (rv_sF (rv_sF (rv_sF σ 52 a) 53 b) 54 c) 40 0 x) := fun a b c x => ((s2 a b c).mn (by decide) (by decide)).tr (.u (by decide))
    have s4 : ∀ a b c x y, rv_same [52, 53, 54] [40] σ (rv_sU (rv_sU (rv_sF (rv_sF (rv_sF σ 52 a) 53 b) 54 c) 40 0 x) 40 1 y) := fun a b c x y => (s3 a b c x).tr (.u (by decide))
    refine rv_aload_n hX dX4_compare_150 rfl ?_
    refine rv_iload_n hX dX4_compare_151 rfl ?_
    refine mv_pi hX (k := 52) pX4_411_X4 (by decide) rfl rfl rfl dX4_compare_152 ?_
    refine rv_aload_n hX dX4_compare_155 rfl ?_
    refine rv_iload_n hX dX4_compare_156 rfl ?_
    refine mv_pi hX (k := 53) pX4_423_X4 (by decide) rfl rfl rfl dX4_compare_157 ?_
    refine rv_aload_n hX dX4_compare_160 rfl ?_
    refine rv_aload_n hX dX4_compare_161 rfl ?_
    refine rv_iload_n hX dX4_compare_162 rfl ?_
    refine mv_calli hX iX4_222 rfl mdX4_headFact (m_headFact hG (d := d - 1) (by omega) (hB.same (s1 _ _) (by decide)).hd (hv.same (s1 _ _) (by decide)) hk) (by omega) rfl rfl (Nat.le_of_ble_eq_true rfl) dX4_compare_163 (fun r_163 τ_163 h_163 => ?_)
    obtain ⟨rfl, rfl⟩ := h_163
    show rv_V X _ _ _ (.int (nI (sp_key C q)) :: _)
    refine mv_pi hX (k := 54) pX4_426_X4 (by decide) rfl rfl rfl dX4_compare_166 ?_
    refine rv_aload_n hX dX4_compare_169 rfl ?_
    refine mv_ga hX (k := 55) (j := 40) gX4_128_X4 (by decide) rfl (by decide) dX4_compare_170 ?_
    refine nv_iconst hX (m := 0) (by decide) dX4_compare_173 ?_
    refine rv_aload_n hX dX4_compare_174 rfl ?_
    refine nv_iconst hX (m := 0) (by decide) dX4_compare_175 ?_
    refine mv_calli hX iX4_408 rfl mdX4_tagOf (m_tagOf hG (d := d - 1) (by omega) (hc.same (s2 _ _ _) (by decide) (by decide)) ⟨ht.1, fun i k e => by rw [(s2 _ _ _).2.1 27 (by decide)]; exact ht.2 i k e⟩ (fun k e => by rw [(s2 _ _ _).2.1 16 (by decide)]; exact htv k e) (a := 0) (by decide)) (by omega) rfl rfl (Nat.le_of_ble_eq_true rfl) dX4_compare_176 (fun r_176 τ_176 h_176 => ?_)
    obtain ⟨rfl, rfl⟩ := h_176
    refine mv_st hX (j := 40) (by decide) (by decide) rfl (by decide) (show _ < 3 by omega) dX4_compare_179 ?_
    refine rv_aload_n hX dX4_compare_180 rfl ?_
    refine mv_ga hX (k := 55) (j := 40) gX4_128_X4 (by decide) rfl (by decide) dX4_compare_181 ?_
    refine nv_iconst hX (m := 1) (by decide) dX4_compare_184 ?_
    refine rv_aload_n hX dX4_compare_185 rfl ?_
    refine nv_iconst hX (m := 1) (by decide) dX4_compare_186 ?_
    refine mv_calli hX iX4_408 rfl mdX4_tagOf (m_tagOf hG (d := d - 1) (by omega) (hc.same (s3 _ _ _ _) (by decide) (by decide)) ⟨ht.1, fun i k e => by rw [(s3 _ _ _ _).2.1 27 (by decide)]; exact ht.2 i k e⟩ (fun k e => by rw [(s3 _ _ _ _).2.1 16 (by decide)]; exact htv k e) (a := 1) (by decide)) (by omega) rfl rfl (Nat.le_of_ble_eq_true rfl) dX4_compare_187 (fun r_187 τ_187 h_187 => ?_)
    obtain ⟨rfl, rfl⟩ := h_187
    refine mv_st hX (j := 40) (by decide) (by decide) rfl (by decide) (show _ < 3 by omega) dX4_compare_190 ?_
    refine rv_aload_n hX dX4_compare_191 rfl ?_
    refine mv_ga hX (k := 55) (j := 40) gX4_128_X4 (by decide) rfl (by decide) dX4_compare_192 ?_
    refine nv_iconst hX (m := 2) (by decide) dX4_compare_195 ?_
    refine rv_aload_n hX dX4_compare_196 rfl ?_
    refine nv_iconst hX (m := 2) (by decide) dX4_compare_197 ?_
    refine mv_calli hX iX4_408 rfl mdX4_tagOf (m_tagOf hG (d := d - 1) (by omega) (hc.same (s4 _ _ _ _ _) (by decide) (by decide)) ⟨ht.1, fun i k e => by rw [(s4 _ _ _ _ _).2.1 27 (by decide)]; exact ht.2 i k e⟩ (fun k e => by rw [(s4 _ _ _ _ _).2.1 16 (by decide)]; exact htv k e) (a := 2) (by decide)) (by omega) rfl rfl (Nat.le_of_ble_eq_true rfl) dX4_compare_198 (fun r_198 τ_198 h_198 => ?_)
    obtain ⟨rfl, rfl⟩ := h_198
    refine mv_st hX (j := 40) (by decide) (by decide) rfl (by decide) (show _ < 3 by omega) dX4_compare_201 ?_
    refine mv_retv hX hE dX4_compare_202 ?_
    exact ⟨(s4 _ _ _ _ _).tr (.u (by decide)), Or.inl ⟨⟨rfl, rfl, rfl, rfl, rfl, rfl⟩, hah⟩⟩
  cases hBc : B with
  | none =>
    subst hBc
    have h52 : σ.1 52 = -1 := hbst
    refine rv_aload_n hX dX4_compare_0 rfl ?_
    refine mv_calli hX iX4_420 rfl mdX4_greatestTag (m_greatestTag hG (d := d - 1) (by omega) hc ht htv htl) (by omega) rfl rfl (Nat.le_of_ble_eq_true rfl) dX4_compare_1 (fun r_1 τ_1 h_1 => ?_)
    obtain ⟨rfl, rfl⟩ := h_1
    refine rv_istore_n hX dX4_compare_4 (rv_st_2 rfl) ?_
    refine rv_aload_n hX dX4_compare_5 rfl ?_
    refine mv_gi hX (k := 52) gX4_411_X4 (by decide) rfl dX4_compare_6 ?_
    rw [h52]
    refine rv_iconst hX (v := -1) dX4_compare_9 (by decide) ?_
    first | refine nv_icmp_eq hX 31 (by omega) (by omega) dX4_compare_10 (by decide) (fun c_10 => ?_) (fun c_10 => ?_) | refine rv_icmp_eq hX 31 dX4_compare_10 (by decide) (fun c_10 => ?_) (fun c_10 => ?_)
    · skip
      refine nv_iconst hX (m := 1) (by decide) dX4_compare_31 ?_
      refine rv_goto hX 36 dX4_compare_32 (by decide) ?_
      refine rv_istore_n hX dX4_compare_36 (rv_st_3 rfl) ?_
      refine rv_aload_n hX dX4_compare_37 rfl ?_
      refine mv_gi hX (k := 52) gX4_411_X4 (by decide) rfl dX4_compare_38 ?_
      rw [h52]
      refine rv_iconst hX (v := -1) dX4_compare_41 (by decide) ?_
      first | refine nv_icmp_eq hX 67 (by omega) (by omega) dX4_compare_42 (by decide) (fun c_42 => ?_) (fun c_42 => ?_) | refine rv_icmp_eq hX 67 dX4_compare_42 (by decide) (fun c_42 => ?_) (fun c_42 => ?_)
      · skip
        refine nv_iconst hX (m := 0) (by decide) dX4_compare_67 ?_
        refine rv_istore hX dX4_compare_68 (rv_st_4 rfl) ?_
        refine rv_iload_n hX dX4_compare_70 rfl ?_
        refine rv_if_ne hX 87 dX4_compare_71 (by decide) (fun _ => ?_) (fun q => absurd q (by decide))
        refine nv_iconst hX (m := 1) (by decide) dX4_compare_87 ?_
        refine rv_goto hX 92 dX4_compare_88 (by decide) ?_
        refine rv_istore_n hX dX4_compare_92 (rv_st_3 rfl) ?_
        refine rv_iload hX dX4_compare_93 rfl ?_
        refine rv_if_eq hX 110 dX4_compare_95 (by decide) (fun _ => ?_) (fun q => absurd q (by decide))
        refine nv_iconst hX (m := 0) (by decide) dX4_compare_110 ?_
        refine rv_istore hX dX4_compare_111 (rv_st_4 rfl) ?_
        refine rv_iload_n hX dX4_compare_113 rfl ?_
        refine rv_if_ne hX 140 dX4_compare_114 (by decide) (fun _ => ?_) (fun q => absurd q (by decide))
        refine nv_iconst hX (m := 1) (by decide) dX4_compare_140 ?_
        refine rv_goto hX 145 dX4_compare_141 (by decide) ?_
        refine rv_istore_n hX dX4_compare_145 (rv_st_3 rfl) ?_
        refine rv_iload_n hX dX4_compare_146 rfl ?_
        refine rv_if_eq hX 202 dX4_compare_147 (by decide) (fun q => absurd q (by decide)) (fun _ => ?_)
        exact put (Or.inl rfl) _ _
      · skip
        exact absurd rfl c_42
        --done
    · skip
      exact absurd rfl c_10
      --done
  | some a =>
    subst hBc
    obtain ⟨b1, b2, b3, b4, b5, b6⟩ : σ.1 52 = nI (10 + a.1) ∧ σ.1 53 = nI a.2.1 ∧ σ.1 54 = nI a.2.2.1 ∧ σ.2.1 40 0 = nI a.2.2.2.1 ∧ σ.2.1 40 1 = nI a.2.2.2.2.1 ∧ σ.2.1 40 2 = nI a.2.2.2.2.2 := hbst
    obtain ⟨E, hE1, hE2, hE3, hE4, hE5⟩ := hBE a rfl
    refine rv_aload_n hX dX4_compare_0 rfl ?_
    refine mv_calli hX iX4_420 rfl mdX4_greatestTag (m_greatestTag hG (d := d - 1) (by omega) hc ht htv htl) (by omega) rfl rfl (Nat.le_of_ble_eq_true rfl) dX4_compare_1 (fun r_1 τ_1 h_1 => ?_)
    obtain ⟨rfl, rfl⟩ := h_1
    refine rv_istore_n hX dX4_compare_4 (rv_st_2 rfl) ?_
    refine rv_aload_n hX dX4_compare_5 rfl ?_
    refine mv_gi hX (k := 52) gX4_411_X4 (by decide) rfl dX4_compare_6 ?_
    rw [b1]
    refine rv_iconst hX (v := -1) dX4_compare_9 (by decide) ?_
    first | refine nv_icmp_eq hX 31 (by omega) (by omega) dX4_compare_10 (by decide) (fun c_10 => ?_) (fun c_10 => ?_) | refine rv_icmp_eq hX 31 dX4_compare_10 (by decide) (fun c_10 => ?_) (fun c_10 => ?_)
    · skip
      exact absurd c_10 (nI_m1 (by omega))
      --done
    · skip
      refine rv_aload_n hX dX4_compare_13 rfl ?_
      refine mv_ga hX (k := 11) (j := 11) gX4_40_X4 (by decide) rfl (by decide) dX4_compare_14 ?_
      refine rv_iload_n hX dX4_compare_17 rfl ?_
      refine mv_ld hX (j := 11) (by decide) (by decide) rfl (by decide) (show _ < 17 by omega) dX4_compare_18 ?_
      rw [hB.2.2.1.sal]
      refine rv_aload_n hX dX4_compare_19 rfl ?_
      refine mv_ga hX (k := 11) (j := 11) gX4_40_X4 (by decide) rfl (by decide) dX4_compare_20 ?_
      refine rv_aload_n hX dX4_compare_23 rfl ?_
      refine mv_gi hX (k := 52) gX4_411_X4 (by decide) rfl dX4_compare_24 ?_
      rw [b1]
      refine mv_ld hX (j := 11) (by decide) (by decide) rfl (by decide) (show _ < 17 by omega) dX4_compare_27 ?_
      rw [hE2.sal]
      first | refine nv_icmp_le hX 35 (by omega) (by omega) dX4_compare_28 (by decide) (fun c_28 => ?_) (fun c_28 => ?_) | refine rv_icmp_le hX 35 dX4_compare_28 (by decide) (fun c_28 => ?_) (fun c_28 => ?_)
      · skip
        refine nv_iconst hX (m := 0) (by decide) dX4_compare_35 ?_
        refine rv_istore_n hX dX4_compare_36 (rv_st_3 rfl) ?_
        refine rv_aload_n hX dX4_compare_37 rfl ?_
        refine mv_gi hX (k := 52) gX4_411_X4 (by decide) rfl dX4_compare_38 ?_
        rw [b1]
        refine rv_iconst hX (v := -1) dX4_compare_41 (by decide) ?_
        first | refine nv_icmp_eq hX 67 (by omega) (by omega) dX4_compare_42 (by decide) (fun c_42 => ?_) (fun c_42 => ?_) | refine rv_icmp_eq hX 67 dX4_compare_42 (by decide) (fun c_42 => ?_) (fun c_42 => ?_)
        · skip
          exact absurd c_42 (nI_m1 (by omega))
          --done
        · skip
          refine rv_aload_n hX dX4_compare_45 rfl ?_
          refine mv_ga hX (k := 11) (j := 11) gX4_40_X4 (by decide) rfl (by decide) dX4_compare_46 ?_
          refine rv_iload_n hX dX4_compare_49 rfl ?_
          refine mv_ld hX (j := 11) (by decide) (by decide) rfl (by decide) (show _ < 17 by omega) dX4_compare_50 ?_
          rw [hB.2.2.1.sal]
          refine rv_aload_n hX dX4_compare_51 rfl ?_
          refine mv_ga hX (k := 11) (j := 11) gX4_40_X4 (by decide) rfl (by decide) dX4_compare_52 ?_
          refine rv_aload_n hX dX4_compare_55 rfl ?_
          refine mv_gi hX (k := 52) gX4_411_X4 (by decide) rfl dX4_compare_56 ?_
          rw [b1]
          refine mv_ld hX (j := 11) (by decide) (by decide) rfl (by decide) (show _ < 17 by omega) dX4_compare_59 ?_
          rw [hE2.sal]
          first | refine nv_icmp_ne hX 67 (by omega) (by omega) dX4_compare_60 (by decide) (fun c_60 => ?_) (fun c_60 => ?_) | refine rv_icmp_ne hX 67 dX4_compare_60 (by decide) (fun c_60 => ?_) (fun c_60 => ?_)
          · skip
            refine nv_iconst hX (m := 0) (by decide) dX4_compare_67 ?_
            refine rv_istore hX dX4_compare_68 (rv_st_4 rfl) ?_
            refine rv_iload_n hX dX4_compare_70 rfl ?_
            refine rv_if_ne hX 87 dX4_compare_71 (by decide) (fun q => absurd q (by decide)) (fun _ => ?_)
            refine rv_iload hX dX4_compare_74 rfl ?_
            refine rv_if_eq hX 91 dX4_compare_76 (by decide) (fun _ => ?_) (fun q => absurd q (by decide))
            refine nv_iconst hX (m := 0) (by decide) dX4_compare_91 ?_
            refine rv_istore_n hX dX4_compare_92 (rv_st_3 rfl) ?_
            refine rv_iload hX dX4_compare_93 rfl ?_
            refine rv_if_eq hX 110 dX4_compare_95 (by decide) (fun _ => ?_) (fun q => absurd q (by decide))
            refine nv_iconst hX (m := 0) (by decide) dX4_compare_110 ?_
            refine rv_istore hX dX4_compare_111 (rv_st_4 rfl) ?_
            refine rv_iload_n hX dX4_compare_113 rfl ?_
            refine rv_if_ne hX 140 dX4_compare_114 (by decide) (fun q => absurd q (by decide)) (fun _ => ?_)
            refine rv_iload hX dX4_compare_117 rfl ?_
            refine rv_if_eq hX 144 dX4_compare_119 (by decide) (fun _ => ?_) (fun q => absurd q (by decide))
            refine nv_iconst hX (m := 0) (by decide) dX4_compare_144 ?_
            refine rv_istore_n hX dX4_compare_145 (rv_st_3 rfl) ?_
            refine rv_iload_n hX dX4_compare_146 rfl ?_
            refine rv_if_eq hX 202 dX4_compare_147 (by decide) (fun _ => ?_) (fun q => absurd q (by decide))
            refine mv_retv hX hE dX4_compare_202 ?_
            refine ⟨.rf, Or.inr ⟨rfl, a, E, rfl, hE1, ?_⟩⟩
            unfold sp_ahead
            rintro (h | ⟨h1, h2⟩)
            · exact absurd h (Int32.not_lt.mpr c_28)
            · first
                | exact absurd h1 c_60
                | omega
          · skip
            refine nv_iconst hX (m := 1) (by decide) dX4_compare_63 ?_
            refine rv_goto hX 68 dX4_compare_64 (by decide) ?_
            refine rv_istore hX dX4_compare_68 (rv_st_4 rfl) ?_
            refine rv_iload_n hX dX4_compare_70 rfl ?_
            refine rv_if_ne hX 87 dX4_compare_71 (by decide) (fun q => absurd q (by decide)) (fun _ => ?_)
            refine rv_iload hX dX4_compare_74 rfl ?_
            refine rv_if_eq hX 91 dX4_compare_76 (by decide) (fun q => absurd q (by decide)) (fun _ => ?_)
            refine rv_iload_n hX dX4_compare_79 rfl ?_
            refine rv_aload_n hX dX4_compare_80 rfl ?_
            refine mv_gi hX (k := 53) gX4_423_X4 (by decide) rfl dX4_compare_81 ?_
            rw [b2]
            first | refine nv_icmp_le hX 91 (by omega) (by omega) dX4_compare_84 (by decide) (fun c_84 => ?_) (fun c_84 => ?_) | refine rv_icmp_le hX 91 dX4_compare_84 (by decide) (fun c_84 => ?_) (fun c_84 => ?_)
            · skip
              refine nv_iconst hX (m := 0) (by decide) dX4_compare_91 ?_
              refine rv_istore_n hX dX4_compare_92 (rv_st_3 rfl) ?_
              refine rv_iload hX dX4_compare_93 rfl ?_
              refine rv_if_eq hX 110 dX4_compare_95 (by decide) (fun q => absurd q (by decide)) (fun _ => ?_)
              refine rv_iload_n hX dX4_compare_98 rfl ?_
              refine rv_aload_n hX dX4_compare_99 rfl ?_
              refine mv_gi hX (k := 53) gX4_423_X4 (by decide) rfl dX4_compare_100 ?_
              rw [b2]
              first | refine nv_icmp_ne hX 110 (by omega) (by omega) dX4_compare_103 (by decide) (fun c_103 => ?_) (fun c_103 => ?_) | refine rv_icmp_ne hX 110 dX4_compare_103 (by decide) (fun c_103 => ?_) (fun c_103 => ?_)
              · skip
                refine nv_iconst hX (m := 0) (by decide) dX4_compare_110 ?_
                refine rv_istore hX dX4_compare_111 (rv_st_4 rfl) ?_
                refine rv_iload_n hX dX4_compare_113 rfl ?_
                refine rv_if_ne hX 140 dX4_compare_114 (by decide) (fun q => absurd q (by decide)) (fun _ => ?_)
                refine rv_iload hX dX4_compare_117 rfl ?_
                refine rv_if_eq hX 144 dX4_compare_119 (by decide) (fun _ => ?_) (fun q => absurd q (by decide))
                refine nv_iconst hX (m := 0) (by decide) dX4_compare_144 ?_
                refine rv_istore_n hX dX4_compare_145 (rv_st_3 rfl) ?_
                refine rv_iload_n hX dX4_compare_146 rfl ?_
                refine rv_if_eq hX 202 dX4_compare_147 (by decide) (fun _ => ?_) (fun q => absurd q (by decide))
                refine mv_retv hX hE dX4_compare_202 ?_
                refine ⟨.rf, Or.inr ⟨rfl, a, E, rfl, hE1, ?_⟩⟩
                unfold sp_ahead
                rintro (h | ⟨h1, h2⟩)
                · exact absurd h (Int32.not_lt.mpr c_28)
                · first
                    | exact absurd h1 c_60
                    | omega
              · skip
                refine nv_iconst hX (m := 1) (by decide) dX4_compare_106 ?_
                refine rv_goto hX 111 dX4_compare_107 (by decide) ?_
                refine rv_istore hX dX4_compare_111 (rv_st_4 rfl) ?_
                refine rv_iload_n hX dX4_compare_113 rfl ?_
                refine rv_if_ne hX 140 dX4_compare_114 (by decide) (fun q => absurd q (by decide)) (fun _ => ?_)
                refine rv_iload hX dX4_compare_117 rfl ?_
                refine rv_if_eq hX 144 dX4_compare_119 (by decide) (fun q => absurd q (by decide)) (fun _ => ?_)
                refine rv_aload_n hX dX4_compare_122 rfl ?_
                refine mv_ga hX (k := 6) (j := 6) gX4_25_X4 (by decide) rfl (by decide) dX4_compare_123 ?_
                refine rv_iload_n hX dX4_compare_126 rfl ?_
                refine mv_ld hX (j := 6) (by decide) (by decide) rfl (by decide) (show _ < 17 by omega) dX4_compare_127 ?_
                rw [hB.2.2.1.len]
                refine rv_aload_n hX dX4_compare_128 rfl ?_
                refine mv_ga hX (k := 6) (j := 6) gX4_25_X4 (by decide) rfl (by decide) dX4_compare_129 ?_
                refine rv_aload_n hX dX4_compare_132 rfl ?_
                refine mv_gi hX (k := 52) gX4_411_X4 (by decide) rfl dX4_compare_133 ?_
                rw [b1]
                refine mv_ld hX (j := 6) (by decide) (by decide) rfl (by decide) (show _ < 17 by omega) dX4_compare_136 ?_
                rw [hE2.len]
                first | refine nv_icmp_le hX 144 (by omega) (by omega) dX4_compare_137 (by decide) (fun c_137 => ?_) (fun c_137 => ?_) | refine rv_icmp_le hX 144 dX4_compare_137 (by decide) (fun c_137 => ?_) (fun c_137 => ?_)
                · skip
                  refine nv_iconst hX (m := 0) (by decide) dX4_compare_144 ?_
                  refine rv_istore_n hX dX4_compare_145 (rv_st_3 rfl) ?_
                  refine rv_iload_n hX dX4_compare_146 rfl ?_
                  refine rv_if_eq hX 202 dX4_compare_147 (by decide) (fun _ => ?_) (fun q => absurd q (by decide))
                  refine mv_retv hX hE dX4_compare_202 ?_
                  refine ⟨.rf, Or.inr ⟨rfl, a, E, rfl, hE1, ?_⟩⟩
                  unfold sp_ahead
                  rintro (h | ⟨h1, h2⟩)
                  · exact absurd h (Int32.not_lt.mpr c_28)
                  · first
                      | exact absurd h1 c_60
                      | omega
                · skip
                  refine nv_iconst hX (m := 1) (by decide) dX4_compare_140 ?_
                  refine rv_goto hX 145 dX4_compare_141 (by decide) ?_
                  refine rv_istore_n hX dX4_compare_145 (rv_st_3 rfl) ?_
                  refine rv_iload_n hX dX4_compare_146 rfl ?_
                  refine rv_if_eq hX 202 dX4_compare_147 (by decide) (fun q => absurd q (by decide)) (fun _ => ?_)
                  refine put (Or.inr ⟨a, E, rfl, hE1, ?_⟩) _ _
                  unfold sp_ahead
                  first
                    | exact Or.inl (Int32.not_le.mp c_28)
                    | exact Or.inr ⟨c_60, Or.inl (by omega)⟩
                    | exact Or.inr ⟨c_60, Or.inr ⟨by omega, by omega⟩⟩
            · skip
              refine nv_iconst hX (m := 1) (by decide) dX4_compare_87 ?_
              refine rv_goto hX 92 dX4_compare_88 (by decide) ?_
              refine rv_istore_n hX dX4_compare_92 (rv_st_3 rfl) ?_
              refine rv_iload hX dX4_compare_93 rfl ?_
              refine rv_if_eq hX 110 dX4_compare_95 (by decide) (fun q => absurd q (by decide)) (fun _ => ?_)
              refine rv_iload_n hX dX4_compare_98 rfl ?_
              refine rv_aload_n hX dX4_compare_99 rfl ?_
              refine mv_gi hX (k := 53) gX4_423_X4 (by decide) rfl dX4_compare_100 ?_
              rw [b2]
              first | refine nv_icmp_ne hX 110 (by omega) (by omega) dX4_compare_103 (by decide) (fun c_103 => ?_) (fun c_103 => ?_) | refine rv_icmp_ne hX 110 dX4_compare_103 (by decide) (fun c_103 => ?_) (fun c_103 => ?_)
              · skip
                refine nv_iconst hX (m := 0) (by decide) dX4_compare_110 ?_
                refine rv_istore hX dX4_compare_111 (rv_st_4 rfl) ?_
                refine rv_iload_n hX dX4_compare_113 rfl ?_
                refine rv_if_ne hX 140 dX4_compare_114 (by decide) (fun _ => ?_) (fun q => absurd q (by decide))
                refine nv_iconst hX (m := 1) (by decide) dX4_compare_140 ?_
                refine rv_goto hX 145 dX4_compare_141 (by decide) ?_
                refine rv_istore_n hX dX4_compare_145 (rv_st_3 rfl) ?_
                refine rv_iload_n hX dX4_compare_146 rfl ?_
                refine rv_if_eq hX 202 dX4_compare_147 (by decide) (fun q => absurd q (by decide)) (fun _ => ?_)
                refine put (Or.inr ⟨a, E, rfl, hE1, ?_⟩) _ _
                unfold sp_ahead
                first
                  | exact Or.inl (Int32.not_le.mp c_28)
                  | exact Or.inr ⟨c_60, Or.inl (by omega)⟩
                  | exact Or.inr ⟨c_60, Or.inr ⟨by omega, by omega⟩⟩
              · skip
                refine nv_iconst hX (m := 1) (by decide) dX4_compare_106 ?_
                refine rv_goto hX 111 dX4_compare_107 (by decide) ?_
                refine rv_istore hX dX4_compare_111 (rv_st_4 rfl) ?_
                refine rv_iload_n hX dX4_compare_113 rfl ?_
                refine rv_if_ne hX 140 dX4_compare_114 (by decide) (fun _ => ?_) (fun q => absurd q (by decide))
                refine nv_iconst hX (m := 1) (by decide) dX4_compare_140 ?_
                refine rv_goto hX 145 dX4_compare_141 (by decide) ?_
                refine rv_istore_n hX dX4_compare_145 (rv_st_3 rfl) ?_
                refine rv_iload_n hX dX4_compare_146 rfl ?_
                refine rv_if_eq hX 202 dX4_compare_147 (by decide) (fun q => absurd q (by decide)) (fun _ => ?_)
                refine put (Or.inr ⟨a, E, rfl, hE1, ?_⟩) _ _
                unfold sp_ahead
                first
                  | exact Or.inl (Int32.not_le.mp c_28)
                  | exact Or.inr ⟨c_60, Or.inl (by omega)⟩
                  | exact Or.inr ⟨c_60, Or.inr ⟨by omega, by omega⟩⟩
      · skip
        refine nv_iconst hX (m := 1) (by decide) dX4_compare_31 ?_
        refine rv_goto hX 36 dX4_compare_32 (by decide) ?_
        refine rv_istore_n hX dX4_compare_36 (rv_st_3 rfl) ?_
        refine rv_aload_n hX dX4_compare_37 rfl ?_
        refine mv_gi hX (k := 52) gX4_411_X4 (by decide) rfl dX4_compare_38 ?_
        rw [b1]
        refine rv_iconst hX (v := -1) dX4_compare_41 (by decide) ?_
        first | refine nv_icmp_eq hX 67 (by omega) (by omega) dX4_compare_42 (by decide) (fun c_42 => ?_) (fun c_42 => ?_) | refine rv_icmp_eq hX 67 dX4_compare_42 (by decide) (fun c_42 => ?_) (fun c_42 => ?_)
        · skip
          exact absurd c_42 (nI_m1 (by omega))
          --done
        · skip
          refine rv_aload_n hX dX4_compare_45 rfl ?_
          refine mv_ga hX (k := 11) (j := 11) gX4_40_X4 (by decide) rfl (by decide) dX4_compare_46 ?_
          refine rv_iload_n hX dX4_compare_49 rfl ?_
          refine mv_ld hX (j := 11) (by decide) (by decide) rfl (by decide) (show _ < 17 by omega) dX4_compare_50 ?_
          rw [hB.2.2.1.sal]
          refine rv_aload_n hX dX4_compare_51 rfl ?_
          refine mv_ga hX (k := 11) (j := 11) gX4_40_X4 (by decide) rfl (by decide) dX4_compare_52 ?_
          refine rv_aload_n hX dX4_compare_55 rfl ?_
          refine mv_gi hX (k := 52) gX4_411_X4 (by decide) rfl dX4_compare_56 ?_
          rw [b1]
          refine mv_ld hX (j := 11) (by decide) (by decide) rfl (by decide) (show _ < 17 by omega) dX4_compare_59 ?_
          rw [hE2.sal]
          first | refine nv_icmp_ne hX 67 (by omega) (by omega) dX4_compare_60 (by decide) (fun c_60 => ?_) (fun c_60 => ?_) | refine rv_icmp_ne hX 67 dX4_compare_60 (by decide) (fun c_60 => ?_) (fun c_60 => ?_)
          · skip
            refine nv_iconst hX (m := 0) (by decide) dX4_compare_67 ?_
            refine rv_istore hX dX4_compare_68 (rv_st_4 rfl) ?_
            refine rv_iload_n hX dX4_compare_70 rfl ?_
            refine rv_if_ne hX 87 dX4_compare_71 (by decide) (fun _ => ?_) (fun q => absurd q (by decide))
            refine nv_iconst hX (m := 1) (by decide) dX4_compare_87 ?_
            refine rv_goto hX 92 dX4_compare_88 (by decide) ?_
            refine rv_istore_n hX dX4_compare_92 (rv_st_3 rfl) ?_
            refine rv_iload hX dX4_compare_93 rfl ?_
            refine rv_if_eq hX 110 dX4_compare_95 (by decide) (fun _ => ?_) (fun q => absurd q (by decide))
            refine nv_iconst hX (m := 0) (by decide) dX4_compare_110 ?_
            refine rv_istore hX dX4_compare_111 (rv_st_4 rfl) ?_
            refine rv_iload_n hX dX4_compare_113 rfl ?_
            refine rv_if_ne hX 140 dX4_compare_114 (by decide) (fun _ => ?_) (fun q => absurd q (by decide))
            refine nv_iconst hX (m := 1) (by decide) dX4_compare_140 ?_
            refine rv_goto hX 145 dX4_compare_141 (by decide) ?_
            refine rv_istore_n hX dX4_compare_145 (rv_st_3 rfl) ?_
            refine rv_iload_n hX dX4_compare_146 rfl ?_
            refine rv_if_eq hX 202 dX4_compare_147 (by decide) (fun q => absurd q (by decide)) (fun _ => ?_)
            refine put (Or.inr ⟨a, E, rfl, hE1, ?_⟩) _ _
            unfold sp_ahead
            first
              | exact Or.inl (Int32.not_le.mp c_28)
              | exact Or.inr ⟨c_60, Or.inl (by omega)⟩
              | exact Or.inr ⟨c_60, Or.inr ⟨by omega, by omega⟩⟩
          · skip
            refine nv_iconst hX (m := 1) (by decide) dX4_compare_63 ?_
            refine rv_goto hX 68 dX4_compare_64 (by decide) ?_
            refine rv_istore hX dX4_compare_68 (rv_st_4 rfl) ?_
            refine rv_iload_n hX dX4_compare_70 rfl ?_
            refine rv_if_ne hX 87 dX4_compare_71 (by decide) (fun _ => ?_) (fun q => absurd q (by decide))
            refine nv_iconst hX (m := 1) (by decide) dX4_compare_87 ?_
            refine rv_goto hX 92 dX4_compare_88 (by decide) ?_
            refine rv_istore_n hX dX4_compare_92 (rv_st_3 rfl) ?_
            refine rv_iload hX dX4_compare_93 rfl ?_
            refine rv_if_eq hX 110 dX4_compare_95 (by decide) (fun q => absurd q (by decide)) (fun _ => ?_)
            refine rv_iload_n hX dX4_compare_98 rfl ?_
            refine rv_aload_n hX dX4_compare_99 rfl ?_
            refine mv_gi hX (k := 53) gX4_423_X4 (by decide) rfl dX4_compare_100 ?_
            rw [b2]
            first | refine nv_icmp_ne hX 110 (by omega) (by omega) dX4_compare_103 (by decide) (fun c_103 => ?_) (fun c_103 => ?_) | refine rv_icmp_ne hX 110 dX4_compare_103 (by decide) (fun c_103 => ?_) (fun c_103 => ?_)
            · skip
              refine nv_iconst hX (m := 0) (by decide) dX4_compare_110 ?_
              refine rv_istore hX dX4_compare_111 (rv_st_4 rfl) ?_
              refine rv_iload_n hX dX4_compare_113 rfl ?_
              refine rv_if_ne hX 140 dX4_compare_114 (by decide) (fun _ => ?_) (fun q => absurd q (by decide))
              refine nv_iconst hX (m := 1) (by decide) dX4_compare_140 ?_
              refine rv_goto hX 145 dX4_compare_141 (by decide) ?_
              refine rv_istore_n hX dX4_compare_145 (rv_st_3 rfl) ?_
              refine rv_iload_n hX dX4_compare_146 rfl ?_
              refine rv_if_eq hX 202 dX4_compare_147 (by decide) (fun q => absurd q (by decide)) (fun _ => ?_)
              refine put (Or.inr ⟨a, E, rfl, hE1, ?_⟩) _ _
              unfold sp_ahead
              first
                | exact Or.inl (Int32.not_le.mp c_28)
                | exact Or.inr ⟨c_60, Or.inl (by omega)⟩
                | exact Or.inr ⟨c_60, Or.inr ⟨by omega, by omega⟩⟩
            · skip
              refine nv_iconst hX (m := 1) (by decide) dX4_compare_106 ?_
              refine rv_goto hX 111 dX4_compare_107 (by decide) ?_
              refine rv_istore hX dX4_compare_111 (rv_st_4 rfl) ?_
              refine rv_iload_n hX dX4_compare_113 rfl ?_
              refine rv_if_ne hX 140 dX4_compare_114 (by decide) (fun _ => ?_) (fun q => absurd q (by decide))
              refine nv_iconst hX (m := 1) (by decide) dX4_compare_140 ?_
              refine rv_goto hX 145 dX4_compare_141 (by decide) ?_
              refine rv_istore_n hX dX4_compare_145 (rv_st_3 rfl) ?_
              refine rv_iload_n hX dX4_compare_146 rfl ?_
              refine rv_if_eq hX 202 dX4_compare_147 (by decide) (fun q => absurd q (by decide)) (fun _ => ?_)
              refine put (Or.inr ⟨a, E, rfl, hE1, ?_⟩) _ _
              unfold sp_ahead
              first
                | exact Or.inl (Int32.not_le.mp c_28)
                | exact Or.inr ⟨c_60, Or.inl (by omega)⟩
                | exact Or.inr ⟨c_60, Or.inr ⟨by omega, by omega⟩⟩
