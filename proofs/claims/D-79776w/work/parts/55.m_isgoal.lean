/-! THE REFERENCE: goals that can be asked -/
set_option maxRecDepth 100000
def sp_rng (x : Int32) : Prop := -1 ≤ x ∧ x ≤ 99
def sp_isg (k : Nat) (a b c : Int32) : Prop := sp_rng a ∧ sp_rng b ∧ sp_rng c ∧ (1 < k ∨ b = -1) ∧ (2 < k ∨ c = -1)
theorem m_isGoal {G : rv_G} (hG : rv_GK G) {d : Nat} (hd : 1 ≤ d) {σ : rv_S} {S : List Nat} {rel k : Nat} {a b c : Int32} (hS : mRel σ S) (hk : S[rel]? = some k) : mC G d yX4_isGoal wX4_isGoal [.int (nI rel), .int a, .int b, .int c] σ (mPz (fun r τ => τ = σ ∧ (r = true ↔ sp_isg k a b c))) := by
  refine mv_start hG (by decide +kernel) (Nat.le_of_ble_eq_true rfl) (fun X Hb o hX1 hX hE => ?_)
  subst hX1
  show rv_V X (rv_mh Hb o _) 0 [some (.ref o), some (.int (nI rel)), some (.int a), some (.int b), some (.int c), none] []
  have hlt := (List.getElem?_eq_some_iff.mp hk).1
  have hS8 := hS.2.1
  have hk3 := hS.2.2.1 k (List.mem_of_getElem? hk)
  have hkv := hS.2.2.2 rel k hk
  have e99 : nI 99 = 99 := by decide
  have go : ∀ (z : Bool), (z = true ↔ (1 < k ∨ b = -1) ∧ (2 < k ∨ c = -1)) → rv_V X (rv_mh Hb o σ) 38 [some (.ref o), some (.int (nI rel)), some (.int a), some (.int b), some (.int c), some (.int (rv_z z))] [] := by
    intro z hz
    refine rv_iload_n hX dX4_isGoal_38 rfl ?_
    refine rv_iconst hX (v := -1) dX4_isGoal_39 (by decide) ?_
    refine nv_bipush hX (m := 99) (by decide) dX4_isGoal_40 ?_
    refine sv_callz hX iX4_135 mdX4_in (m_in hG (d := d - 1)) (by omega) rfl rfl (Nat.le_of_ble_eq_true rfl) dX4_isGoal_42 (fun r_42 h_42 => ?_)
    have i1 := h_42
    first | refine zv_if_eq hX 78 dX4_isGoal_45 (by decide) (fun c_45 => ?_) (fun c_45 => ?_) | refine nv_if_eq hX 78 (by omega) dX4_isGoal_45 (by decide) (fun c_45 => ?_) (fun c_45 => ?_) | refine rv_if_eq hX 78 dX4_isGoal_45 (by decide) (fun c_45 => ?_) (fun c_45 => ?_)
    · skip
      refine nv_iconst hX (m := 0) (by decide) dX4_isGoal_78 ?_
      refine mv_retz hX hE (b := false) rfl dX4_isGoal_79 ?_
      first
        | exact ⟨rfl, ⟨fun _ => ⟨i1.mp c_45, i2.mp c_55, i3.mp c_66, (hz.mp c_71).1, (hz.mp c_71).2⟩, fun _ => rfl⟩⟩
        | (refine ⟨rfl, ⟨fun e => (by cases e), fun h => ?_⟩⟩
           obtain ⟨p1, p2, p3, p4, p5⟩ := h
           first
             | exact absurd (i1.mpr p1) (by rw [c_45]; decide)
             | exact absurd (i2.mpr p2) (by rw [c_55]; decide)
             | exact absurd (i3.mpr p3) (by rw [c_66]; decide)
             | exact absurd (hz.mpr ⟨p4, p5⟩) (by rw [c_71]; decide))
    · skip
      refine rv_iload_n hX dX4_isGoal_48 rfl ?_
      refine rv_iconst hX (v := -1) dX4_isGoal_49 (by decide) ?_
      refine nv_bipush hX (m := 99) (by decide) dX4_isGoal_50 ?_
      refine sv_callz hX iX4_135 mdX4_in (m_in hG (d := d - 1)) (by omega) rfl rfl (Nat.le_of_ble_eq_true rfl) dX4_isGoal_52 (fun r_52 h_52 => ?_)
      have i2 := h_52
      first | refine zv_if_eq hX 78 dX4_isGoal_55 (by decide) (fun c_55 => ?_) (fun c_55 => ?_) | refine nv_if_eq hX 78 (by omega) dX4_isGoal_55 (by decide) (fun c_55 => ?_) (fun c_55 => ?_) | refine rv_if_eq hX 78 dX4_isGoal_55 (by decide) (fun c_55 => ?_) (fun c_55 => ?_)
      · skip
        refine nv_iconst hX (m := 0) (by decide) dX4_isGoal_78 ?_
        refine mv_retz hX hE (b := false) rfl dX4_isGoal_79 ?_
        first
          | exact ⟨rfl, ⟨fun _ => ⟨i1.mp c_45, i2.mp c_55, i3.mp c_66, (hz.mp c_71).1, (hz.mp c_71).2⟩, fun _ => rfl⟩⟩
          | (refine ⟨rfl, ⟨fun e => (by cases e), fun h => ?_⟩⟩
             obtain ⟨p1, p2, p3, p4, p5⟩ := h
             first
               | exact absurd (i1.mpr p1) (by rw [c_45]; decide)
               | exact absurd (i2.mpr p2) (by rw [c_55]; decide)
               | exact absurd (i3.mpr p3) (by rw [c_66]; decide)
               | exact absurd (hz.mpr ⟨p4, p5⟩) (by rw [c_71]; decide))
      · skip
        refine rv_iload hX dX4_isGoal_58 rfl ?_
        refine rv_iconst hX (v := -1) dX4_isGoal_60 (by decide) ?_
        refine nv_bipush hX (m := 99) (by decide) dX4_isGoal_61 ?_
        refine sv_callz hX iX4_135 mdX4_in (m_in hG (d := d - 1)) (by omega) rfl rfl (Nat.le_of_ble_eq_true rfl) dX4_isGoal_63 (fun r_63 h_63 => ?_)
        have i3 := h_63
        first | refine zv_if_eq hX 78 dX4_isGoal_66 (by decide) (fun c_66 => ?_) (fun c_66 => ?_) | refine nv_if_eq hX 78 (by omega) dX4_isGoal_66 (by decide) (fun c_66 => ?_) (fun c_66 => ?_) | refine rv_if_eq hX 78 dX4_isGoal_66 (by decide) (fun c_66 => ?_) (fun c_66 => ?_)
        · skip
          refine nv_iconst hX (m := 0) (by decide) dX4_isGoal_78 ?_
          refine mv_retz hX hE (b := false) rfl dX4_isGoal_79 ?_
          first
            | exact ⟨rfl, ⟨fun _ => ⟨i1.mp c_45, i2.mp c_55, i3.mp c_66, (hz.mp c_71).1, (hz.mp c_71).2⟩, fun _ => rfl⟩⟩
            | (refine ⟨rfl, ⟨fun e => (by cases e), fun h => ?_⟩⟩
               obtain ⟨p1, p2, p3, p4, p5⟩ := h
               first
                 | exact absurd (i1.mpr p1) (by rw [c_45]; decide)
                 | exact absurd (i2.mpr p2) (by rw [c_55]; decide)
                 | exact absurd (i3.mpr p3) (by rw [c_66]; decide)
                 | exact absurd (hz.mpr ⟨p4, p5⟩) (by rw [c_71]; decide))
        · skip
          refine rv_iload hX dX4_isGoal_69 rfl ?_
          first | refine zv_if_eq hX 78 dX4_isGoal_71 (by decide) (fun c_71 => ?_) (fun c_71 => ?_) | refine nv_if_eq hX 78 (by omega) dX4_isGoal_71 (by decide) (fun c_71 => ?_) (fun c_71 => ?_) | refine rv_if_eq hX 78 dX4_isGoal_71 (by decide) (fun c_71 => ?_) (fun c_71 => ?_)
          · skip
            refine nv_iconst hX (m := 0) (by decide) dX4_isGoal_78 ?_
            refine mv_retz hX hE (b := false) rfl dX4_isGoal_79 ?_
            first
              | exact ⟨rfl, ⟨fun _ => ⟨i1.mp c_45, i2.mp c_55, i3.mp c_66, (hz.mp c_71).1, (hz.mp c_71).2⟩, fun _ => rfl⟩⟩
              | (refine ⟨rfl, ⟨fun e => (by cases e), fun h => ?_⟩⟩
                 obtain ⟨p1, p2, p3, p4, p5⟩ := h
                 first
                   | exact absurd (i1.mpr p1) (by rw [c_45]; decide)
                   | exact absurd (i2.mpr p2) (by rw [c_55]; decide)
                   | exact absurd (i3.mpr p3) (by rw [c_66]; decide)
                   | exact absurd (hz.mpr ⟨p4, p5⟩) (by rw [c_71]; decide))
          · skip
            refine nv_iconst hX (m := 1) (by decide) dX4_isGoal_74 ?_
            refine rv_goto hX 79 dX4_isGoal_75 (by decide) ?_
            refine mv_retz hX hE (b := true) rfl dX4_isGoal_79 ?_
            first
              | exact ⟨rfl, ⟨fun _ => ⟨i1.mp c_45, i2.mp c_55, i3.mp c_66, (hz.mp c_71).1, (hz.mp c_71).2⟩, fun _ => rfl⟩⟩
              | (refine ⟨rfl, ⟨fun e => (by cases e), fun h => ?_⟩⟩
                 obtain ⟨p1, p2, p3, p4, p5⟩ := h
                 first
                   | exact absurd (i1.mpr p1) (by rw [c_45]; decide)
                   | exact absurd (i2.mpr p2) (by rw [c_55]; decide)
                   | exact absurd (i3.mpr p3) (by rw [c_66]; decide)
                   | exact absurd (hz.mpr ⟨p4, p5⟩) (by rw [c_71]; decide))
  refine rv_aload_n hX dX4_isGoal_0 rfl ?_
  refine mv_ga hX (k := 2) (j := 2) gX4_13_X4 (by decide) rfl (by decide) dX4_isGoal_1 ?_
  refine rv_iload_n hX dX4_isGoal_4 rfl ?_
  refine mv_ld hX (j := 2) (by decide) (by decide) rfl (by decide) (show _ < 8 by omega) dX4_isGoal_5 ?_
  rw [hkv]
  refine nv_iconst hX (m := 1) (by decide) dX4_isGoal_6 ?_
  first | refine nv_icmp_gt hX 15 (by omega) (by omega) dX4_isGoal_7 (by decide) (fun c_7 => ?_) (fun c_7 => ?_) | refine rv_icmp_gt hX 15 dX4_isGoal_7 (by decide) (fun c_7 => ?_) (fun c_7 => ?_)
  · skip
    refine rv_aload_n hX dX4_isGoal_15 rfl ?_
    refine mv_ga hX (k := 2) (j := 2) gX4_13_X4 (by decide) rfl (by decide) dX4_isGoal_16 ?_
    refine rv_iload_n hX dX4_isGoal_19 rfl ?_
    refine mv_ld hX (j := 2) (by decide) (by decide) rfl (by decide) (show _ < 8 by omega) dX4_isGoal_20 ?_
    rw [hkv]
    refine nv_iconst hX (m := 2) (by decide) dX4_isGoal_21 ?_
    first | refine nv_icmp_gt hX 31 (by omega) (by omega) dX4_isGoal_22 (by decide) (fun c_22 => ?_) (fun c_22 => ?_) | refine rv_icmp_gt hX 31 dX4_isGoal_22 (by decide) (fun c_22 => ?_) (fun c_22 => ?_)
    · skip
      refine nv_iconst hX (m := 1) (by decide) dX4_isGoal_31 ?_
      refine rv_goto hX 36 dX4_isGoal_32 (by decide) ?_
      refine rv_istore hX dX4_isGoal_36 (rv_st_5 rfl) ?_
      first
        | exact go true ⟨fun _ => ⟨(by first | exact Or.inl (by omega) | exact Or.inr c_12), (by first | exact Or.inl (by omega) | exact Or.inr c_28)⟩, fun _ => rfl⟩
        | exact go false ⟨fun e => (by cases e), fun h => (by
            obtain ⟨p4, p5⟩ := h
            first
              | exact p4.elim (fun q => absurd q (by omega)) (fun q => absurd q c_12)
              | exact p5.elim (fun q => absurd q (by omega)) (fun q => absurd q c_28))⟩
    · skip
      refine rv_iload hX dX4_isGoal_25 rfl ?_
      refine rv_iconst hX (v := -1) dX4_isGoal_27 (by decide) ?_
      first | refine nv_icmp_ne hX 35 (by omega) (by omega) dX4_isGoal_28 (by decide) (fun c_28 => ?_) (fun c_28 => ?_) | refine rv_icmp_ne hX 35 dX4_isGoal_28 (by decide) (fun c_28 => ?_) (fun c_28 => ?_)
      · skip
        refine nv_iconst hX (m := 0) (by decide) dX4_isGoal_35 ?_
        refine rv_istore hX dX4_isGoal_36 (rv_st_5 rfl) ?_
        first
          | exact go true ⟨fun _ => ⟨(by first | exact Or.inl (by omega) | exact Or.inr c_12), (by first | exact Or.inl (by omega) | exact Or.inr c_28)⟩, fun _ => rfl⟩
          | exact go false ⟨fun e => (by cases e), fun h => (by
              obtain ⟨p4, p5⟩ := h
              first
                | exact p4.elim (fun q => absurd q (by omega)) (fun q => absurd q c_12)
                | exact p5.elim (fun q => absurd q (by omega)) (fun q => absurd q c_28))⟩
      · skip
        refine nv_iconst hX (m := 1) (by decide) dX4_isGoal_31 ?_
        refine rv_goto hX 36 dX4_isGoal_32 (by decide) ?_
        refine rv_istore hX dX4_isGoal_36 (rv_st_5 rfl) ?_
        first
          | exact go true ⟨fun _ => ⟨(by first | exact Or.inl (by omega) | exact Or.inr c_12), (by first | exact Or.inl (by omega) | exact Or.inr c_28)⟩, fun _ => rfl⟩
          | exact go false ⟨fun e => (by cases e), fun h => (by
              obtain ⟨p4, p5⟩ := h
              first
                | exact p4.elim (fun q => absurd q (by omega)) (fun q => absurd q c_12)
                | exact p5.elim (fun q => absurd q (by omega)) (fun q => absurd q c_28))⟩
  · skip
    refine rv_iload_n hX dX4_isGoal_10 rfl ?_
    refine rv_iconst hX (v := -1) dX4_isGoal_11 (by decide) ?_
    first | refine nv_icmp_ne hX 35 (by omega) (by omega) dX4_isGoal_12 (by decide) (fun c_12 => ?_) (fun c_12 => ?_) | refine rv_icmp_ne hX 35 dX4_isGoal_12 (by decide) (fun c_12 => ?_) (fun c_12 => ?_)
    · skip
      refine nv_iconst hX (m := 0) (by decide) dX4_isGoal_35 ?_
      refine rv_istore hX dX4_isGoal_36 (rv_st_5 rfl) ?_
      first
        | exact go true ⟨fun _ => ⟨(by first | exact Or.inl (by omega) | exact Or.inr c_12), (by first | exact Or.inl (by omega) | exact Or.inr c_28)⟩, fun _ => rfl⟩
        | exact go false ⟨fun e => (by cases e), fun h => (by
            obtain ⟨p4, p5⟩ := h
            first
              | exact p4.elim (fun q => absurd q (by omega)) (fun q => absurd q c_12)
              | exact p5.elim (fun q => absurd q (by omega)) (fun q => absurd q c_28))⟩
    · skip
      refine rv_aload_n hX dX4_isGoal_15 rfl ?_
      refine mv_ga hX (k := 2) (j := 2) gX4_13_X4 (by decide) rfl (by decide) dX4_isGoal_16 ?_
      refine rv_iload_n hX dX4_isGoal_19 rfl ?_
      refine mv_ld hX (j := 2) (by decide) (by decide) rfl (by decide) (show _ < 8 by omega) dX4_isGoal_20 ?_
      rw [hkv]
      refine nv_iconst hX (m := 2) (by decide) dX4_isGoal_21 ?_
      first | refine nv_icmp_gt hX 31 (by omega) (by omega) dX4_isGoal_22 (by decide) (fun c_22 => ?_) (fun c_22 => ?_) | refine rv_icmp_gt hX 31 dX4_isGoal_22 (by decide) (fun c_22 => ?_) (fun c_22 => ?_)
      · skip
        refine nv_iconst hX (m := 1) (by decide) dX4_isGoal_31 ?_
        refine rv_goto hX 36 dX4_isGoal_32 (by decide) ?_
        refine rv_istore hX dX4_isGoal_36 (rv_st_5 rfl) ?_
        first
          | exact go true ⟨fun _ => ⟨(by first | exact Or.inl (by omega) | exact Or.inr c_12), (by first | exact Or.inl (by omega) | exact Or.inr c_28)⟩, fun _ => rfl⟩
          | exact go false ⟨fun e => (by cases e), fun h => (by
              obtain ⟨p4, p5⟩ := h
              first
                | exact p4.elim (fun q => absurd q (by omega)) (fun q => absurd q c_12)
                | exact p5.elim (fun q => absurd q (by omega)) (fun q => absurd q c_28))⟩
      · skip
        refine rv_iload hX dX4_isGoal_25 rfl ?_
        refine rv_iconst hX (v := -1) dX4_isGoal_27 (by decide) ?_
        first | refine nv_icmp_ne hX 35 (by omega) (by omega) dX4_isGoal_28 (by decide) (fun c_28 => ?_) (fun c_28 => ?_) | refine rv_icmp_ne hX 35 dX4_isGoal_28 (by decide) (fun c_28 => ?_) (fun c_28 => ?_)
        · skip
          refine nv_iconst hX (m := 0) (by decide) dX4_isGoal_35 ?_
          refine rv_istore hX dX4_isGoal_36 (rv_st_5 rfl) ?_
          first
            | exact go true ⟨fun _ => ⟨(by first | exact Or.inl (by omega) | exact Or.inr c_12), (by first | exact Or.inl (by omega) | exact Or.inr c_28)⟩, fun _ => rfl⟩
            | exact go false ⟨fun e => (by cases e), fun h => (by
                obtain ⟨p4, p5⟩ := h
                first
                  | exact p4.elim (fun q => absurd q (by omega)) (fun q => absurd q c_12)
                  | exact p5.elim (fun q => absurd q (by omega)) (fun q => absurd q c_28))⟩
        · skip
          refine nv_iconst hX (m := 1) (by decide) dX4_isGoal_31 ?_
          refine rv_goto hX 36 dX4_isGoal_32 (by decide) ?_
          refine rv_istore hX dX4_isGoal_36 (rv_st_5 rfl) ?_
          first
            | exact go true ⟨fun _ => ⟨(by first | exact Or.inl (by omega) | exact Or.inr c_12), (by first | exact Or.inl (by omega) | exact Or.inr c_28)⟩, fun _ => rfl⟩
            | exact go false ⟨fun e => (by cases e), fun h => (by
                obtain ⟨p4, p5⟩ := h
                first
                  | exact p4.elim (fun q => absurd q (by omega)) (fun q => absurd q c_12)
                  | exact p5.elim (fun q => absurd q (by omega)) (fun q => absurd q c_28))⟩
