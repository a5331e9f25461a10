/-! THE REFERENCE: strata -/
set_option maxRecDepth 100000
/-- the stratum that an item asks for at the least -/
def sp_own (st : Nat → Nat) (C : sp_C) (it : sp_I) : Nat := if 1 < it.1 then 0 else st it.2.1 + (if it.1 = 1 ∨ C.gath ≠ none then 1 else 0)
def sp_lst (st : Nat → Nat) (C : sp_C) : Nat := C.its.foldl (fun m it => if m < sp_own st C it then sp_own st C it else m) 0
def sp_lstk (st : Nat → Nat) (C : sp_C) (k : Nat) : Nat := (C.its.take k).foldl (fun m it => if m < sp_own st C it then sp_own st C it else m) 0
theorem sp_lstk_succ {st : Nat → Nat} {C : sp_C} {k : Nat} {it : sp_I} (h : C.its[k]? = some it) : sp_lstk st C (k + 1) = if sp_lstk st C k < sp_own st C it then sp_own st C it else sp_lstk st C k := by
  unfold sp_lstk
  rw [sp_take_get h, List.foldl_append]
  rfl
theorem sp_own_le {st : Nat → Nat} {C : sp_C} {it : sp_I} (h : ∀ i, st i < 8) : sp_own st C it ≤ 8 := by
  unfold sp_own
  have := h it.2.1
  split
  · omega
  · split <;> omega
theorem sp_lstk_le {st : Nat → Nat} {C : sp_C} (h : ∀ i, st i < 8) (k : Nat) : sp_lstk st C k ≤ 8 := by
  unfold sp_lstk
  generalize C.its.take k = l
  have : ∀ (l : List sp_I) (a : Nat), a ≤ 8 → l.foldl (fun m it => if m < sp_own st C it then sp_own st C it else m) a ≤ 8 := by
    intro l
    induction l with
    | nil => intro a h; exact h
    | cons x l ih =>
      intro a ha
      rw [List.foldl_cons]
      refine ih _ ?_
      split
      · exact sp_own_le h
      · exact ha
  exact this l 0 (by decide)
def mStr (σ : rv_S) (st : Nat → Nat) : Prop := (∀ i, i < 8 → σ.2.1 22 i = nI (st i)) ∧ ∀ i, st i < 8
theorem mStr.same {fs js : List Nat} {σ τ : rv_S} {st : Nat → Nat} (h : mStr σ st) (hs : rv_same fs js σ τ) (h1 : 22 ∉ js) : mStr τ st := ⟨fun i hi => by rw [hs.2.1 22 h1]; exact h.1 i hi, h.2⟩
theorem m_leastStratum {G : rv_G} (hG : rv_GK G) {d : Nat} (hd : 1 ≤ d) {σ : rv_S} {S : List Nat} {b : Nat} {C : sp_C} {st : Nat → Nat} (hS : mRel σ S) (hB : mBody σ b C) (hw : sp_wfC S C) (hb : b < 17) (hst : mStr σ st) : mC G d yX4_leastStratum wX4_leastStratum [.int (nI b)] σ (mPi (fun r τ => τ = σ ∧ r = nI (sp_lst st C))) := by
  refine mv_start hG (by decide +kernel) (Nat.le_of_ble_eq_true rfl) (fun X Hb o hX1 hX hE => ?_)
  subst hX1
  show rv_V X (rv_mh Hb o _) 0 [some (.ref o), some (.int (nI b)), none, none, none, none, none] []
  have hlen := hw.len
  have hS88 := hS.2.1
  have loop : ∀ (n k : Nat) (x y z : Option Value), k ≤ C.its.length → C.its.length - k < n → rv_V X (rv_mh Hb o σ) 4 [some (.ref o), some (.int (nI b)), some (.int (nI (sp_lstk st C k))), some (.int (nI k)), x, y, z] [] := by
    intro n
    induction n with
    | zero => intro k x y z h1 h2; omega
    | succ n ih =>
      intro k x y z h1 h2
      have hl8 := sp_lstk_le (C := C) hst.2 k
      refine rv_iload_n hX dX4_leastStratum_4 rfl ?_
      refine rv_aload_n hX dX4_leastStratum_5 rfl ?_
      refine mv_ga hX (k := 6) (j := 6) gX4_25_X4 (by decide) rfl (by decide) dX4_leastStratum_6 ?_
      refine rv_iload_n hX dX4_leastStratum_9 rfl ?_
      refine mv_ld hX (j := 6) (by decide) (by decide) rfl (by decide) (show _ < 17 by omega) dX4_leastStratum_10 ?_
      rw [hB.len]
      first | refine nv_icmp_ge hX 101 (by omega) (by omega) dX4_leastStratum_11 (by decide) (fun c_11 => ?_) (fun c_11 => ?_) | refine rv_icmp_ge hX 101 dX4_leastStratum_11 (by decide) (fun c_11 => ?_) (fun c_11 => ?_)
      · skip
        have hk : k = C.its.length := by omega
        refine rv_iload_n hX dX4_leastStratum_101 rfl ?_
        refine mv_reti hX hE dX4_leastStratum_102 ?_
        refine ⟨rfl, ?_⟩
        have e : sp_lst st C = sp_lstk st C k := by
          unfold sp_lst sp_lstk
          rw [hk, List.take_length]
        rw [e]
      · skip
        obtain ⟨it, hit⟩ : ∃ it, C.its[k]? = some it := ⟨C.its[k], List.getElem?_eq_getElem (by omega)⟩
        have hI := hB.its k it hit
        have hwI := hw.its it (List.mem_of_getElem? hit)
        have hwk := hwI.1
        have hst2 := hst.2 it.2.1
        have hsu := sp_lstk_succ (st := st) hit
        have hw8 : it.1 ≤ 1 → it.2.1 < 8 := fun e => by have := (List.getElem?_eq_some_iff.mp (hwI.2.1 e)).1; omega
        refine rv_aload_n hX dX4_leastStratum_14 rfl ?_
        refine rv_iload_n hX dX4_leastStratum_15 rfl ?_
        refine rv_iload_n hX dX4_leastStratum_16 rfl ?_
        refine mv_calli hX iX4_148 rfl mdX4_kindOf (m_kindOf hG (d := d - 1) (by omega)) (by omega) rfl rfl (Nat.le_of_ble_eq_true rfl) dX4_leastStratum_17 (fun r_17 τ_17 h_17 => ?_)
        obtain ⟨rfl, rfl⟩ := h_17
        rw [hI.1]
        refine rv_istore hX dX4_leastStratum_20 (rv_st_4 rfl) ?_
        refine rv_iload hX dX4_leastStratum_22 rfl ?_
        refine nv_iconst hX (m := 1) (by decide) dX4_leastStratum_24 ?_
        first | refine nv_icmp_eq hX 41 (by omega) (by omega) dX4_leastStratum_25 (by decide) (fun c_25 => ?_) (fun c_25 => ?_) | refine rv_icmp_eq hX 41 dX4_leastStratum_25 (by decide) (fun c_25 => ?_) (fun c_25 => ?_)
        · skip
          refine nv_iconst hX (m := 1) (by decide) dX4_leastStratum_41 ?_
          refine rv_goto hX 46 dX4_leastStratum_42 (by decide) ?_
          refine rv_istore hX dX4_leastStratum_46 (rv_st_5 rfl) ?_
          refine rv_iload hX dX4_leastStratum_48 rfl ?_
          refine nv_iconst hX (m := 1) (by decide) dX4_leastStratum_50 ?_
          first | refine nv_icmp_le hX 58 (by omega) (by omega) dX4_leastStratum_51 (by decide) (fun c_51 => ?_) (fun c_51 => ?_) | refine rv_icmp_le hX 58 dX4_leastStratum_51 (by decide) (fun c_51 => ?_) (fun c_51 => ?_)
          · skip
            refine rv_aload_n hX dX4_leastStratum_58 rfl ?_
            refine mv_ga hX (k := 25) (j := 22) gX4_73_X4 (by decide) rfl (by decide) dX4_leastStratum_59 ?_
            refine rv_aload_n hX dX4_leastStratum_62 rfl ?_
            refine rv_iload_n hX dX4_leastStratum_63 rfl ?_
            refine rv_iload_n hX dX4_leastStratum_64 rfl ?_
            refine mv_calli hX iX4_152 rfl mdX4_whatOf (m_whatOf hG (d := d - 1) (by omega)) (by omega) rfl rfl (Nat.le_of_ble_eq_true rfl) dX4_leastStratum_65 (fun r_65 τ_65 h_65 => ?_)
            obtain ⟨rfl, rfl⟩ := h_65
            rw [hI.2.1]
            have hw9 := hw8 (by omega)
            refine mv_ld hX (j := 22) (by decide) (by decide) rfl (by decide) (show _ < 8 by omega) dX4_leastStratum_68 ?_
            rw [hst.1 _ hw9]
            refine rv_iload hX dX4_leastStratum_69 rfl ?_
            refine rv_if_eq hX 78 dX4_leastStratum_71 (by decide) (fun q => absurd q (by decide)) (fun _ => ?_)
            refine nv_iconst hX (m := 1) (by decide) dX4_leastStratum_74 ?_
            refine rv_goto hX 79 dX4_leastStratum_75 (by decide) ?_
            first | refine nv_iadd hX dX4_leastStratum_79 ?_ | refine rv_iadd hX dX4_leastStratum_79 ?_
            refine rv_istore hX dX4_leastStratum_80 (rv_st_6 rfl) ?_
            refine rv_iload hX dX4_leastStratum_82 rfl ?_
            refine rv_iload_n hX dX4_leastStratum_84 rfl ?_
            first | refine nv_icmp_le hX 93 (by omega) (by omega) dX4_leastStratum_85 (by decide) (fun c_85 => ?_) (fun c_85 => ?_) | refine rv_icmp_le hX 93 dX4_leastStratum_85 (by decide) (fun c_85 => ?_) (fun c_85 => ?_)
            · skip
              refine rv_iload_n hX dX4_leastStratum_93 rfl ?_
              refine rv_istore_n hX dX4_leastStratum_94 (rv_st_2 rfl) ?_
              first | refine nv_iinc hX (m := 1) dX4_leastStratum_95 rfl (by decide) (rv_st_3 rfl) ?_ | refine rv_iinc hX dX4_leastStratum_95 rfl rfl (rv_st_3 rfl) ?_
              refine rv_goto hX 4 dX4_leastStratum_98 (by decide) ?_
              first
                | (have e : sp_own st C it = st it.2.1 + 1 := by
                     unfold sp_own
                     rw [if_neg (by omega), if_pos]
                     first
                       | exact Or.inl c_25
                       | (right
                          intro q
                          have q' : sp_gslot C.hts 0 = none := q
                          rw [q', c_38] at hg
                          cases hg)
                   rw [e] at hsu
                   have h9 := fun x y z => ih (k + 1) x y z (by omega) (by omega)
                   first
                     | (rw [hsu, if_pos (by omega)] at h9; exact h9 _ _ _)
                     | (rw [hsu, if_neg (by omega)] at h9; exact h9 _ _ _))
                | (have e : sp_own st C it = st it.2.1 + 0 := by
                     unfold sp_own
                     rw [if_neg (by omega), if_neg]
                     rintro (q | q)
                     · exact absurd q (by omega)
                     · apply q
                       have q' : (sp_gslot C.hts 0).isSome = false := hg.symm.trans c_38
                       cases e : C.gath with
                       | none => rfl
                       | some s =>
                         have e' : sp_gslot C.hts 0 = some s := e
                         rw [e'] at q'
                         cases q'
                   rw [e] at hsu
                   have h9 := fun x y z => ih (k + 1) x y z (by omega) (by omega)
                   first
                     | (rw [hsu, if_pos (by omega)] at h9; exact h9 _ _ _)
                     | (rw [hsu, if_neg (by omega)] at h9; exact h9 _ _ _))
                | (have e : sp_own st C it = 0 := by
                     unfold sp_own
                     rw [if_pos (by omega)]
                   rw [e] at hsu
                   have h9 := fun x y z => ih (k + 1) x y z (by omega) (by omega)
                   first
                     | (rw [hsu, if_pos (by omega)] at h9; exact h9 _ _ _)
                     | (rw [hsu, if_neg (by omega)] at h9; exact h9 _ _ _))
                | (exfalso; omega)
            · skip
              refine rv_iload hX dX4_leastStratum_88 rfl ?_
              refine rv_goto hX 94 dX4_leastStratum_90 (by decide) ?_
              refine rv_istore_n hX dX4_leastStratum_94 (rv_st_2 rfl) ?_
              first | refine nv_iinc hX (m := 1) dX4_leastStratum_95 rfl (by decide) (rv_st_3 rfl) ?_ | refine rv_iinc hX dX4_leastStratum_95 rfl rfl (rv_st_3 rfl) ?_
              refine rv_goto hX 4 dX4_leastStratum_98 (by decide) ?_
              first
                | (have e : sp_own st C it = st it.2.1 + 1 := by
                     unfold sp_own
                     rw [if_neg (by omega), if_pos]
                     first
                       | exact Or.inl c_25
                       | (right
                          intro q
                          have q' : sp_gslot C.hts 0 = none := q
                          rw [q', c_38] at hg
                          cases hg)
                   rw [e] at hsu
                   have h9 := fun x y z => ih (k + 1) x y z (by omega) (by omega)
                   first
                     | (rw [hsu, if_pos (by omega)] at h9; exact h9 _ _ _)
                     | (rw [hsu, if_neg (by omega)] at h9; exact h9 _ _ _))
                | (have e : sp_own st C it = st it.2.1 + 0 := by
                     unfold sp_own
                     rw [if_neg (by omega), if_neg]
                     rintro (q | q)
                     · exact absurd q (by omega)
                     · apply q
                       have q' : (sp_gslot C.hts 0).isSome = false := hg.symm.trans c_38
                       cases e : C.gath with
                       | none => rfl
                       | some s =>
                         have e' : sp_gslot C.hts 0 = some s := e
                         rw [e'] at q'
                         cases q'
                   rw [e] at hsu
                   have h9 := fun x y z => ih (k + 1) x y z (by omega) (by omega)
                   first
                     | (rw [hsu, if_pos (by omega)] at h9; exact h9 _ _ _)
                     | (rw [hsu, if_neg (by omega)] at h9; exact h9 _ _ _))
                | (have e : sp_own st C it = 0 := by
                     unfold sp_own
                     rw [if_pos (by omega)]
                   rw [e] at hsu
                   have h9 := fun x y z => ih (k + 1) x y z (by omega) (by omega)
                   first
                     | (rw [hsu, if_pos (by omega)] at h9; exact h9 _ _ _)
                     | (rw [hsu, if_neg (by omega)] at h9; exact h9 _ _ _))
                | (exfalso; omega)
          · skip
            refine nv_iconst hX (m := 0) (by decide) dX4_leastStratum_54 ?_
            refine rv_goto hX 80 dX4_leastStratum_55 (by decide) ?_
            refine rv_istore hX dX4_leastStratum_80 (rv_st_6 rfl) ?_
            refine rv_iload hX dX4_leastStratum_82 rfl ?_
            refine rv_iload_n hX dX4_leastStratum_84 rfl ?_
            first | refine nv_icmp_le hX 93 (by omega) (by omega) dX4_leastStratum_85 (by decide) (fun c_85 => ?_) (fun c_85 => ?_) | refine rv_icmp_le hX 93 dX4_leastStratum_85 (by decide) (fun c_85 => ?_) (fun c_85 => ?_)
            · skip
              refine rv_iload_n hX dX4_leastStratum_93 rfl ?_
              refine rv_istore_n hX dX4_leastStratum_94 (rv_st_2 rfl) ?_
              first | refine nv_iinc hX (m := 1) dX4_leastStratum_95 rfl (by decide) (rv_st_3 rfl) ?_ | refine rv_iinc hX dX4_leastStratum_95 rfl rfl (rv_st_3 rfl) ?_
              refine rv_goto hX 4 dX4_leastStratum_98 (by decide) ?_
              first
                | (have e : sp_own st C it = st it.2.1 + 1 := by
                     unfold sp_own
                     rw [if_neg (by omega), if_pos]
                     first
                       | exact Or.inl c_25
                       | (right
                          intro q
                          have q' : sp_gslot C.hts 0 = none := q
                          rw [q', c_38] at hg
                          cases hg)
                   rw [e] at hsu
                   have h9 := fun x y z => ih (k + 1) x y z (by omega) (by omega)
                   first
                     | (rw [hsu, if_pos (by omega)] at h9; exact h9 _ _ _)
                     | (rw [hsu, if_neg (by omega)] at h9; exact h9 _ _ _))
                | (have e : sp_own st C it = st it.2.1 + 0 := by
                     unfold sp_own
                     rw [if_neg (by omega), if_neg]
                     rintro (q | q)
                     · exact absurd q (by omega)
                     · apply q
                       have q' : (sp_gslot C.hts 0).isSome = false := hg.symm.trans c_38
                       cases e : C.gath with
                       | none => rfl
                       | some s =>
                         have e' : sp_gslot C.hts 0 = some s := e
                         rw [e'] at q'
                         cases q'
                   rw [e] at hsu
                   have h9 := fun x y z => ih (k + 1) x y z (by omega) (by omega)
                   first
                     | (rw [hsu, if_pos (by omega)] at h9; exact h9 _ _ _)
                     | (rw [hsu, if_neg (by omega)] at h9; exact h9 _ _ _))
                | (have e : sp_own st C it = 0 := by
                     unfold sp_own
                     rw [if_pos (by omega)]
                   rw [e] at hsu
                   have h9 := fun x y z => ih (k + 1) x y z (by omega) (by omega)
                   first
                     | (rw [hsu, if_pos (by omega)] at h9; exact h9 _ _ _)
                     | (rw [hsu, if_neg (by omega)] at h9; exact h9 _ _ _))
                | (exfalso; omega)
            · skip
              refine rv_iload hX dX4_leastStratum_88 rfl ?_
              refine rv_goto hX 94 dX4_leastStratum_90 (by decide) ?_
              refine rv_istore_n hX dX4_leastStratum_94 (rv_st_2 rfl) ?_
              first | refine nv_iinc hX (m := 1) dX4_leastStratum_95 rfl (by decide) (rv_st_3 rfl) ?_ | refine rv_iinc hX dX4_leastStratum_95 rfl rfl (rv_st_3 rfl) ?_
              refine rv_goto hX 4 dX4_leastStratum_98 (by decide) ?_
              first
                | (have e : sp_own st C it = st it.2.1 + 1 := by
                     unfold sp_own
                     rw [if_neg (by omega), if_pos]
                     first
                       | exact Or.inl c_25
                       | (right
                          intro q
                          have q' : sp_gslot C.hts 0 = none := q
                          rw [q', c_38] at hg
                          cases hg)
                   rw [e] at hsu
                   have h9 := fun x y z => ih (k + 1) x y z (by omega) (by omega)
                   first
                     | (rw [hsu, if_pos (by omega)] at h9; exact h9 _ _ _)
                     | (rw [hsu, if_neg (by omega)] at h9; exact h9 _ _ _))
                | (have e : sp_own st C it = st it.2.1 + 0 := by
                     unfold sp_own
                     rw [if_neg (by omega), if_neg]
                     rintro (q | q)
                     · exact absurd q (by omega)
                     · apply q
                       have q' : (sp_gslot C.hts 0).isSome = false := hg.symm.trans c_38
                       cases e : C.gath with
                       | none => rfl
                       | some s =>
                         have e' : sp_gslot C.hts 0 = some s := e
                         rw [e'] at q'
                         cases q'
                   rw [e] at hsu
                   have h9 := fun x y z => ih (k + 1) x y z (by omega) (by omega)
                   first
                     | (rw [hsu, if_pos (by omega)] at h9; exact h9 _ _ _)
                     | (rw [hsu, if_neg (by omega)] at h9; exact h9 _ _ _))
                | (have e : sp_own st C it = 0 := by
                     unfold sp_own
                     rw [if_pos (by omega)]
                   rw [e] at hsu
                   have h9 := fun x y z => ih (k + 1) x y z (by omega) (by omega)
                   first
                     | (rw [hsu, if_pos (by omega)] at h9; exact h9 _ _ _)
                     | (rw [hsu, if_neg (by omega)] at h9; exact h9 _ _ _))
                | (exfalso; omega)
        · skip
          refine rv_iload hX dX4_leastStratum_28 rfl ?_
          first | refine zv_if_ne hX 45 dX4_leastStratum_30 (by decide) (fun c_30 => ?_) (fun c_30 => ?_) | refine nv_if_ne hX 45 (by omega) dX4_leastStratum_30 (by decide) (fun c_30 => ?_) (fun c_30 => ?_) | refine rv_if_ne hX 45 dX4_leastStratum_30 (by decide) (fun c_30 => ?_) (fun c_30 => ?_)
          · skip
            refine nv_iconst hX (m := 0) (by decide) dX4_leastStratum_45 ?_
            refine rv_istore hX dX4_leastStratum_46 (rv_st_5 rfl) ?_
            refine rv_iload hX dX4_leastStratum_48 rfl ?_
            refine nv_iconst hX (m := 1) (by decide) dX4_leastStratum_50 ?_
            first | refine nv_icmp_le hX 58 (by omega) (by omega) dX4_leastStratum_51 (by decide) (fun c_51 => ?_) (fun c_51 => ?_) | refine rv_icmp_le hX 58 dX4_leastStratum_51 (by decide) (fun c_51 => ?_) (fun c_51 => ?_)
            · skip
              refine rv_aload_n hX dX4_leastStratum_58 rfl ?_
              refine mv_ga hX (k := 25) (j := 22) gX4_73_X4 (by decide) rfl (by decide) dX4_leastStratum_59 ?_
              refine rv_aload_n hX dX4_leastStratum_62 rfl ?_
              refine rv_iload_n hX dX4_leastStratum_63 rfl ?_
              refine rv_iload_n hX dX4_leastStratum_64 rfl ?_
              refine mv_calli hX iX4_152 rfl mdX4_whatOf (m_whatOf hG (d := d - 1) (by omega)) (by omega) rfl rfl (Nat.le_of_ble_eq_true rfl) dX4_leastStratum_65 (fun r_65 τ_65 h_65 => ?_)
              obtain ⟨rfl, rfl⟩ := h_65
              rw [hI.2.1]
              have hw9 := hw8 (by omega)
              refine mv_ld hX (j := 22) (by decide) (by decide) rfl (by decide) (show _ < 8 by omega) dX4_leastStratum_68 ?_
              rw [hst.1 _ hw9]
              refine rv_iload hX dX4_leastStratum_69 rfl ?_
              refine rv_if_eq hX 78 dX4_leastStratum_71 (by decide) (fun _ => ?_) (fun q => absurd q (by decide))
              refine nv_iconst hX (m := 0) (by decide) dX4_leastStratum_78 ?_
              first | refine nv_iadd hX dX4_leastStratum_79 ?_ | refine rv_iadd hX dX4_leastStratum_79 ?_
              refine rv_istore hX dX4_leastStratum_80 (rv_st_6 rfl) ?_
              refine rv_iload hX dX4_leastStratum_82 rfl ?_
              refine rv_iload_n hX dX4_leastStratum_84 rfl ?_
              first | refine nv_icmp_le hX 93 (by omega) (by omega) dX4_leastStratum_85 (by decide) (fun c_85 => ?_) (fun c_85 => ?_) | refine rv_icmp_le hX 93 dX4_leastStratum_85 (by decide) (fun c_85 => ?_) (fun c_85 => ?_)
              · skip
                refine rv_iload_n hX dX4_leastStratum_93 rfl ?_
                refine rv_istore_n hX dX4_leastStratum_94 (rv_st_2 rfl) ?_
                first | refine nv_iinc hX (m := 1) dX4_leastStratum_95 rfl (by decide) (rv_st_3 rfl) ?_ | refine rv_iinc hX dX4_leastStratum_95 rfl rfl (rv_st_3 rfl) ?_
                refine rv_goto hX 4 dX4_leastStratum_98 (by decide) ?_
                first
                  | (have e : sp_own st C it = st it.2.1 + 1 := by
                       unfold sp_own
                       rw [if_neg (by omega), if_pos]
                       first
                         | exact Or.inl c_25
                         | (right
                            intro q
                            have q' : sp_gslot C.hts 0 = none := q
                            rw [q', c_38] at hg
                            cases hg)
                     rw [e] at hsu
                     have h9 := fun x y z => ih (k + 1) x y z (by omega) (by omega)
                     first
                       | (rw [hsu, if_pos (by omega)] at h9; exact h9 _ _ _)
                       | (rw [hsu, if_neg (by omega)] at h9; exact h9 _ _ _))
                  | (have e : sp_own st C it = st it.2.1 + 0 := by
                       unfold sp_own
                       rw [if_neg (by omega), if_neg]
                       rintro (q | q)
                       · exact absurd q (by omega)
                       · apply q
                         have q' : (sp_gslot C.hts 0).isSome = false := hg.symm.trans c_38
                         cases e : C.gath with
                         | none => rfl
                         | some s =>
                           have e' : sp_gslot C.hts 0 = some s := e
                           rw [e'] at q'
                           cases q'
                     rw [e] at hsu
                     have h9 := fun x y z => ih (k + 1) x y z (by omega) (by omega)
                     first
                       | (rw [hsu, if_pos (by omega)] at h9; exact h9 _ _ _)
                       | (rw [hsu, if_neg (by omega)] at h9; exact h9 _ _ _))
                  | (have e : sp_own st C it = 0 := by
                       unfold sp_own
                       rw [if_pos (by omega)]
                     rw [e] at hsu
                     have h9 := fun x y z => ih (k + 1) x y z (by omega) (by omega)
                     first
                       | (rw [hsu, if_pos (by omega)] at h9; exact h9 _ _ _)
                       | (rw [hsu, if_neg (by omega)] at h9; exact h9 _ _ _))
                  | (exfalso; omega)
              · skip
                refine rv_iload hX dX4_leastStratum_88 rfl ?_
                refine rv_goto hX 94 dX4_leastStratum_90 (by decide) ?_
                refine rv_istore_n hX dX4_leastStratum_94 (rv_st_2 rfl) ?_
                first | refine nv_iinc hX (m := 1) dX4_leastStratum_95 rfl (by decide) (rv_st_3 rfl) ?_ | refine rv_iinc hX dX4_leastStratum_95 rfl rfl (rv_st_3 rfl) ?_
                refine rv_goto hX 4 dX4_leastStratum_98 (by decide) ?_
                first
                  | (have e : sp_own st C it = st it.2.1 + 1 := by
                       unfold sp_own
                       rw [if_neg (by omega), if_pos]
                       first
                         | exact Or.inl c_25
                         | (right
                            intro q
                            have q' : sp_gslot C.hts 0 = none := q
                            rw [q', c_38] at hg
                            cases hg)
                     rw [e] at hsu
                     have h9 := fun x y z => ih (k + 1) x y z (by omega) (by omega)
                     first
                       | (rw [hsu, if_pos (by omega)] at h9; exact h9 _ _ _)
                       | (rw [hsu, if_neg (by omega)] at h9; exact h9 _ _ _))
                  | (have e : sp_own st C it = st it.2.1 + 0 := by
                       unfold sp_own
                       rw [if_neg (by omega), if_neg]
                       rintro (q | q)
                       · exact absurd q (by omega)
                       · apply q
                         have q' : (sp_gslot C.hts 0).isSome = false := hg.symm.trans c_38
                         cases e : C.gath with
                         | none => rfl
                         | some s =>
                           have e' : sp_gslot C.hts 0 = some s := e
                           rw [e'] at q'
                           cases q'
                     rw [e] at hsu
                     have h9 := fun x y z => ih (k + 1) x y z (by omega) (by omega)
                     first
                       | (rw [hsu, if_pos (by omega)] at h9; exact h9 _ _ _)
                       | (rw [hsu, if_neg (by omega)] at h9; exact h9 _ _ _))
                  | (have e : sp_own st C it = 0 := by
                       unfold sp_own
                       rw [if_pos (by omega)]
                     rw [e] at hsu
                     have h9 := fun x y z => ih (k + 1) x y z (by omega) (by omega)
                     first
                       | (rw [hsu, if_pos (by omega)] at h9; exact h9 _ _ _)
                       | (rw [hsu, if_neg (by omega)] at h9; exact h9 _ _ _))
                  | (exfalso; omega)
            · skip
              refine nv_iconst hX (m := 0) (by decide) dX4_leastStratum_54 ?_
              refine rv_goto hX 80 dX4_leastStratum_55 (by decide) ?_
              refine rv_istore hX dX4_leastStratum_80 (rv_st_6 rfl) ?_
              refine rv_iload hX dX4_leastStratum_82 rfl ?_
              refine rv_iload_n hX dX4_leastStratum_84 rfl ?_
              first | refine nv_icmp_le hX 93 (by omega) (by omega) dX4_leastStratum_85 (by decide) (fun c_85 => ?_) (fun c_85 => ?_) | refine rv_icmp_le hX 93 dX4_leastStratum_85 (by decide) (fun c_85 => ?_) (fun c_85 => ?_)
              · skip
                refine rv_iload_n hX dX4_leastStratum_93 rfl ?_
                refine rv_istore_n hX dX4_leastStratum_94 (rv_st_2 rfl) ?_
                first | refine nv_iinc hX (m := 1) dX4_leastStratum_95 rfl (by decide) (rv_st_3 rfl) ?_ | refine rv_iinc hX dX4_leastStratum_95 rfl rfl (rv_st_3 rfl) ?_
                refine rv_goto hX 4 dX4_leastStratum_98 (by decide) ?_
                first
                  | (have e : sp_own st C it = st it.2.1 + 1 := by
                       unfold sp_own
                       rw [if_neg (by omega), if_pos]
                       first
                         | exact Or.inl c_25
                         | (right
                            intro q
                            have q' : sp_gslot C.hts 0 = none := q
                            rw [q', c_38] at hg
                            cases hg)
                     rw [e] at hsu
                     have h9 := fun x y z => ih (k + 1) x y z (by omega) (by omega)
                     first
                       | (rw [hsu, if_pos (by omega)] at h9; exact h9 _ _ _)
                       | (rw [hsu, if_neg (by omega)] at h9; exact h9 _ _ _))
                  | (have e : sp_own st C it = st it.2.1 + 0 := by
                       unfold sp_own
                       rw [if_neg (by omega), if_neg]
                       rintro (q | q)
                       · exact absurd q (by omega)
                       · apply q
                         have q' : (sp_gslot C.hts 0).isSome = false := hg.symm.trans c_38
                         cases e : C.gath with
                         | none => rfl
                         | some s =>
                           have e' : sp_gslot C.hts 0 = some s := e
                           rw [e'] at q'
                           cases q'
                     rw [e] at hsu
                     have h9 := fun x y z => ih (k + 1) x y z (by omega) (by omega)
                     first
                       | (rw [hsu, if_pos (by omega)] at h9; exact h9 _ _ _)
                       | (rw [hsu, if_neg (by omega)] at h9; exact h9 _ _ _))
                  | (have e : sp_own st C it = 0 := by
                       unfold sp_own
                       rw [if_pos (by omega)]
                     rw [e] at hsu
                     have h9 := fun x y z => ih (k + 1) x y z (by omega) (by omega)
                     first
                       | (rw [hsu, if_pos (by omega)] at h9; exact h9 _ _ _)
                       | (rw [hsu, if_neg (by omega)] at h9; exact h9 _ _ _))
                  | (exfalso; omega)
              · skip
                refine rv_iload hX dX4_leastStratum_88 rfl ?_
                refine rv_goto hX 94 dX4_leastStratum_90 (by decide) ?_
                refine rv_istore_n hX dX4_leastStratum_94 (rv_st_2 rfl) ?_
                first | refine nv_iinc hX (m := 1) dX4_leastStratum_95 rfl (by decide) (rv_st_3 rfl) ?_ | refine rv_iinc hX dX4_leastStratum_95 rfl rfl (rv_st_3 rfl) ?_
                refine rv_goto hX 4 dX4_leastStratum_98 (by decide) ?_
                first
                  | (have e : sp_own st C it = st it.2.1 + 1 := by
                       unfold sp_own
                       rw [if_neg (by omega), if_pos]
                       first
                         | exact Or.inl c_25
                         | (right
                            intro q
                            have q' : sp_gslot C.hts 0 = none := q
                            rw [q', c_38] at hg
                            cases hg)
                     rw [e] at hsu
                     have h9 := fun x y z => ih (k + 1) x y z (by omega) (by omega)
                     first
                       | (rw [hsu, if_pos (by omega)] at h9; exact h9 _ _ _)
                       | (rw [hsu, if_neg (by omega)] at h9; exact h9 _ _ _))
                  | (have e : sp_own st C it = st it.2.1 + 0 := by
                       unfold sp_own
                       rw [if_neg (by omega), if_neg]
                       rintro (q | q)
                       · exact absurd q (by omega)
                       · apply q
                         have q' : (sp_gslot C.hts 0).isSome = false := hg.symm.trans c_38
                         cases e : C.gath with
                         | none => rfl
                         | some s =>
                           have e' : sp_gslot C.hts 0 = some s := e
                           rw [e'] at q'
                           cases q'
                     rw [e] at hsu
                     have h9 := fun x y z => ih (k + 1) x y z (by omega) (by omega)
                     first
                       | (rw [hsu, if_pos (by omega)] at h9; exact h9 _ _ _)
                       | (rw [hsu, if_neg (by omega)] at h9; exact h9 _ _ _))
                  | (have e : sp_own st C it = 0 := by
                       unfold sp_own
                       rw [if_pos (by omega)]
                     rw [e] at hsu
                     have h9 := fun x y z => ih (k + 1) x y z (by omega) (by omega)
                     first
                       | (rw [hsu, if_pos (by omega)] at h9; exact h9 _ _ _)
                       | (rw [hsu, if_neg (by omega)] at h9; exact h9 _ _ _))
                  | (exfalso; omega)
          · skip
            refine rv_aload_n hX dX4_leastStratum_33 rfl ?_
            refine rv_iload_n hX dX4_leastStratum_34 rfl ?_
            refine mv_callz hX iX4_236 rfl mdX4_isGathering (m_isGathering hG (d := d - 1) (hB.mHd hS hw hb)) (by omega) rfl rfl (Nat.le_of_ble_eq_true rfl) dX4_leastStratum_35 (fun r_35 τ_35 h_35 => ?_)
            obtain ⟨rfl, hg⟩ := h_35
            first | refine zv_if_eq hX 45 dX4_leastStratum_38 (by decide) (fun c_38 => ?_) (fun c_38 => ?_) | refine nv_if_eq hX 45 (by omega) dX4_leastStratum_38 (by decide) (fun c_38 => ?_) (fun c_38 => ?_) | refine rv_if_eq hX 45 dX4_leastStratum_38 (by decide) (fun c_38 => ?_) (fun c_38 => ?_)
            · skip
              refine nv_iconst hX (m := 0) (by decide) dX4_leastStratum_45 ?_
              refine rv_istore hX dX4_leastStratum_46 (rv_st_5 rfl) ?_
              refine rv_iload hX dX4_leastStratum_48 rfl ?_
              refine nv_iconst hX (m := 1) (by decide) dX4_leastStratum_50 ?_
              first | refine nv_icmp_le hX 58 (by omega) (by omega) dX4_leastStratum_51 (by decide) (fun c_51 => ?_) (fun c_51 => ?_) | refine rv_icmp_le hX 58 dX4_leastStratum_51 (by decide) (fun c_51 => ?_) (fun c_51 => ?_)
              · skip
                refine rv_aload_n hX dX4_leastStratum_58 rfl ?_
                refine mv_ga hX (k := 25) (j := 22) gX4_73_X4 (by decide) rfl (by decide) dX4_leastStratum_59 ?_
                refine rv_aload_n hX dX4_leastStratum_62 rfl ?_
                refine rv_iload_n hX dX4_leastStratum_63 rfl ?_
                refine rv_iload_n hX dX4_leastStratum_64 rfl ?_
                refine mv_calli hX iX4_152 rfl mdX4_whatOf (m_whatOf hG (d := d - 1) (by omega)) (by omega) rfl rfl (Nat.le_of_ble_eq_true rfl) dX4_leastStratum_65 (fun r_65 τ_65 h_65 => ?_)
                obtain ⟨rfl, rfl⟩ := h_65
                rw [hI.2.1]
                have hw9 := hw8 (by omega)
                refine mv_ld hX (j := 22) (by decide) (by decide) rfl (by decide) (show _ < 8 by omega) dX4_leastStratum_68 ?_
                rw [hst.1 _ hw9]
                refine rv_iload hX dX4_leastStratum_69 rfl ?_
                refine rv_if_eq hX 78 dX4_leastStratum_71 (by decide) (fun _ => ?_) (fun q => absurd q (by decide))
                refine nv_iconst hX (m := 0) (by decide) dX4_leastStratum_78 ?_
                first | refine nv_iadd hX dX4_leastStratum_79 ?_ | refine rv_iadd hX dX4_leastStratum_79 ?_
                refine rv_istore hX dX4_leastStratum_80 (rv_st_6 rfl) ?_
                refine rv_iload hX dX4_leastStratum_82 rfl ?_
                refine rv_iload_n hX dX4_leastStratum_84 rfl ?_
                first | refine nv_icmp_le hX 93 (by omega) (by omega) dX4_leastStratum_85 (by decide) (fun c_85 => ?_) (fun c_85 => ?_) | refine rv_icmp_le hX 93 dX4_leastStratum_85 (by decide) (fun c_85 => ?_) (fun c_85 => ?_)
                · skip
                  refine rv_iload_n hX dX4_leastStratum_93 rfl ?_
                  refine rv_istore_n hX dX4_leastStratum_94 (rv_st_2 rfl) ?_
                  first | refine nv_iinc hX (m := 1) dX4_leastStratum_95 rfl (by decide) (rv_st_3 rfl) ?_ | refine rv_iinc hX dX4_leastStratum_95 rfl rfl (rv_st_3 rfl) ?_
                  refine rv_goto hX 4 dX4_leastStratum_98 (by decide) ?_
                  first
                    | (have e : sp_own st C it = st it.2.1 + 1 := by
                         unfold sp_own
                         rw [if_neg (by omega), if_pos]
                         first
                           | exact Or.inl c_25
                           | (right
                              intro q
                              have q' : sp_gslot C.hts 0 = none := q
                              rw [q', c_38] at hg
                              cases hg)
                       rw [e] at hsu
                       have h9 := fun x y z => ih (k + 1) x y z (by omega) (by omega)
                       first
                         | (rw [hsu, if_pos (by omega)] at h9; exact h9 _ _ _)
                         | (rw [hsu, if_neg (by omega)] at h9; exact h9 _ _ _))
                    | (have e : sp_own st C it = st it.2.1 + 0 := by
                         unfold sp_own
                         rw [if_neg (by omega), if_neg]
                         rintro (q | q)
                         · exact absurd q (by omega)
                         · apply q
                           have q' : (sp_gslot C.hts 0).isSome = false := hg.symm.trans c_38
                           cases e : C.gath with
                           | none => rfl
                           | some s =>
                             have e' : sp_gslot C.hts 0 = some s := e
                             rw [e'] at q'
                             cases q'
                       rw [e] at hsu
                       have h9 := fun x y z => ih (k + 1) x y z (by omega) (by omega)
                       first
                         | (rw [hsu, if_pos (by omega)] at h9; exact h9 _ _ _)
                         | (rw [hsu, if_neg (by omega)] at h9; exact h9 _ _ _))
                    | (have e : sp_own st C it = 0 := by
                         unfold sp_own
                         rw [if_pos (by omega)]
                       rw [e] at hsu
                       have h9 := fun x y z => ih (k + 1) x y z (by omega) (by omega)
                       first
                         | (rw [hsu, if_pos (by omega)] at h9; exact h9 _ _ _)
                         | (rw [hsu, if_neg (by omega)] at h9; exact h9 _ _ _))
                    | (exfalso; omega)
                · skip
                  refine rv_iload hX dX4_leastStratum_88 rfl ?_
                  refine rv_goto hX 94 dX4_leastStratum_90 (by decide) ?_
                  refine rv_istore_n hX dX4_leastStratum_94 (rv_st_2 rfl) ?_
                  first | refine nv_iinc hX (m := 1) dX4_leastStratum_95 rfl (by decide) (rv_st_3 rfl) ?_ | refine rv_iinc hX dX4_leastStratum_95 rfl rfl (rv_st_3 rfl) ?_
                  refine rv_goto hX 4 dX4_leastStratum_98 (by decide) ?_
                  first
                    | (have e : sp_own st C it = st it.2.1 + 1 := by
                         unfold sp_own
                         rw [if_neg (by omega), if_pos]
                         first
                           | exact Or.inl c_25
                           | (right
                              intro q
                              have q' : sp_gslot C.hts 0 = none := q
                              rw [q', c_38] at hg
                              cases hg)
                       rw [e] at hsu
                       have h9 := fun x y z => ih (k + 1) x y z (by omega) (by omega)
                       first
                         | (rw [hsu, if_pos (by omega)] at h9; exact h9 _ _ _)
                         | (rw [hsu, if_neg (by omega)] at h9; exact h9 _ _ _))
                    | (have e : sp_own st C it = st it.2.1 + 0 := by
                         unfold sp_own
                         rw [if_neg (by omega), if_neg]
                         rintro (q | q)
                         · exact absurd q (by omega)
                         · apply q
                           have q' : (sp_gslot C.hts 0).isSome = false := hg.symm.trans c_38
                           cases e : C.gath with
                           | none => rfl
                           | some s =>
                             have e' : sp_gslot C.hts 0 = some s := e
                             rw [e'] at q'
                             cases q'
                       rw [e] at hsu
                       have h9 := fun x y z => ih (k + 1) x y z (by omega) (by omega)
                       first
                         | (rw [hsu, if_pos (by omega)] at h9; exact h9 _ _ _)
                         | (rw [hsu, if_neg (by omega)] at h9; exact h9 _ _ _))
                    | (have e : sp_own st C it = 0 := by
                         unfold sp_own
                         rw [if_pos (by omega)]
                       rw [e] at hsu
                       have h9 := fun x y z => ih (k + 1) x y z (by omega) (by omega)
                       first
                         | (rw [hsu, if_pos (by omega)] at h9; exact h9 _ _ _)
                         | (rw [hsu, if_neg (by omega)] at h9; exact h9 _ _ _))
                    | (exfalso; omega)
              · skip
                refine nv_iconst hX (m := 0) (by decide) dX4_leastStratum_54 ?_
                refine rv_goto hX 80 dX4_leastStratum_55 (by decide) ?_
                refine rv_istore hX dX4_leastStratum_80 (rv_st_6 rfl) ?_
                refine rv_iload hX dX4_leastStratum_82 rfl ?_
                refine rv_iload_n hX dX4_leastStratum_84 rfl ?_
                first | refine nv_icmp_le hX 93 (by omega) (by omega) dX4_leastStratum_85 (by decide) (fun c_85 => ?_) (fun c_85 => ?_) | refine rv_icmp_le hX 93 dX4_leastStratum_85 (by decide) (fun c_85 => ?_) (fun c_85 => ?_)
                · skip
                  refine rv_iload_n hX dX4_leastStratum_93 rfl ?_
                  refine rv_istore_n hX dX4_leastStratum_94 (rv_st_2 rfl) ?_
                  first | refine nv_iinc hX (m := 1) dX4_leastStratum_95 rfl (by decide) (rv_st_3 rfl) ?_ | refine rv_iinc hX dX4_leastStratum_95 rfl rfl (rv_st_3 rfl) ?_
                  refine rv_goto hX 4 dX4_leastStratum_98 (by decide) ?_
                  first
                    | (have e : sp_own st C it = st it.2.1 + 1 := by
                         unfold sp_own
                         rw [if_neg (by omega), if_pos]
                         first
                           | exact Or.inl c_25
                           | (right
                              intro q
                              have q' : sp_gslot C.hts 0 = none := q
                              rw [q', c_38] at hg
                              cases hg)
                       rw [e] at hsu
                       have h9 := fun x y z => ih (k + 1) x y z (by omega) (by omega)
                       first
                         | (rw [hsu, if_pos (by omega)] at h9; exact h9 _ _ _)
                         | (rw [hsu, if_neg (by omega)] at h9; exact h9 _ _ _))
                    | (have e : sp_own st C it = st it.2.1 + 0 := by
                         unfold sp_own
                         rw [if_neg (by omega), if_neg]
                         rintro (q | q)
                         · exact absurd q (by omega)
                         · apply q
                           have q' : (sp_gslot C.hts 0).isSome = false := hg.symm.trans c_38
                           cases e : C.gath with
                           | none => rfl
                           | some s =>
                             have e' : sp_gslot C.hts 0 = some s := e
                             rw [e'] at q'
                             cases q'
                       rw [e] at hsu
                       have h9 := fun x y z => ih (k + 1) x y z (by omega) (by omega)
                       first
                         | (rw [hsu, if_pos (by omega)] at h9; exact h9 _ _ _)
                         | (rw [hsu, if_neg (by omega)] at h9; exact h9 _ _ _))
                    | (have e : sp_own st C it = 0 := by
                         unfold sp_own
                         rw [if_pos (by omega)]
                       rw [e] at hsu
                       have h9 := fun x y z => ih (k + 1) x y z (by omega) (by omega)
                       first
                         | (rw [hsu, if_pos (by omega)] at h9; exact h9 _ _ _)
                         | (rw [hsu, if_neg (by omega)] at h9; exact h9 _ _ _))
                    | (exfalso; omega)
                · skip
                  refine rv_iload hX dX4_leastStratum_88 rfl ?_
                  refine rv_goto hX 94 dX4_leastStratum_90 (by decide) ?_
                  refine rv_istore_n hX dX4_leastStratum_94 (rv_st_2 rfl) ?_
                  first | refine nv_iinc hX (m := 1) dX4_leastStratum_95 rfl (by decide) (rv_st_3 rfl) ?_ | refine rv_iinc hX dX4_leastStratum_95 rfl rfl (rv_st_3 rfl) ?_
                  refine rv_goto hX 4 dX4_leastStratum_98 (by decide) ?_
                  first
                    | (have e : sp_own st C it = st it.2.1 + 1 := by
                         unfold sp_own
                         rw [if_neg (by omega), if_pos]
                         first
                           | exact Or.inl c_25
                           | (right
                              intro q
                              have q' : sp_gslot C.hts 0 = none := q
                              rw [q', c_38] at hg
                              cases hg)
                       rw [e] at hsu
                       have h9 := fun x y z => ih (k + 1) x y z (by omega) (by omega)
                       first
                         | (rw [hsu, if_pos (by omega)] at h9; exact h9 _ _ _)
                         | (rw [hsu, if_neg (by omega)] at h9; exact h9 _ _ _))
                    | (have e : sp_own st C it = st it.2.1 + 0 := by
                         unfold sp_own
                         rw [if_neg (by omega), if_neg]
                         rintro (q | q)
                         · exact absurd q (by omega)
                         · apply q
                           have q' : (sp_gslot C.hts 0).isSome = false := hg.symm.trans c_38
                           cases e : C.gath with
                           | none => rfl
                           | some s =>
                             have e' : sp_gslot C.hts 0 = some s := e
                             rw [e'] at q'
                             cases q'
                       rw [e] at hsu
                       have h9 := fun x y z => ih (k + 1) x y z (by omega) (by omega)
                       first
                         | (rw [hsu, if_pos (by omega)] at h9; exact h9 _ _ _)
                         | (rw [hsu, if_neg (by omega)] at h9; exact h9 _ _ _))
                    | (have e : sp_own st C it = 0 := by
                         unfold sp_own
                         rw [if_pos (by omega)]
                       rw [e] at hsu
                       have h9 := fun x y z => ih (k + 1) x y z (by omega) (by omega)
                       first
                         | (rw [hsu, if_pos (by omega)] at h9; exact h9 _ _ _)
                         | (rw [hsu, if_neg (by omega)] at h9; exact h9 _ _ _))
                    | (exfalso; omega)
            · skip
              refine nv_iconst hX (m := 1) (by decide) dX4_leastStratum_41 ?_
              refine rv_goto hX 46 dX4_leastStratum_42 (by decide) ?_
              refine rv_istore hX dX4_leastStratum_46 (rv_st_5 rfl) ?_
              refine rv_iload hX dX4_leastStratum_48 rfl ?_
              refine nv_iconst hX (m := 1) (by decide) dX4_leastStratum_50 ?_
              first | refine nv_icmp_le hX 58 (by omega) (by omega) dX4_leastStratum_51 (by decide) (fun c_51 => ?_) (fun c_51 => ?_) | refine rv_icmp_le hX 58 dX4_leastStratum_51 (by decide) (fun c_51 => ?_) (fun c_51 => ?_)
              · skip
                refine rv_aload_n hX dX4_leastStratum_58 rfl ?_
                refine mv_ga hX (k := 25) (j := 22) gX4_73_X4 (by decide) rfl (by decide) dX4_leastStratum_59 ?_
                refine rv_aload_n hX dX4_leastStratum_62 rfl ?_
                refine rv_iload_n hX dX4_leastStratum_63 rfl ?_
                refine rv_iload_n hX dX4_leastStratum_64 rfl ?_
                refine mv_calli hX iX4_152 rfl mdX4_whatOf (m_whatOf hG (d := d - 1) (by omega)) (by omega) rfl rfl (Nat.le_of_ble_eq_true rfl) dX4_leastStratum_65 (fun r_65 τ_65 h_65 => ?_)
                obtain ⟨rfl, rfl⟩ := h_65
                rw [hI.2.1]
                have hw9 := hw8 (by omega)
                refine mv_ld hX (j := 22) (by decide) (by decide) rfl (by decide) (show _ < 8 by omega) dX4_leastStratum_68 ?_
                rw [hst.1 _ hw9]
                refine rv_iload hX dX4_leastStratum_69 rfl ?_
                refine rv_if_eq hX 78 dX4_leastStratum_71 (by decide) (fun q => absurd q (by decide)) (fun _ => ?_)
                refine nv_iconst hX (m := 1) (by decide) dX4_leastStratum_74 ?_
                refine rv_goto hX 79 dX4_leastStratum_75 (by decide) ?_
                first | refine nv_iadd hX dX4_leastStratum_79 ?_ | refine rv_iadd hX dX4_leastStratum_79 ?_
                refine rv_istore hX dX4_leastStratum_80 (rv_st_6 rfl) ?_
                refine rv_iload hX dX4_leastStratum_82 rfl ?_
                refine rv_iload_n hX dX4_leastStratum_84 rfl ?_
                first | refine nv_icmp_le hX 93 (by omega) (by omega) dX4_leastStratum_85 (by decide) (fun c_85 => ?_) (fun c_85 => ?_) | refine rv_icmp_le hX 93 dX4_leastStratum_85 (by decide) (fun c_85 => ?_) (fun c_85 => ?_)
                · skip
                  refine rv_iload_n hX dX4_leastStratum_93 rfl ?_
                  refine rv_istore_n hX dX4_leastStratum_94 (rv_st_2 rfl) ?_
                  first | refine nv_iinc hX (m := 1) dX4_leastStratum_95 rfl (by decide) (rv_st_3 rfl) ?_ | refine rv_iinc hX dX4_leastStratum_95 rfl rfl (rv_st_3 rfl) ?_
                  refine rv_goto hX 4 dX4_leastStratum_98 (by decide) ?_
                  first
                    | (have e : sp_own st C it = st it.2.1 + 1 := by
                         unfold sp_own
                         rw [if_neg (by omega), if_pos]
                         first
                           | exact Or.inl c_25
                           | (right
                              intro q
                              have q' : sp_gslot C.hts 0 = none := q
                              rw [q', c_38] at hg
                              cases hg)
                       rw [e] at hsu
                       have h9 := fun x y z => ih (k + 1) x y z (by omega) (by omega)
                       first
                         | (rw [hsu, if_pos (by omega)] at h9; exact h9 _ _ _)
                         | (rw [hsu, if_neg (by omega)] at h9; exact h9 _ _ _))
                    | (have e : sp_own st C it = st it.2.1 + 0 := by
                         unfold sp_own
                         rw [if_neg (by omega), if_neg]
                         rintro (q | q)
                         · exact absurd q (by omega)
                         · apply q
                           have q' : (sp_gslot C.hts 0).isSome = false := hg.symm.trans c_38
                           cases e : C.gath with
                           | none => rfl
                           | some s =>
                             have e' : sp_gslot C.hts 0 = some s := e
                             rw [e'] at q'
                             cases q'
                       rw [e] at hsu
                       have h9 := fun x y z => ih (k + 1) x y z (by omega) (by omega)
                       first
                         | (rw [hsu, if_pos (by omega)] at h9; exact h9 _ _ _)
                         | (rw [hsu, if_neg (by omega)] at h9; exact h9 _ _ _))
                    | (have e : sp_own st C it = 0 := by
                         unfold sp_own
                         rw [if_pos (by omega)]
                       rw [e] at hsu
                       have h9 := fun x y z => ih (k + 1) x y z (by omega) (by omega)
                       first
                         | (rw [hsu, if_pos (by omega)] at h9; exact h9 _ _ _)
                         | (rw [hsu, if_neg (by omega)] at h9; exact h9 _ _ _))
                    | (exfalso; omega)
                · skip
                  refine rv_iload hX dX4_leastStratum_88 rfl ?_
                  refine rv_goto hX 94 dX4_leastStratum_90 (by decide) ?_
                  refine rv_istore_n hX dX4_leastStratum_94 (rv_st_2 rfl) ?_
                  first | refine nv_iinc hX (m := 1) dX4_leastStratum_95 rfl (by decide) (rv_st_3 rfl) ?_ | refine rv_iinc hX dX4_leastStratum_95 rfl rfl (rv_st_3 rfl) ?_
                  refine rv_goto hX 4 dX4_leastStratum_98 (by decide) ?_
                  first
                    | (have e : sp_own st C it = st it.2.1 + 1 := by
                         unfold sp_own
                         rw [if_neg (by omega), if_pos]
                         first
                           | exact Or.inl c_25
                           | (right
                              intro q
                              have q' : sp_gslot C.hts 0 = none := q
                              rw [q', c_38] at hg
                              cases hg)
                       rw [e] at hsu
                       have h9 := fun x y z => ih (k + 1) x y z (by omega) (by omega)
                       first
                         | (rw [hsu, if_pos (by omega)] at h9; exact h9 _ _ _)
                         | (rw [hsu, if_neg (by omega)] at h9; exact h9 _ _ _))
                    | (have e : sp_own st C it = st it.2.1 + 0 := by
                         unfold sp_own
                         rw [if_neg (by omega), if_neg]
                         rintro (q | q)
                         · exact absurd q (by omega)
                         · apply q
                           have q' : (sp_gslot C.hts 0).isSome = false := hg.symm.trans c_38
                           cases e : C.gath with
                           | none => rfl
                           | some s =>
                             have e' : sp_gslot C.hts 0 = some s := e
                             rw [e'] at q'
                             cases q'
                       rw [e] at hsu
                       have h9 := fun x y z => ih (k + 1) x y z (by omega) (by omega)
                       first
                         | (rw [hsu, if_pos (by omega)] at h9; exact h9 _ _ _)
                         | (rw [hsu, if_neg (by omega)] at h9; exact h9 _ _ _))
                    | (have e : sp_own st C it = 0 := by
                         unfold sp_own
                         rw [if_pos (by omega)]
                       rw [e] at hsu
                       have h9 := fun x y z => ih (k + 1) x y z (by omega) (by omega)
                       first
                         | (rw [hsu, if_pos (by omega)] at h9; exact h9 _ _ _)
                         | (rw [hsu, if_neg (by omega)] at h9; exact h9 _ _ _))
                    | (exfalso; omega)
              · skip
                refine nv_iconst hX (m := 0) (by decide) dX4_leastStratum_54 ?_
                refine rv_goto hX 80 dX4_leastStratum_55 (by decide) ?_
                refine rv_istore hX dX4_leastStratum_80 (rv_st_6 rfl) ?_
                refine rv_iload hX dX4_leastStratum_82 rfl ?_
                refine rv_iload_n hX dX4_leastStratum_84 rfl ?_
                first | refine nv_icmp_le hX 93 (by omega) (by omega) dX4_leastStratum_85 (by decide) (fun c_85 => ?_) (fun c_85 => ?_) | refine rv_icmp_le hX 93 dX4_leastStratum_85 (by decide) (fun c_85 => ?_) (fun c_85 => ?_)
                · skip
                  refine rv_iload_n hX dX4_leastStratum_93 rfl ?_
                  refine rv_istore_n hX dX4_leastStratum_94 (rv_st_2 rfl) ?_
                  first | refine nv_iinc hX (m := 1) dX4_leastStratum_95 rfl (by decide) (rv_st_3 rfl) ?_ | refine rv_iinc hX dX4_leastStratum_95 rfl rfl (rv_st_3 rfl) ?_
                  refine rv_goto hX 4 dX4_leastStratum_98 (by decide) ?_
                  first
                    | (have e : sp_own st C it = st it.2.1 + 1 := by
                         unfold sp_own
                         rw [if_neg (by omega), if_pos]
                         first
                           | exact Or.inl c_25
                           | (right
                              intro q
                              have q' : sp_gslot C.hts 0 = none := q
                              rw [q', c_38] at hg
                              cases hg)
                       rw [e] at hsu
                       have h9 := fun x y z => ih (k + 1) x y z (by omega) (by omega)
                       first
                         | (rw [hsu, if_pos (by omega)] at h9; exact h9 _ _ _)
                         | (rw [hsu, if_neg (by omega)] at h9; exact h9 _ _ _))
                    | (have e : sp_own st C it = st it.2.1 + 0 := by
                         unfold sp_own
                         rw [if_neg (by omega), if_neg]
                         rintro (q | q)
                         · exact absurd q (by omega)
                         · apply q
                           have q' : (sp_gslot C.hts 0).isSome = false := hg.symm.trans c_38
                           cases e : C.gath with
                           | none => rfl
                           | some s =>
                             have e' : sp_gslot C.hts 0 = some s := e
                             rw [e'] at q'
                             cases q'
                       rw [e] at hsu
                       have h9 := fun x y z => ih (k + 1) x y z (by omega) (by omega)
                       first
                         | (rw [hsu, if_pos (by omega)] at h9; exact h9 _ _ _)
                         | (rw [hsu, if_neg (by omega)] at h9; exact h9 _ _ _))
                    | (have e : sp_own st C it = 0 := by
                         unfold sp_own
                         rw [if_pos (by omega)]
                       rw [e] at hsu
                       have h9 := fun x y z => ih (k + 1) x y z (by omega) (by omega)
                       first
                         | (rw [hsu, if_pos (by omega)] at h9; exact h9 _ _ _)
                         | (rw [hsu, if_neg (by omega)] at h9; exact h9 _ _ _))
                    | (exfalso; omega)
                · skip
                  refine rv_iload hX dX4_leastStratum_88 rfl ?_
                  refine rv_goto hX 94 dX4_leastStratum_90 (by decide) ?_
                  refine rv_istore_n hX dX4_leastStratum_94 (rv_st_2 rfl) ?_
                  first | refine nv_iinc hX (m := 1) dX4_leastStratum_95 rfl (by decide) (rv_st_3 rfl) ?_ | refine rv_iinc hX dX4_leastStratum_95 rfl rfl (rv_st_3 rfl) ?_
                  refine rv_goto hX 4 dX4_leastStratum_98 (by decide) ?_
                  first
                    | (have e : sp_own st C it = st it.2.1 + 1 := by
                         unfold sp_own
                         rw [if_neg (by omega), if_pos]
                         first
                           | exact Or.inl c_25
                           | (right
                              intro q
                              have q' : sp_gslot C.hts 0 = none := q
                              rw [q', c_38] at hg
                              cases hg)
                       rw [e] at hsu
                       have h9 := fun x y z => ih (k + 1) x y z (by omega) (by omega)
                       first
                         | (rw [hsu, if_pos (by omega)] at h9; exact h9 _ _ _)
                         | (rw [hsu, if_neg (by omega)] at h9; exact h9 _ _ _))
                    | (have e : sp_own st C it = st it.2.1 + 0 := by
                         unfold sp_own
                         rw [if_neg (by omega), if_neg]
                         rintro (q | q)
                         · exact absurd q (by omega)
                         · apply q
                           have q' : (sp_gslot C.hts 0).isSome = false := hg.symm.trans c_38
                           cases e : C.gath with
                           | none => rfl
                           | some s =>
                             have e' : sp_gslot C.hts 0 = some s := e
                             rw [e'] at q'
                             cases q'
                       rw [e] at hsu
                       have h9 := fun x y z => ih (k + 1) x y z (by omega) (by omega)
                       first
                         | (rw [hsu, if_pos (by omega)] at h9; exact h9 _ _ _)
                         | (rw [hsu, if_neg (by omega)] at h9; exact h9 _ _ _))
                    | (have e : sp_own st C it = 0 := by
                         unfold sp_own
                         rw [if_pos (by omega)]
                       rw [e] at hsu
                       have h9 := fun x y z => ih (k + 1) x y z (by omega) (by omega)
                       first
                         | (rw [hsu, if_pos (by omega)] at h9; exact h9 _ _ _)
                         | (rw [hsu, if_neg (by omega)] at h9; exact h9 _ _ _))
                    | (exfalso; omega)
  refine nv_iconst hX (m := 0) (by decide) dX4_leastStratum_0 ?_
  refine rv_istore_n hX dX4_leastStratum_1 (rv_st_2 rfl) ?_
  refine nv_iconst hX (m := 0) (by decide) dX4_leastStratum_2 ?_
  refine rv_istore_n hX dX4_leastStratum_3 (rv_st_3 rfl) ?_
  exact loop _ 0 none none none (Nat.zero_le _) (Nat.lt_succ_self _)
/-- a round over rules: the strata and whether something changed; none if there are none -/
def sp_put (st : Nat → Nat) (r v : Nat) : Nat → Nat := fun i => if i = r then v else st i
def sp_srnd : List sp_C → (Nat → Nat) → Bool → Option ((Nat → Nat) × Bool)
  | [], st, ch => some (st, ch)
  | C :: cs, st, ch => if 8 ≤ sp_lst st C then none else if st C.rel < sp_lst st C then sp_srnd cs (sp_put st C.rel (sp_lst st C)) true else sp_srnd cs st ch
def sp_strt : Nat → List sp_C → (Nat → Nat) → Option (Nat → Nat)
  | 0, _, _ => none
  | n + 1, cs, st => match sp_srnd cs st false with
    | none => none
    | some (st', ch) => if ch = true then sp_strt n cs st' else some st'
def sp_s8 (st : Nat → Nat) : Nat := st 0 + st 1 + st 2 + st 3 + st 4 + st 5 + st 6 + st 7
theorem sp_s8_put {st : Nat → Nat} {r v : Nat} (hr : r < 8) (h : st r < v) : sp_s8 st < sp_s8 (sp_put st r v) := by
  have : r = 0 ∨ r = 1 ∨ r = 2 ∨ r = 3 ∨ r = 4 ∨ r = 5 ∨ r = 6 ∨ r = 7 := by omega
  unfold sp_s8 sp_put
  rcases this with rfl | rfl | rfl | rfl | rfl | rfl | rfl | rfl <;> simp <;> omega
def sp_strata (cs : List sp_C) : Option (Nat → Nat) := sp_strt 57 cs (fun _ => 0)
/-- the rules -/
def mRules (σ : rv_S) (S : List Nat) (R : List sp_C) : Prop := mRel σ S ∧ σ.2.1 1 1 = nI R.length ∧ R.length ≤ 10 ∧ ∀ (i : Nat) (C : sp_C), R[i]? = some C → mBody σ i C ∧ sp_wfC S C
theorem mRules.same {fs js : List Nat} {σ τ : rv_S} {S : List Nat} {R : List sp_C} (h : mRules σ S R) (hs : rv_same fs js σ τ) (h1 : ∀ j, j ∈ [1, 2, 3, 4, 5, 6, 7, 8, 9, 10, 11, 12] → j ∉ js) : mRules τ S R := ⟨h.1.same hs (h1 1 (by decide)) (h1 2 (by decide)), by rw [hs.2.1 1 (h1 1 (by decide))]; exact h.2.1, h.2.2.1, fun i C e => ⟨(h.2.2.2 i C e).1.same hs (fun j hj => h1 j (by revert j; decide)), (h.2.2.2 i C e).2⟩⟩
theorem m_findStrata {G : rv_G} (hG : rv_GK G) {d : Nat} (hd : 2 ≤ d) {σ : rv_S} {S : List Nat} {R : List sp_C} (hR : mRules σ S R) : mC G d yX4_findStrata wX4_findStrata [] σ (mPz (fun r τ => rv_same [] [22] σ τ ∧ (∀ st, sp_strata R = some st → r = true ∧ mStr τ st) ∧ (sp_strata R = none → r = false) ∧ ∃ st, mStr τ st)) := by
  refine mv_start hG (by decide +kernel) (Nat.le_of_ble_eq_true rfl) (fun X Hb o hX1 hX hE => ?_)
  subst hX1
  show rv_V X (rv_mh Hb o _) 0 [some (.ref o), none, none, none] []
  have hR10 := hR.2.2.1
  have rnd : ∀ (m j : Nat) (st : Nat → Nat) (ch : Bool) (τ : rv_S) (x : Option Value) (Q : Option ((Nat → Nat) × Bool)), j ≤ R.length → R.length - j < m → rv_same [] [22] σ τ → mStr τ st → Q = sp_srnd (R.drop j) st ch → (Q = none → sp_strata R = none) → (∀ (st' : Nat → Nat) (ch' : Bool) (τ' : rv_S) (x' y' : Option Value), Q = some (st', ch') → rv_same [] [22] σ τ' → mStr τ' st' → rv_V X (rv_mh Hb o τ') 23 [some (.ref o), some (.int (rv_z ch')), x', y'] []) → rv_V X (rv_mh Hb o τ) 31 [some (.ref o), some (.int (rv_z ch)), some (.int (nI j)), x] [] := by
    intro m
    induction m with
    | zero => intro j st ch τ x Q h1 h2; omega
    | succ m ih =>
      intro j st ch τ x Q h1 h2 h3 h4 h5 h6 h7
      have hR2 := hR.same h3 (by decide)
      refine rv_iload_n hX dX4_findStrata_31 rfl ?_
      refine rv_aload_n hX dX4_findStrata_32 rfl ?_
      refine mv_ga hX (k := 1) (j := 1) gX4_7_X4 (by decide) rfl (by decide) dX4_findStrata_33 ?_
      refine nv_iconst hX (m := 1) (by decide) dX4_findStrata_36 ?_
      refine mv_ld hX (j := 1) (by decide) (by decide) rfl (by decide) (show _ < 11 by omega) dX4_findStrata_37 ?_
      rw [hR2.2.1]
      first | refine nv_icmp_ge hX 90 (by omega) (by omega) dX4_findStrata_38 (by decide) (fun c_38 => ?_) (fun c_38 => ?_) | refine rv_icmp_ge hX 90 dX4_findStrata_38 (by decide) (fun c_38 => ?_) (fun c_38 => ?_)
      · skip
        refine rv_goto hX 23 dX4_findStrata_90 (by decide) ?_
        have hj : j = R.length := by omega
        rw [hj, List.drop_length] at h5
        exact h7 st ch τ _ _ h5 h3 h4
      · skip
        obtain ⟨C, hC⟩ : ∃ C, R[j]? = some C := ⟨R[j], List.getElem?_eq_getElem (by omega)⟩
        obtain ⟨hB, hw⟩ := hR2.2.2.2 j C hC
        have hrel := (hB.mHd hR2.1 hw (by omega)).bds.1
        have hst9 := h4.2 C.rel
        have hl8 := sp_lstk_le (C := C) h4.2 C.its.length
        have hl9 : sp_lst st C = sp_lstk st C C.its.length := by unfold sp_lst sp_lstk; rw [List.take_length]
        rw [← hl9] at hl8
        rw [sp_drop_get hC] at h5
        have h5' : Q = if 8 ≤ sp_lst st C then none else if st C.rel < sp_lst st C then sp_srnd (R.drop (j + 1)) (sp_put st C.rel (sp_lst st C)) true else sp_srnd (R.drop (j + 1)) st ch := h5
        refine rv_aload_n hX dX4_findStrata_41 rfl ?_
        refine rv_iload_n hX dX4_findStrata_42 rfl ?_
        refine mv_calli hX iX4_233 rfl mdX4_leastStratum (m_leastStratum hG (d := d - 1) (by omega) hR2.1 hB hw (by omega) h4) (by omega) rfl rfl (Nat.le_of_ble_eq_true rfl) dX4_findStrata_43 (fun r_43 τ_43 h_43 => ?_)
        obtain ⟨rfl, rfl⟩ := h_43
        refine rv_istore_n hX dX4_findStrata_46 (rv_st_3 rfl) ?_
        refine rv_iload_n hX dX4_findStrata_47 rfl ?_
        refine nv_bipush hX (m := 8) (by decide) dX4_findStrata_48 ?_
        first | refine nv_icmp_lt hX 55 (by omega) (by omega) dX4_findStrata_50 (by decide) (fun c_50 => ?_) (fun c_50 => ?_) | refine rv_icmp_lt hX 55 dX4_findStrata_50 (by decide) (fun c_50 => ?_) (fun c_50 => ?_)
        · skip
          refine rv_aload_n hX dX4_findStrata_55 rfl ?_
          refine mv_ga hX (k := 25) (j := 22) gX4_73_X4 (by decide) rfl (by decide) dX4_findStrata_56 ?_
          refine rv_aload_n hX dX4_findStrata_59 rfl ?_
          refine mv_ga hX (k := 4) (j := 4) gX4_19_X4 (by decide) rfl (by decide) dX4_findStrata_60 ?_
          refine rv_iload_n hX dX4_findStrata_63 rfl ?_
          refine mv_ld hX (j := 4) (by decide) (by decide) rfl (by decide) (show _ < 17 by omega) dX4_findStrata_64 ?_
          rw [hB.rel]
          refine mv_ld hX (j := 22) (by decide) (by decide) rfl (by decide) (show _ < 8 by omega) dX4_findStrata_65 ?_
          rw [h4.1 _ hrel]
          refine rv_iload_n hX dX4_findStrata_66 rfl ?_
          first | refine nv_icmp_ge hX 84 (by omega) (by omega) dX4_findStrata_67 (by decide) (fun c_67 => ?_) (fun c_67 => ?_) | refine rv_icmp_ge hX 84 dX4_findStrata_67 (by decide) (fun c_67 => ?_) (fun c_67 => ?_)
          · skip
            first | refine nv_iinc hX (m := 1) dX4_findStrata_84 rfl (by decide) (rv_st_2 rfl) ?_ | refine rv_iinc hX dX4_findStrata_84 rfl rfl (rv_st_2 rfl) ?_
            refine rv_goto hX 31 dX4_findStrata_87 (by decide) ?_
            rw [if_neg (by omega)] at h5'
            first
              | (rw [if_neg (by omega)] at h5'
                 exact ih (j + 1) st ch _ _ Q (by omega) (by omega) h3 h4 h5' h6 h7)
              | (rw [if_pos (by omega)] at h5'
                 refine ih (j + 1) (sp_put st C.rel (sp_lst st C)) true _ _ Q (by omega) (by omega) (h3.tr (.u (by decide))) ⟨fun i hi => ?_, fun i => ?_⟩ h5' h6 h7
                 · rw [rv_sU_2]
                   unfold sp_put
                   by_cases q : i = C.rel
                   · rw [if_pos ⟨rfl, q⟩, if_pos q]
                   · rw [if_neg (by omega), if_neg q]
                     exact h4.1 i hi
                 · unfold sp_put
                   split
                   · omega
                   · exact h4.2 i)
          · skip
            refine rv_aload_n hX dX4_findStrata_70 rfl ?_
            refine mv_ga hX (k := 25) (j := 22) gX4_73_X4 (by decide) rfl (by decide) dX4_findStrata_71 ?_
            refine rv_aload_n hX dX4_findStrata_74 rfl ?_
            refine mv_ga hX (k := 4) (j := 4) gX4_19_X4 (by decide) rfl (by decide) dX4_findStrata_75 ?_
            refine rv_iload_n hX dX4_findStrata_78 rfl ?_
            refine mv_ld hX (j := 4) (by decide) (by decide) rfl (by decide) (show _ < 17 by omega) dX4_findStrata_79 ?_
            rw [hB.rel]
            refine rv_iload_n hX dX4_findStrata_80 rfl ?_
            refine mv_st hX (j := 22) (by decide) (by decide) rfl (by decide) (show _ < 8 by omega) dX4_findStrata_81 ?_
            refine nv_iconst hX (m := 1) (by decide) dX4_findStrata_82 ?_
            refine rv_istore_n hX dX4_findStrata_83 (rv_st_1 rfl) ?_
            first | refine nv_iinc hX (m := 1) dX4_findStrata_84 rfl (by decide) (rv_st_2 rfl) ?_ | refine rv_iinc hX dX4_findStrata_84 rfl rfl (rv_st_2 rfl) ?_
            refine rv_goto hX 31 dX4_findStrata_87 (by decide) ?_
            rw [if_neg (by omega)] at h5'
            first
              | (rw [if_neg (by omega)] at h5'
                 exact ih (j + 1) st ch _ _ Q (by omega) (by omega) h3 h4 h5' h6 h7)
              | (rw [if_pos (by omega)] at h5'
                 refine ih (j + 1) (sp_put st C.rel (sp_lst st C)) true _ _ Q (by omega) (by omega) (h3.tr (.u (by decide))) ⟨fun i hi => ?_, fun i => ?_⟩ h5' h6 h7
                 · rw [rv_sU_2]
                   unfold sp_put
                   by_cases q : i = C.rel
                   · rw [if_pos ⟨rfl, q⟩, if_pos q]
                   · rw [if_neg (by omega), if_neg q]
                     exact h4.1 i hi
                 · unfold sp_put
                   split
                   · omega
                   · exact h4.2 i)
        · skip
          refine nv_iconst hX (m := 0) (by decide) dX4_findStrata_53 ?_
          refine mv_retz hX hE (b := false) rfl dX4_findStrata_54 ?_
          rw [if_pos c_50] at h5'
          have hn := h6 h5'
          exact ⟨h3, fun st e => (by rw [hn] at e; cases e), fun _ => rfl, st, h4⟩
  have mono : ∀ (cs : List sp_C) (st st' : Nat → Nat) (ch ch' : Bool), (∀ C, C ∈ cs → C.rel < 8) → sp_srnd cs st ch = some (st', ch') → sp_s8 st ≤ sp_s8 st' ∧ (ch = false → ch' = true → sp_s8 st < sp_s8 st') := by
    intro cs
    induction cs with
    | nil =>
      intro st st' ch ch' _ h
      cases h
      exact ⟨Nat.le_refl _, fun e1 e2 => by rw [e1] at e2; cases e2⟩
    | cons C cs ih =>
      intro st st' ch ch' hc h
      have h' : (if 8 ≤ sp_lst st C then none else if st C.rel < sp_lst st C then sp_srnd cs (sp_put st C.rel (sp_lst st C)) true else sp_srnd cs st ch) = some (st', ch') := h
      split at h'
      · cases h'
      · split at h'
        · rename_i q
          have := sp_s8_put (hc C List.mem_cons_self) q
          have := (ih _ _ _ _ (fun D hD => hc D (List.mem_cons_of_mem _ hD)) h').1
          exact ⟨by omega, fun _ _ => by omega⟩
        · exact ih _ _ _ _ (fun D hD => hc D (List.mem_cons_of_mem _ hD)) h'
  have hrel : ∀ C, C ∈ R → C.rel < 8 := fun C hC => by
    obtain ⟨i, hi⟩ := List.getElem?_of_mem hC
    obtain ⟨hB, hw⟩ := hR.2.2.2 i C hi
    have := (List.getElem?_eq_some_iff.mp hi).1
    exact (hB.mHd hR.1 hw (by omega)).bds.1
  have s56 : ∀ st : Nat → Nat, (∀ i, st i < 8) → sp_s8 st ≤ 56 := fun st h => by
    have := h 0; have := h 1; have := h 2; have := h 3; have := h 4; have := h 5; have := h 6; have := h 7
    unfold sp_s8
    omega
  have loop : ∀ (n : Nat) (st : Nat → Nat) (τ : rv_S) (x y : Option Value), 56 < n + sp_s8 st → rv_same [] [22] σ τ → mStr τ st → sp_strata R = sp_strt n R st → rv_V X (rv_mh Hb o τ) 23 [some (.ref o), some (.int (rv_z true)), x, y] [] := by
    intro n
    induction n with
    | zero => intro st τ x y h1 h2 h3; exact absurd (s56 st h3.2) (by omega)
    | succ n ih =>
      intro st τ x y h1 h2 h3 h4
      have h4' : sp_strata R = match sp_srnd R st false with
        | none => none
        | some (st', ch) => if ch = true then sp_strt n R st' else some st' := h4
      refine rv_iload_n hX dX4_findStrata_23 rfl ?_
      first | refine zv_if_eq hX 93 dX4_findStrata_24 (by decide) (fun c_24 => ?_) (fun c_24 => ?_) | refine nv_if_eq hX 93 (by omega) dX4_findStrata_24 (by decide) (fun c_24 => ?_) (fun c_24 => ?_) | refine rv_if_eq hX 93 dX4_findStrata_24 (by decide) (fun c_24 => ?_) (fun c_24 => ?_)
      · skip
        cases c_24
        --done
      · skip
        refine nv_iconst hX (m := 0) (by decide) dX4_findStrata_27 ?_
        refine rv_istore_n hX dX4_findStrata_28 (rv_st_1 rfl) ?_
        refine nv_iconst hX (m := 0) (by decide) dX4_findStrata_29 ?_
        refine rv_istore_n hX dX4_findStrata_30 (rv_st_2 rfl) ?_
        refine rnd _ 0 st false τ y (sp_srnd R st false) (Nat.zero_le _) (Nat.lt_succ_self _) h2 h3 rfl (fun e => by rw [h4', e]) (fun st' ch' τ' x' y' e1 e2 e3 => ?_)
        rw [e1] at h4'
        have h5 : sp_strata R = if ch' = true then sp_strt n R st' else some st' := h4'
        obtain ⟨m1, m2⟩ := mono R st st' false ch' hrel e1
        cases ch' with
        | true =>
          rw [if_pos rfl] at h5
          have := m2 rfl rfl
          exact ih st' τ' x' y' (by omega) e2 e3 h5
        | false =>
          rw [if_neg (by decide)] at h5
          refine rv_iload_n hX dX4_findStrata_23 rfl ?_
          first | refine zv_if_eq hX 93 dX4_findStrata_24 (by decide) (fun c_24 => ?_) (fun c_24 => ?_) | refine nv_if_eq hX 93 (by omega) dX4_findStrata_24 (by decide) (fun c_24 => ?_) (fun c_24 => ?_) | refine rv_if_eq hX 93 dX4_findStrata_24 (by decide) (fun c_24 => ?_) (fun c_24 => ?_)
          · skip
            refine nv_iconst hX (m := 1) (by decide) dX4_findStrata_93 ?_
            refine mv_retz hX hE (b := true) rfl dX4_findStrata_94 ?_
            exact ⟨e2, fun st2 e => (by rw [h5] at e; cases e; exact ⟨rfl, e3⟩), fun e => (by rw [h5] at e; cases e), st', e3⟩
          · skip
            cases c_24
            --done
  have zero : ∀ (n j : Nat) (τ : rv_S), j ≤ 8 → 8 - j < n → rv_same [] [22] σ τ → (∀ i, i < j → τ.2.1 22 i = nI 0) → rv_V X (rv_mh Hb o τ) 2 [some (.ref o), some (.int (nI j)), none, none] [] := by
    intro n
    induction n with
    | zero => intro j τ h1 h2; omega
    | succ n ih =>
      intro j τ h1 h2 h3 h4
      refine rv_iload_n hX dX4_findStrata_2 rfl ?_
      refine nv_bipush hX (m := 8) (by decide) dX4_findStrata_3 ?_
      first | refine nv_icmp_ge hX 21 (by omega) (by omega) dX4_findStrata_5 (by decide) (fun c_5 => ?_) (fun c_5 => ?_) | refine rv_icmp_ge hX 21 dX4_findStrata_5 (by decide) (fun c_5 => ?_) (fun c_5 => ?_)
      · skip
        refine nv_iconst hX (m := 1) (by decide) dX4_findStrata_21 ?_
        refine rv_istore_n hX dX4_findStrata_22 (rv_st_1 rfl) ?_
        exact loop 57 (fun _ => 0) τ none none (by unfold sp_s8; omega) h3 ⟨fun i hi => h4 i (by omega), fun _ => Nat.lt_of_lt_of_le Nat.zero_lt_one (by decide)⟩ rfl
      · skip
        refine rv_aload_n hX dX4_findStrata_8 rfl ?_
        refine mv_ga hX (k := 25) (j := 22) gX4_73_X4 (by decide) rfl (by decide) dX4_findStrata_9 ?_
        refine rv_iload_n hX dX4_findStrata_12 rfl ?_
        refine nv_iconst hX (m := 0) (by decide) dX4_findStrata_13 ?_
        refine mv_st hX (j := 22) (by decide) (by decide) rfl (by decide) (show _ < 8 by omega) dX4_findStrata_14 ?_
        first | refine nv_iinc hX (m := 1) dX4_findStrata_15 rfl (by decide) (rv_st_1 rfl) ?_ | refine rv_iinc hX dX4_findStrata_15 rfl rfl (rv_st_1 rfl) ?_
        refine rv_goto hX 2 dX4_findStrata_18 (by decide) ?_
        refine ih (j + 1) _ (by omega) (by omega) (h3.tr (.u (by decide))) (fun i hi => ?_)
        rw [rv_sU_2]
        by_cases q : i = j
        · rw [if_pos ⟨rfl, q⟩]
        · rw [if_neg (by omega)]
          exact h4 i (by omega)
  refine nv_iconst hX (m := 0) (by decide) dX4_findStrata_0 ?_
  refine rv_istore_n hX dX4_findStrata_1 (rv_st_1 rfl) ?_
  exact zero 9 0 σ (by omega) (by omega) .rf (fun i hi => absurd hi (by omega))
