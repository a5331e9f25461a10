/-! THE REFERENCE: heads of rules -/
set_option maxRecDepth 100000
theorem m_isGathering {G : rv_G} (hG : rv_GK G) {d : Nat} {σ : rv_S} {S : List Nat} {b rel : Nat} {hts : List Nat} (hh : mHd σ S b rel hts) : mC G d yX4_isGathering wX4_isGathering [.int (nI b)] σ (mPz (fun r τ => τ = σ ∧ r = (sp_gslot hts 0).isSome)) := by
  refine mv_start hG (by decide +kernel) (Nat.le_of_ble_eq_true rfl) (fun X Hb o hX1 hX hE => ?_)
  subst hX1
  show rv_V X (rv_mh Hb o _) 0 [some (.ref o), some (.int (nI b)), none, none] []
  obtain ⟨b1, b2, b3, b4⟩ := hh.bds
  obtain ⟨h1, h2, h3, h4, h5, h6⟩ := hh
  have loop : ∀ (n s : Nat) (r : Bool), s ≤ hts.length → hts.length - s < n → (r = true → (sp_gslot hts 0).isSome = true) → (r = false → sp_gslot hts 0 = sp_gslot (hts.drop s) s) → rv_V X (rv_mh Hb o σ) 4 [some (.ref o), some (.int (nI b)), some (.int (rv_z r)), some (.int (nI s))] [] := by
    intro n
    induction n with
    | zero => intro s r g1 g2; omega
    | succ n ih =>
      intro s r g1 g2 g3 g4
      refine rv_iload_n hX dX4_isGathering_4 rfl ?_
      refine rv_aload_n hX dX4_isGathering_5 rfl ?_
      refine mv_ga hX (k := 2) (j := 2) gX4_13_X4 (by decide) rfl (by decide) dX4_isGathering_6 ?_
      refine rv_aload_n hX dX4_isGathering_9 rfl ?_
      refine mv_ga hX (k := 4) (j := 4) gX4_19_X4 (by decide) rfl (by decide) dX4_isGathering_10 ?_
      refine rv_iload_n hX dX4_isGathering_13 rfl ?_
      refine mv_ld hX (j := 4) (by decide) (by decide) rfl (by decide) (show _ < 17 by omega) dX4_isGathering_14 ?_
      rw [h3]
      refine mv_ld hX (j := 2) (by decide) (by decide) rfl (by decide) (show _ < 8 by omega) dX4_isGathering_15 ?_
      rw [b4]
      first | refine nv_icmp_ge hX 51 (by omega) (by omega) dX4_isGathering_16 (by decide) (fun c_16 => ?_) (fun c_16 => ?_) | refine rv_icmp_ge hX 51 dX4_isGathering_16 (by decide) (fun c_16 => ?_) (fun c_16 => ?_)
      · skip
        have hse : s = hts.length := by omega
        refine rv_iload_n hX dX4_isGathering_51 rfl ?_
        refine mv_retz hX hE rfl dX4_isGathering_52 ?_
        cases r with
        | true => exact ⟨rfl, (g3 rfl).symm⟩
        | false => exact ⟨rfl, by rw [g4 rfl, hse, List.drop_length]; rfl⟩
      · skip
        obtain ⟨t, ht⟩ : ∃ t, hts[s]? = some t := ⟨hts[s], List.getElem?_eq_getElem (by omega)⟩
        have ht2 := h6 t (List.mem_of_getElem? ht)
        have e9 := sp_drop_get ht
        refine rv_iload_n hX dX4_isGathering_19 rfl ?_
        first | refine zv_if_ne hX 39 dX4_isGathering_20 (by decide) (fun c_20 => ?_) (fun c_20 => ?_) | refine nv_if_ne hX 39 (by omega) dX4_isGathering_20 (by decide) (fun c_20 => ?_) (fun c_20 => ?_) | refine rv_if_ne hX 39 dX4_isGathering_20 (by decide) (fun c_20 => ?_) (fun c_20 => ?_)
        · skip
          refine nv_iconst hX (m := 1) (by decide) dX4_isGathering_39 ?_
          refine rv_goto hX 44 dX4_isGathering_40 (by decide) ?_
          refine rv_istore_n hX dX4_isGathering_44 (rv_st_2 rfl) ?_
          first | refine nv_iinc hX (m := 1) dX4_isGathering_45 rfl (by decide) (rv_st_3 rfl) ?_ | refine rv_iinc hX dX4_isGathering_45 rfl rfl (rv_st_3 rfl) ?_
          refine rv_goto hX 4 dX4_isGathering_48 (by decide) ?_
          first
            | exact ih (s + 1) true (by omega) (by omega) (fun _ => g3 c_20) (fun e => by cases e)
            | exact ih (s + 1) true (by omega) (by omega) (fun _ => by rw [g4 c_20, e9, sp_gslot_ge (by omega)]; rfl) (fun e => by cases e)
            | exact ih (s + 1) false (by omega) (by omega) (fun e => by cases e) (fun _ => by rw [g4 c_20, e9, sp_gslot_lt (by omega)])
        · skip
          refine rv_aload_n hX dX4_isGathering_23 rfl ?_
          refine mv_ga hX (k := 5) (j := 5) gX4_22_X4 (by decide) rfl (by decide) dX4_isGathering_24 ?_
          refine nv_iconst hX (m := 3) (by decide) dX4_isGathering_27 ?_
          refine rv_iload_n hX dX4_isGathering_28 rfl ?_
          first | refine nv_imul hX dX4_isGathering_29 ?_ | refine rv_imul hX dX4_isGathering_29 ?_
          refine rv_iload_n hX dX4_isGathering_30 rfl ?_
          first | refine nv_iadd hX dX4_isGathering_31 ?_ | refine rv_iadd hX dX4_isGathering_31 ?_
          refine mv_ld hX (j := 5) (by decide) (by decide) rfl (by decide) (show _ < 51 by omega) dX4_isGathering_32 ?_
          rw [h5 s t ht]
          refine nv_sipush hX (m := 200) (by decide) dX4_isGathering_33 ?_
          first | refine nv_icmp_lt hX 43 (by omega) (by omega) dX4_isGathering_36 (by decide) (fun c_36 => ?_) (fun c_36 => ?_) | refine rv_icmp_lt hX 43 dX4_isGathering_36 (by decide) (fun c_36 => ?_) (fun c_36 => ?_)
          · skip
            refine nv_iconst hX (m := 0) (by decide) dX4_isGathering_43 ?_
            refine rv_istore_n hX dX4_isGathering_44 (rv_st_2 rfl) ?_
            first | refine nv_iinc hX (m := 1) dX4_isGathering_45 rfl (by decide) (rv_st_3 rfl) ?_ | refine rv_iinc hX dX4_isGathering_45 rfl rfl (rv_st_3 rfl) ?_
            refine rv_goto hX 4 dX4_isGathering_48 (by decide) ?_
            first
              | exact ih (s + 1) true (by omega) (by omega) (fun _ => g3 c_20) (fun e => by cases e)
              | exact ih (s + 1) true (by omega) (by omega) (fun _ => by rw [g4 c_20, e9, sp_gslot_ge (by omega)]; rfl) (fun e => by cases e)
              | exact ih (s + 1) false (by omega) (by omega) (fun e => by cases e) (fun _ => by rw [g4 c_20, e9, sp_gslot_lt (by omega)])
          · skip
            refine nv_iconst hX (m := 1) (by decide) dX4_isGathering_39 ?_
            refine rv_goto hX 44 dX4_isGathering_40 (by decide) ?_
            refine rv_istore_n hX dX4_isGathering_44 (rv_st_2 rfl) ?_
            first | refine nv_iinc hX (m := 1) dX4_isGathering_45 rfl (by decide) (rv_st_3 rfl) ?_ | refine rv_iinc hX dX4_isGathering_45 rfl rfl (rv_st_3 rfl) ?_
            refine rv_goto hX 4 dX4_isGathering_48 (by decide) ?_
            first
              | exact ih (s + 1) true (by omega) (by omega) (fun _ => g3 c_20) (fun e => by cases e)
              | exact ih (s + 1) true (by omega) (by omega) (fun _ => by rw [g4 c_20, e9, sp_gslot_ge (by omega)]; rfl) (fun e => by cases e)
              | exact ih (s + 1) false (by omega) (by omega) (fun e => by cases e) (fun _ => by rw [g4 c_20, e9, sp_gslot_lt (by omega)])
  refine nv_iconst hX (m := 0) (by decide) dX4_isGathering_0 ?_
  refine rv_istore_n hX dX4_isGathering_1 (rv_st_2 rfl) ?_
  refine nv_iconst hX (m := 0) (by decide) dX4_isGathering_2 ?_
  refine rv_istore_n hX dX4_isGathering_3 (rv_st_3 rfl) ?_
  exact loop (hts.length + 1) 0 false (Nat.zero_le _) (by omega) (fun e => by cases e) (fun _ => rfl)
theorem m_gatheredSlot {G : rv_G} (hG : rv_GK G) {d : Nat} {σ : rv_S} {S : List Nat} {b rel : Nat} {hts : List Nat} (hh : mHd σ S b rel hts) (hw : sp_wfH hts) : mC G d yX4_gatheredSlot wX4_gatheredSlot [.int (nI b)] σ (mPi (fun r τ => τ = σ ∧ r = rv_oi (sp_gslot hts 0))) := by
  refine mv_start hG (by decide +kernel) (Nat.le_of_ble_eq_true rfl) (fun X Hb o hX1 hX hE => ?_)
  subst hX1
  show rv_V X (rv_mh Hb o _) 0 [some (.ref o), some (.int (nI b)), none, none] []
  obtain ⟨b1, b2, b3, b4⟩ := hh.bds
  obtain ⟨h1, h2, h3, h4, h5, h6⟩ := hh
  have loop : ∀ (n s : Nat) (r : Option Nat), s ≤ hts.length → hts.length - s < n → (∀ k, r = some k → sp_gslot hts 0 = some k ∧ k < s) → (r = none → sp_gslot hts 0 = sp_gslot (hts.drop s) s) → rv_V X (rv_mh Hb o σ) 4 [some (.ref o), some (.int (nI b)), some (.int (rv_oi r)), some (.int (nI s))] [] := by
    intro n
    induction n with
    | zero => intro s r g1 g2; omega
    | succ n ih =>
      intro s r g1 g2 g3 g4
      refine rv_iload_n hX dX4_gatheredSlot_4 rfl ?_
      refine rv_aload_n hX dX4_gatheredSlot_5 rfl ?_
      refine mv_ga hX (k := 2) (j := 2) gX4_13_X4 (by decide) rfl (by decide) dX4_gatheredSlot_6 ?_
      refine rv_aload_n hX dX4_gatheredSlot_9 rfl ?_
      refine mv_ga hX (k := 4) (j := 4) gX4_19_X4 (by decide) rfl (by decide) dX4_gatheredSlot_10 ?_
      refine rv_iload_n hX dX4_gatheredSlot_13 rfl ?_
      refine mv_ld hX (j := 4) (by decide) (by decide) rfl (by decide) (show _ < 17 by omega) dX4_gatheredSlot_14 ?_
      rw [h3]
      refine mv_ld hX (j := 2) (by decide) (by decide) rfl (by decide) (show _ < 8 by omega) dX4_gatheredSlot_15 ?_
      rw [b4]
      first | refine nv_icmp_ge hX 47 (by omega) (by omega) dX4_gatheredSlot_16 (by decide) (fun c_16 => ?_) (fun c_16 => ?_) | refine rv_icmp_ge hX 47 dX4_gatheredSlot_16 (by decide) (fun c_16 => ?_) (fun c_16 => ?_)
      · skip
        have hse : s = hts.length := by omega
        refine rv_iload_n hX dX4_gatheredSlot_47 rfl ?_
        refine mv_reti hX hE dX4_gatheredSlot_48 ?_
        cases r with
        | some k => exact ⟨rfl, by rw [(g3 k rfl).1]⟩
        | none => exact ⟨rfl, by rw [g4 rfl, hse, List.drop_length]; rfl⟩
      · skip
        obtain ⟨t, ht⟩ : ∃ t, hts[s]? = some t := ⟨hts[s], List.getElem?_eq_getElem (by omega)⟩
        have ht2 := h6 t (List.mem_of_getElem? ht)
        have e9 := sp_drop_get ht
        refine rv_aload_n hX dX4_gatheredSlot_19 rfl ?_
        refine mv_ga hX (k := 5) (j := 5) gX4_22_X4 (by decide) rfl (by decide) dX4_gatheredSlot_20 ?_
        refine nv_iconst hX (m := 3) (by decide) dX4_gatheredSlot_23 ?_
        refine rv_iload_n hX dX4_gatheredSlot_24 rfl ?_
        first | refine nv_imul hX dX4_gatheredSlot_25 ?_ | refine rv_imul hX dX4_gatheredSlot_25 ?_
        refine rv_iload_n hX dX4_gatheredSlot_26 rfl ?_
        first | refine nv_iadd hX dX4_gatheredSlot_27 ?_ | refine rv_iadd hX dX4_gatheredSlot_27 ?_
        refine mv_ld hX (j := 5) (by decide) (by decide) rfl (by decide) (show _ < 51 by omega) dX4_gatheredSlot_28 ?_
        rw [h5 s t ht]
        refine nv_sipush hX (m := 200) (by decide) dX4_gatheredSlot_29 ?_
        first | refine nv_icmp_lt hX 39 (by omega) (by omega) dX4_gatheredSlot_32 (by decide) (fun c_32 => ?_) (fun c_32 => ?_) | refine rv_icmp_lt hX 39 dX4_gatheredSlot_32 (by decide) (fun c_32 => ?_) (fun c_32 => ?_)
        · skip
          refine rv_iload_n hX dX4_gatheredSlot_39 rfl ?_
          refine rv_istore_n hX dX4_gatheredSlot_40 (rv_st_2 rfl) ?_
          first | refine nv_iinc hX (m := 1) dX4_gatheredSlot_41 rfl (by decide) (rv_st_3 rfl) ?_ | refine rv_iinc hX dX4_gatheredSlot_41 rfl rfl (rv_st_3 rfl) ?_
          refine rv_goto hX 4 dX4_gatheredSlot_44 (by decide) ?_
          first
            | exact ih (s + 1) (some s) (by omega) (by omega) (fun k e => by cases e; exact ⟨by rw [g4 rfl, e9, sp_gslot_ge (by omega)], by omega⟩) (fun e => by cases e)
            | exact ih (s + 1) r (by omega) (by omega) (fun k e => ⟨(g3 k e).1, by have := (g3 k e).2; omega⟩) (fun e => by rw [g4 e, e9, sp_gslot_lt (by omega)])
        · skip
          have hrn : r = none := by
            cases r with
            | none => rfl
            | some k =>
              obtain ⟨e1, e2⟩ := g3 k rfl
              obtain ⟨e3, t', e4, e5⟩ := sp_gslot_get e1
              have := hw.2 k s t' t e4 ht e5 (by omega)
              omega
          subst hrn
          refine rv_iload_n hX dX4_gatheredSlot_35 rfl ?_
          refine rv_goto hX 40 dX4_gatheredSlot_36 (by decide) ?_
          refine rv_istore_n hX dX4_gatheredSlot_40 (rv_st_2 rfl) ?_
          first | refine nv_iinc hX (m := 1) dX4_gatheredSlot_41 rfl (by decide) (rv_st_3 rfl) ?_ | refine rv_iinc hX dX4_gatheredSlot_41 rfl rfl (rv_st_3 rfl) ?_
          refine rv_goto hX 4 dX4_gatheredSlot_44 (by decide) ?_
          first
            | exact ih (s + 1) (some s) (by omega) (by omega) (fun k e => by cases e; exact ⟨by rw [g4 rfl, e9, sp_gslot_ge (by omega)], by omega⟩) (fun e => by cases e)
            | exact ih (s + 1) r (by omega) (by omega) (fun k e => ⟨(g3 k e).1, by have := (g3 k e).2; omega⟩) (fun e => by rw [g4 e, e9, sp_gslot_lt (by omega)])
  refine rv_iconst hX (v := -1) dX4_gatheredSlot_0 (by decide) ?_
  refine rv_istore_n hX dX4_gatheredSlot_1 (rv_st_2 rfl) ?_
  refine nv_iconst hX (m := 0) (by decide) dX4_gatheredSlot_2 ?_
  refine rv_istore_n hX dX4_gatheredSlot_3 (rv_st_3 rfl) ?_
  exact loop (hts.length + 1) 0 none (Nat.zero_le _) (by omega) (fun k e => by cases e) (fun _ => rfl)
theorem m_headFact {G : rv_G} (hG : rv_GK G) {d : Nat} (hd : 1 ≤ d) {σ : rv_S} {S : List Nat} {b rel : Nat} {hts : List Nat} {v : sp_V} (hh : mHd σ S b rel hts) (hv : mVal σ v) (hk : ∀ t, t ∈ hts → t < 200 → (sp_val v t).isSome = true) : mC G d yX4_headFact wX4_headFact [.int (nI b)] σ (mPi (fun r τ => τ = σ ∧ r = nI (1000000 * rel + sp_hsum v 0 hts 0))) := by
  refine mv_start hG (by decide +kernel) (Nat.le_of_ble_eq_true rfl) (fun X Hb o hX1 hX hE => ?_)
  subst hX1
  show rv_V X (rv_mh Hb o _) 0 [some (.ref o), some (.int (nI b)), none, none, none] []
  obtain ⟨b1, b2, b3, b4⟩ := hh.bds
  obtain ⟨h1, h2, h3, h4, h5, h6⟩ := hh
  have loop : ∀ (n s a : Nat), s ≤ hts.length → hts.length - s < n → a + sp_hsum v 0 (hts.drop s) s = 1000000 * rel + sp_hsum v 0 hts 0 → rv_V X (rv_mh Hb o σ) 12 [some (.ref o), some (.int (nI b)), some (.int (nI a)), some (.int (nI s)), none] [] ∧ ∀ x, rv_V X (rv_mh Hb o σ) 12 [some (.ref o), some (.int (nI b)), some (.int (nI a)), some (.int (nI s)), x] [] := by
    intro n
    induction n with
    | zero => intro s a g1 g2; omega
    | succ n ih =>
      intro s a g1 g2 g3
      have main : ∀ x, rv_V X (rv_mh Hb o σ) 12 [some (.ref o), some (.int (nI b)), some (.int (nI a)), some (.int (nI s)), x] [] := by
        intro x
        refine rv_iload_n hX dX4_headFact_12 rfl ?_
        refine rv_aload_n hX dX4_headFact_13 rfl ?_
        refine mv_ga hX (k := 2) (j := 2) gX4_13_X4 (by decide) rfl (by decide) dX4_headFact_14 ?_
        refine rv_aload_n hX dX4_headFact_17 rfl ?_
        refine mv_ga hX (k := 4) (j := 4) gX4_19_X4 (by decide) rfl (by decide) dX4_headFact_18 ?_
        refine rv_iload_n hX dX4_headFact_21 rfl ?_
        refine mv_ld hX (j := 4) (by decide) (by decide) rfl (by decide) (show _ < 17 by omega) dX4_headFact_22 ?_
        rw [h3]
        refine mv_ld hX (j := 2) (by decide) (by decide) rfl (by decide) (show _ < 8 by omega) dX4_headFact_23 ?_
        rw [b4]
        first | refine nv_icmp_ge hX 71 (by omega) (by omega) dX4_headFact_24 (by decide) (fun c_24 => ?_) (fun c_24 => ?_) | refine rv_icmp_ge hX 71 dX4_headFact_24 (by decide) (fun c_24 => ?_) (fun c_24 => ?_)
        · skip
          have hse : s = hts.length := by omega
          refine rv_iload_n hX dX4_headFact_71 rfl ?_
          refine mv_reti hX hE dX4_headFact_72 ?_
          refine ⟨rfl, ?_⟩
          rw [hse, List.drop_length] at g3
          rw [← g3]
          rfl
        · skip
          obtain ⟨t, ht⟩ : ∃ t, hts[s]? = some t := ⟨hts[s], List.getElem?_eq_getElem (by omega)⟩
          have ht2 := h6 t (List.mem_of_getElem? ht)
          have e9 := sp_drop_get ht
          rw [e9] at g3
          have g3' : a + (sp_wt s * sp_hval v 0 t + sp_hsum v 0 (hts.drop (s + 1)) (s + 1)) = 1000000 * rel + sp_hsum v 0 hts 0 := g3
          refine rv_aload_n hX dX4_headFact_27 rfl ?_
          refine mv_ga hX (k := 5) (j := 5) gX4_22_X4 (by decide) rfl (by decide) dX4_headFact_28 ?_
          refine nv_iconst hX (m := 3) (by decide) dX4_headFact_31 ?_
          refine rv_iload_n hX dX4_headFact_32 rfl ?_
          first | refine nv_imul hX dX4_headFact_33 ?_ | refine rv_imul hX dX4_headFact_33 ?_
          refine rv_iload_n hX dX4_headFact_34 rfl ?_
          first | refine nv_iadd hX dX4_headFact_35 ?_ | refine rv_iadd hX dX4_headFact_35 ?_
          refine mv_ld hX (j := 5) (by decide) (by decide) rfl (by decide) (show _ < 51 by omega) dX4_headFact_36 ?_
          rw [h5 s t ht]
          refine rv_istore hX dX4_headFact_37 (rv_st_4 rfl) ?_
          refine rv_iload_n hX dX4_headFact_39 rfl ?_
          refine rv_iload hX dX4_headFact_40 rfl ?_
          refine nv_sipush hX (m := 200) (by decide) dX4_headFact_42 ?_
          first | refine nv_icmp_lt hX 52 (by omega) (by omega) dX4_headFact_45 (by decide) (fun c_45 => ?_) (fun c_45 => ?_) | refine rv_icmp_lt hX 52 dX4_headFact_45 (by decide) (fun c_45 => ?_) (fun c_45 => ?_)
          · skip
            obtain ⟨y, hy⟩ := Option.isSome_iff_exists.mp (hk t (List.mem_of_getElem? ht) (by omega))
            have e8 : sp_hval v 0 t = y := by unfold sp_hval; rw [if_neg (by omega), hy]; rfl
            refine rv_iload_n hX dX4_headFact_52 rfl ?_
            refine sv_calli hX iX4_189 mdX4_weight (m_weight hG (d := d - 1) (by omega)) (by omega) rfl rfl (Nat.le_of_ble_eq_true rfl) dX4_headFact_53 (fun r_53 h_53 => ?_)
            obtain rfl := h_53
            refine rv_aload_n hX dX4_headFact_56 rfl ?_
            refine rv_iload hX dX4_headFact_57 rfl ?_
            refine mv_calli hX iX4_168 rfl mdX4_valueOf (m_valueOf hG (d := d - 1) hv (by omega)) (by omega) rfl rfl (Nat.le_of_ble_eq_true rfl) dX4_headFact_59 (fun r_59 τ_59 h_59 => ?_)
            obtain ⟨rfl, rfl⟩ := h_59
            rw [hy]
            show rv_V X _ _ _ (.int (nI y) :: _)
            first | refine nv_imul hX dX4_headFact_62 ?_ | refine rv_imul hX dX4_headFact_62 ?_
            first | refine nv_iadd hX dX4_headFact_63 ?_ | refine rv_iadd hX dX4_headFact_63 ?_
            refine rv_istore_n hX dX4_headFact_64 (rv_st_2 rfl) ?_
            first | refine nv_iinc hX (m := 1) dX4_headFact_65 rfl (by decide) (rv_st_3 rfl) ?_ | refine rv_iinc hX dX4_headFact_65 rfl rfl (rv_st_3 rfl) ?_
            refine rv_goto hX 12 dX4_headFact_68 (by decide) ?_
            refine (ih (s + 1) _ (by omega) (by omega) ?_).2 _
            rw [← g3', e8]
            omega
          · skip
            have e8 : sp_hval v 0 t = 0 := by unfold sp_hval; rw [if_pos (by omega)]
            refine nv_iconst hX (m := 0) (by decide) dX4_headFact_48 ?_
            refine rv_goto hX 63 dX4_headFact_49 (by decide) ?_
            first | refine nv_iadd hX dX4_headFact_63 ?_ | refine rv_iadd hX dX4_headFact_63 ?_
            refine rv_istore_n hX dX4_headFact_64 (rv_st_2 rfl) ?_
            first | refine nv_iinc hX (m := 1) dX4_headFact_65 rfl (by decide) (rv_st_3 rfl) ?_ | refine rv_iinc hX dX4_headFact_65 rfl rfl (rv_st_3 rfl) ?_
            refine rv_goto hX 12 dX4_headFact_68 (by decide) ?_
            refine (ih (s + 1) _ (by omega) (by omega) ?_).2 _
            rw [← g3', e8]
            omega
      exact ⟨main _, main⟩
  refine rv_ldc hX q2291 dX4_headFact_0 ?_
  rw [show (1000000 : Int32) = nI 1000000 from by decide]
  refine rv_aload_n hX dX4_headFact_2 rfl ?_
  refine mv_ga hX (k := 4) (j := 4) gX4_19_X4 (by decide) rfl (by decide) dX4_headFact_3 ?_
  refine rv_iload_n hX dX4_headFact_6 rfl ?_
  refine mv_ld hX (j := 4) (by decide) (by decide) rfl (by decide) (show _ < 17 by omega) dX4_headFact_7 ?_
  rw [h3]
  first | refine nv_imul hX dX4_headFact_8 ?_ | refine rv_imul hX dX4_headFact_8 ?_
  refine rv_istore_n hX dX4_headFact_9 (rv_st_2 rfl) ?_
  refine nv_iconst hX (m := 0) (by decide) dX4_headFact_10 ?_
  refine rv_istore_n hX dX4_headFact_11 (rv_st_3 rfl) ?_
  exact (loop (hts.length + 1) 0 _ (Nat.zero_le _) (by omega) rfl).1
