/-! THE REFERENCE: matches -/
set_option maxRecDepth 100000
/-- what is gone through: a body b, its items in the order ord -/
def mCfg (σ : rv_S) (S F : List Nat) (b : Nat) (ord : Nat → Nat) (its : List sp_I) : Prop := mRel σ S ∧ mFacts σ F ∧ σ.1 31 = nI b ∧ σ.1 32 = nI its.length ∧ b < 17 ∧ its.length ≤ 6 ∧ (∀ p, p < its.length → σ.2.1 26 p = nI (ord p) ∧ ord p < 6) ∧ ∀ (p : Nat) (it : sp_I), its[p]? = some it → mItem σ b (ord p) it ∧ sp_wfI S it
theorem mCfg.same {fs js : List Nat} {σ τ : rv_S} {S F : List Nat} {b : Nat} {ord : Nat → Nat} {its : List sp_I} (h : mCfg σ S F b ord its) (hs : rv_same fs js σ τ) (h1 : ∀ j, j ∈ [1, 2, 7, 8, 9, 15, 26] → j ∉ js) (h2 : 31 ∉ fs ∧ 32 ∉ fs) : mCfg τ S F b ord its := by
  obtain ⟨a1, a2, a3, a4, a5, a6, a7, a8⟩ := h
  refine ⟨a1.same hs (h1 1 (by decide)) (h1 2 (by decide)), a2.same hs (h1 1 (by decide)) (h1 15 (by decide)), by rw [hs.1 31 h2.1]; exact a3, by rw [hs.1 32 h2.2]; exact a4, a5, a6, fun p hp => ?_, fun p it hp => ⟨(a8 p it hp).1.same hs (h1 7 (by decide)) (h1 8 (by decide)) (h1 9 (by decide)), (a8 p it hp).2⟩⟩
  rw [hs.2.1 26 (h1 26 (by decide))]
  exact a7 p hp
theorem sp_strip {v w : sp_V} {kb : Nat → Option Nat} {p : Nat} (h : sp_le v w) (hp : ∀ x, kb x ≠ some p) : (fun x => if sp_kb v w kb (some p) x = some p then none else w x) = v ∧ (fun x => if sp_kb v w kb (some p) x = some p then none else sp_kb v w kb (some p) x) = (fun x => if v x = w x then kb x else none) := by
  constructor
  · funext x
    unfold sp_kb
    by_cases e : v x = w x
    · rw [if_pos e, if_neg (hp x), e]
    · rw [if_neg e, if_pos rfl]
      rcases h x with g | g
      · exact g.symm
      · exact absurd g e
  · funext x
    unfold sp_kb
    by_cases e : v x = w x
    · rw [if_pos e, if_neg (hp x), if_pos e]
    · rw [if_neg e, if_pos rfl, if_neg e]
theorem m_fitsFact {G : rv_G} (hG : rv_GK G) {d : Nat} (hd : 2 ≤ d) {σ : rv_S} {S F : List Nat} {b p f : Nat} {ord : Nat → Nat} {its : List sp_I} {it : sp_I} {v : sp_V} {kb : Nat → Option Nat} (hc : mCfg σ S F b ord its) (hit : its[p]? = some it) (hk0 : it.1 ≤ 1) (hf : f < 8000000) (hv : mVal σ v) (hk : mKb σ kb) : mC G d yX4_fitsFact wX4_fitsFact [.int (nI (ord p)), .int (nI f), .int (nI p)] σ (mPz (fun r τ => (r = true ↔ (sp_binds v f it.2.2 0).isSome = true) ∧ rv_same [] [28, 29] σ τ ∧ ∃ w, mVal τ w ∧ mKb τ (sp_kb v w kb (some p)) ∧ sp_le v w ∧ ∀ u, sp_binds v f it.2.2 0 = some u → w = u)) := by
  refine mv_start hG (by decide +kernel) (Nat.le_of_ble_eq_true rfl) (fun X Hb o hX1 hX hE => ?_)
  subst hX1
  show rv_V X (rv_mh Hb o _) 0 [some (.ref o), some (.int (nI (ord p))), some (.int (nI f)), some (.int (nI p)), none, none] []
  have hp6 : p < 6 := Nat.lt_of_lt_of_le (List.getElem?_eq_some_iff.mp hit).1 hc.2.2.2.2.2.1
  have hord := (hc.2.2.2.2.2.2.1 p (List.getElem?_eq_some_iff.mp hit).1).2
  have hb := hc.2.2.2.2.1
  have hwf := (hc.2.2.2.2.2.2.2 p it hit).2
  have hSw := hwf.2.1 hk0
  have hlt := (List.getElem?_eq_some_iff.mp hSw).1
  have hlen := hwf.len hc.1.2.2.1
  have loop : ∀ (n s : Nat) (τ : rv_S) (does : Bool) (w : sp_V), s ≤ it.2.2.length → it.2.2.length - s < n → mVal τ w → mKb τ (sp_kb v w kb (some p)) → sp_le v w → (does = true → sp_binds v f it.2.2 0 = sp_binds w f (it.2.2.drop s) s) → (does = false → sp_binds v f it.2.2 0 = none) → rv_same [] [28, 29] σ τ → rv_V X (rv_mh Hb o τ) 6 [some (.ref o), some (.int (nI (ord p))), some (.int (nI f)), some (.int (nI p)), some (.int (rv_z does)), some (.int (nI s))] [] := by
    intro n
    induction n with
    | zero => intro s τ does w h1 h2; omega
    | succ n ih =>
      intro s τ does w hs hn hw hkw hle h1 h2 hsm
      have hc' := hc.same hsm (by decide) (by decide)
      obtain ⟨hS8, hF', hmt, -, -, -, -, hits⟩ := hc'
      have hI := (hits p it hit).1
      have hS88 := hS8.2.1
      refine rv_iload hX dX4_fitsFact_6 rfl ?_
      refine rv_aload_n hX dX4_fitsFact_8 rfl ?_
      refine mv_ga hX (k := 2) (j := 2) gX4_13_X4 (by decide) rfl (by decide) dX4_fitsFact_9 ?_
      refine rv_aload_n hX dX4_fitsFact_12 rfl ?_
      refine rv_aload_n hX dX4_fitsFact_13 rfl ?_
      refine mv_gi hX (k := 31) gX4_155_X4 (by decide) rfl dX4_fitsFact_14 ?_
      rw [hmt]
      refine rv_iload_n hX dX4_fitsFact_17 rfl ?_
      refine mv_calli hX iX4_152 rfl mdX4_whatOf (m_whatOf hG (d := d - 1) (by omega)) (by omega) rfl rfl (Nat.le_of_ble_eq_true rfl) dX4_fitsFact_18 (fun r_18 τ_18 h_18 => ?_)
      obtain ⟨rfl, rfl⟩ := h_18
      rw [hI.2.1]
      refine mv_ld hX (j := 2) (by decide) (by decide) rfl (by decide) (show _ < 8 by omega) dX4_fitsFact_21 ?_
      rw [hS8.2.2.2 _ _ hSw]
      first | refine nv_icmp_ge hX 60 (by omega) (by omega) dX4_fitsFact_22 (by decide) (fun c_22 => ?_) (fun c_22 => ?_) | refine rv_icmp_ge hX 60 dX4_fitsFact_22 (by decide) (fun c_22 => ?_) (fun c_22 => ?_)
      · skip
        have hse : s = it.2.2.length := by omega
        refine rv_iload hX dX4_fitsFact_60 rfl ?_
        refine mv_retz hX hE rfl dX4_fitsFact_62 ?_
        cases does with
        | true =>
          first
            | (have e := h1 rfl
               rw [hse, List.drop_length] at e
               have e2 : sp_binds v f it.2.2 0 = some w := e
               exact ⟨by rw [e2]; exact ⟨fun _ => rfl, fun _ => rfl⟩, hsm, w, hw, hkw, hle, fun u hu => by rw [e2] at hu; exact Option.some.inj hu⟩)
            | exact absurd c_27 (by decide)
        | false =>
          have e := h2 rfl
          exact ⟨by rw [e]; exact ⟨fun h => (by cases h), fun h => (by cases h)⟩, hsm, w, hw, hkw, hle, fun u hu => by rw [e] at hu; cases hu⟩
      · skip
        obtain ⟨t, ht⟩ : ∃ t, it.2.2[s]? = some t := ⟨it.2.2[s], List.getElem?_eq_getElem (by omega)⟩
        have ht8 := hwf.2.2.2.2 t (List.mem_of_getElem? ht)
        refine rv_iload hX dX4_fitsFact_25 rfl ?_
        first | refine zv_if_eq hX 60 dX4_fitsFact_27 (by decide) (fun c_27 => ?_) (fun c_27 => ?_) | refine nv_if_eq hX 60 (by omega) dX4_fitsFact_27 (by decide) (fun c_27 => ?_) (fun c_27 => ?_) | refine rv_if_eq hX 60 dX4_fitsFact_27 (by decide) (fun c_27 => ?_) (fun c_27 => ?_)
        · skip
          refine rv_iload hX dX4_fitsFact_60 rfl ?_
          refine mv_retz hX hE rfl dX4_fitsFact_62 ?_
          cases does with
          | true =>
            first
              | (have e := h1 rfl
                 rw [hse, List.drop_length] at e
                 have e2 : sp_binds v f it.2.2 0 = some w := e
                 exact ⟨by rw [e2]; exact ⟨fun _ => rfl, fun _ => rfl⟩, hsm, w, hw, hkw, hle, fun u hu => by rw [e2] at hu; exact Option.some.inj hu⟩)
              | exact absurd c_27 (by decide)
          | false =>
            have e := h2 rfl
            exact ⟨by rw [e]; exact ⟨fun h => (by cases h), fun h => (by cases h)⟩, hsm, w, hw, hkw, hle, fun u hu => by rw [e] at hu; cases hu⟩
        · skip
          refine rv_aload_n hX dX4_fitsFact_30 rfl ?_
          refine rv_aload_n hX dX4_fitsFact_31 rfl ?_
          refine rv_aload_n hX dX4_fitsFact_32 rfl ?_
          refine mv_gi hX (k := 31) gX4_155_X4 (by decide) rfl dX4_fitsFact_33 ?_
          rw [hmt]
          refine rv_iload_n hX dX4_fitsFact_36 rfl ?_
          refine rv_iload hX dX4_fitsFact_37 rfl ?_
          refine mv_calli hX iX4_172 rfl mdX4_termOf (m_termOf hG (d := d - 1) (by omega)) (by omega) rfl rfl (Nat.le_of_ble_eq_true rfl) dX4_fitsFact_39 (fun r_39 τ_39 h_39 => ?_)
          obtain ⟨rfl, rfl⟩ := h_39
          rw [hI.2.2 s t ht]
          refine rv_iload_n hX dX4_fitsFact_42 rfl ?_
          refine rv_iload hX dX4_fitsFact_43 rfl ?_
          refine sv_calli hX iX4_176 mdX4_slotOf (m_slotOf hG (d := d - 1) hf (by omega)) (by omega) rfl rfl (Nat.le_of_ble_eq_true rfl) dX4_fitsFact_45 (fun r_45 h_45 => ?_)
          obtain rfl := h_45
          refine rv_iload_n hX dX4_fitsFact_48 rfl ?_
          refine mv_callz hX iX4_179 rfl mdX4_fits (m_fits hG (d := d - 1) (by omega) hw hkw ht8 (sp_slot_lt f s) (p := some p) (fun q e => by cases e; exact hp6)) (by omega) rfl rfl (Nat.le_of_ble_eq_true rfl) dX4_fitsFact_49 (fun r_49 τ_49 h_49 => ?_)
          obtain ⟨g1, g2, g3, g4⟩ := h_49
          refine rv_istore hX dX4_fitsFact_52 (rv_st_4 rfl) ?_
          first | refine nv_iinc hX (m := 1) dX4_fitsFact_54 rfl (by decide) (rv_st_5 rfl) ?_ | refine rv_iinc hX dX4_fitsFact_54 rfl rfl (rv_st_5 rfl) ?_
          refine rv_goto hX 6 dX4_fitsFact_57 (by decide) ?_
          have hdrop : it.2.2.drop s = t :: it.2.2.drop (s + 1) := by
            have e1 := List.drop_eq_getElem_cons (l := it.2.2) (i := s) (by omega)
            rw [e1]
            congr 1
            have e2 := List.getElem?_eq_getElem (l := it.2.2) (i := s) (by omega)
            rw [ht] at e2
            exact (Option.some.inj e2).symm
          have hb9 := h1 c_27
          rw [hdrop] at hb9
          have hb8 : sp_binds w f (t :: it.2.2.drop (s + 1)) s = (sp_bind w t (sp_slot f s)).bind (fun w => sp_binds w f (it.2.2.drop (s + 1)) (s + 1)) := rfl
          rw [hb8] at hb9
          cases hbd : sp_bind w t (sp_slot f s) with
          | none =>
            rw [hbd] at g1 g2 g3 hb9
            have hr : r_49 = false := by cases r_49; rfl; exact absurd (g1.mp rfl) (by simp)
            subst hr
            rw [Option.getD_none] at g2 g3
            rw [sp_kb_self] at g3
            exact ih (s + 1) _ false w (by omega) (by omega) g2 g3 hle (fun h => by cases h) (fun _ => hb9) (hsm.tr g4)
          | some u =>
            rw [hbd] at g1 g2 g3 hb9
            have hr : r_49 = true := g1.mpr rfl
            subst hr
            rw [Option.getD_some] at g2 g3
            rw [sp_kb_tr hle (sp_bind_le hbd)] at g3
            exact ih (s + 1) _ true u (by omega) (by omega) g2 g3 (hle.tr (sp_bind_le hbd)) (fun _ => hb9) (fun h => by cases h) (hsm.tr g4)
  refine nv_iconst hX (m := 1) (by decide) dX4_fitsFact_0 ?_
  refine rv_istore hX dX4_fitsFact_1 (rv_st_4 rfl) ?_
  refine nv_iconst hX (m := 0) (by decide) dX4_fitsFact_3 ?_
  refine rv_istore hX dX4_fitsFact_4 (rv_st_5 rfl) ?_
  exact loop (it.2.2.length + 1) 0 σ true v (Nat.zero_le _) (by omega) hv (by rw [sp_kb_self]; exact hk) .rf (fun _ => rfl) (fun h => by cases h) .rf
/-- what advance does at a place p, with the values v ahead of it and the ways A left -/
def mAdv (σ : rv_S) (v : sp_V) (kb : Nat → Option Nat) (p : Nat) (A : List (Nat × sp_V)) (r : Bool) (τ : rv_S) : Prop :=
  rv_same [] [27, 28, 29] σ τ ∧ (∀ q, q ≠ p → τ.2.1 27 q = σ.2.1 27 q) ∧ ((A = [] ∧ r = false ∧ mVal τ v ∧ mKb τ kb) ∨ ∃ (k : Nat) (w : sp_V) (B : List (Nat × sp_V)), A = (k, w) :: B ∧ r = true ∧ τ.2.1 27 p = nI k ∧ k < 62 ∧ mVal τ w ∧ mKb τ (sp_kb v w kb (some p)) ∧ sp_le v w)
theorem sp_kbs {v w : sp_V} {kb : Nat → Option Nat} {p : Nat} (h : sp_le v w) (hp : ∀ x, kb x ≠ some p) (hn : ∀ x, v x = none → kb x = none) : (fun x => if v x = w x then kb x else none) = kb := by
  funext x
  by_cases e : v x = w x
  · rw [if_pos e]
  · rw [if_neg e]
    rcases h x with g | g
    · exact (hn x g).symm
    · exact absurd g e
def sp_nx (t : Option Nat) : Nat := match t with
  | none => 0
  | some k => k + 1
theorem sp_nx_add (t : Option Nat) : rv_oi t + nI 1 = nI (sp_nx t) := by
  cases t with
  | none => decide
  | some k => exact nI_add k 1
theorem m_advanceAtom {G : rv_G} (hG : rv_GK G) {d : Nat} (hd : 3 ≤ d) {σ : rv_S} {S F : List Nat} {b p : Nat} {ord : Nat → Nat} {its : List sp_I} {it : sp_I} {v : sp_V} {kb : Nat → Option Nat} {t : Option Nat} (hc : mCfg σ S F b ord its) (hit : its[p]? = some it) (hk0 : it.1 = 0) (hv : mVal σ v) (hk : mKb σ kb) (hkp : ∀ x, kb x ≠ some p) (hkn : ∀ x, v x = none → kb x = none) (ht : σ.2.1 27 p = rv_oi t) (ht2 : ∀ k, t = some k → k < 62) : mC G d yX4_advanceAtom wX4_advanceAtom [.int (nI p)] σ (mPz (fun r τ => mAdv σ v kb p (sp_left F it v t) r τ)) := by
  refine mv_start hG (by decide +kernel) (Nat.le_of_ble_eq_true rfl) (fun X Hb o hX1 hX hE => ?_)
  subst hX1
  show rv_V X (rv_mh Hb o _) 0 [some (.ref o), some (.int (nI p)), none, none] []
  have hp0 := (List.getElem?_eq_some_iff.mp hit).1
  have hp6 : p < 6 := Nat.lt_of_lt_of_le hp0 hc.2.2.2.2.2.1
  have hord := (hc.2.2.2.2.2.2.1 p hp0).2
  have hb17 := hc.2.2.2.2.1
  have loop : ∀ (n k : Nat) (τ : rv_S), k ≤ 62 → 62 - k < n → mVal τ v → mKb τ kb → sp_left F it v t = sp_from F it v k → rv_same [] [28, 29] σ τ → rv_V X (rv_mh Hb o τ) 16 [some (.ref o), some (.int (nI p)), some (.int (nI (ord p))), some (.int (nI k))] [] := by
    intro n
    induction n with
    | zero => intro k τ h1 h2; omega
    | succ n ih =>
      intro k τ hk62 hn hv1 hk1 hfr hsm
      have hc' := hc.same hsm (by decide) (by decide)
      obtain ⟨hS8, hF', hmt, -, -, -, -, hits⟩ := hc'
      have hI := (hits p it hit).1
      have hF6 := hF'.2.1
      refine rv_iload_n hX dX4_advanceAtom_16 rfl ?_
      refine rv_aload_n hX dX4_advanceAtom_17 rfl ?_
      refine mv_ga hX (k := 1) (j := 1) gX4_7_X4 (by decide) rfl (by decide) dX4_advanceAtom_18 ?_
      refine nv_bipush hX (m := 6) (by decide) dX4_advanceAtom_21 ?_
      refine mv_ld hX (j := 1) (by decide) (by decide) rfl (by decide) (show _ < 11 by omega) dX4_advanceAtom_23 ?_
      rw [hF'.1]
      first | refine nv_icmp_ge hX 83 (by omega) (by omega) dX4_advanceAtom_24 (by decide) (fun c_24 => ?_) (fun c_24 => ?_) | refine rv_icmp_ge hX 83 dX4_advanceAtom_24 (by decide) (fun c_24 => ?_) (fun c_24 => ?_)
      · skip
        refine nv_iconst hX (m := 0) (by decide) dX4_advanceAtom_83 ?_
        refine mv_retz hX hE (b := false) rfl dX4_advanceAtom_84 ?_
        refine ⟨hsm.mn (by decide) (by decide), fun q hq => by rw [hsm.2.1 27 (by decide)], Or.inl ⟨?_, rfl, hv1, hk1⟩⟩
        rw [hfr]
        exact sp_from_end (by omega)
      · skip
        obtain ⟨f, hf⟩ : ∃ f, F[k]? = some f := ⟨F[k], List.getElem?_eq_getElem (by omega)⟩
        have hf8 := hF'.2.2.1 f (List.mem_of_getElem? hf)
        have hgd : F.getD k 0 = f := by rw [List.getD_eq_getElem?_getD, hf]; rfl
        have hstep := sp_from_step (F := F) (it := it) (v := v) (k := k) (by omega)
        rw [hgd] at hstep
        refine rv_aload_n hX dX4_advanceAtom_27 rfl ?_
        refine mv_ga hX (k := 15) (j := 15) gX4_52_X4 (by decide) rfl (by decide) dX4_advanceAtom_28 ?_
        refine rv_iload_n hX dX4_advanceAtom_31 rfl ?_
        refine mv_ld hX (j := 15) (by decide) (by decide) rfl (by decide) (show _ < 62 by omega) dX4_advanceAtom_32 ?_
        rw [hF'.2.2.2 k f hf]
        refine rv_ldc hX q2291 dX4_advanceAtom_33 ?_
        rw [show (1000000 : Int32) = nI 1000000 from by decide]
        first | refine nv_idiv hX (by omega) (by omega) (by omega) dX4_advanceAtom_35 ?_ | refine rv_idiv hX dX4_advanceAtom_35 (by decide) ?_
        refine rv_aload_n hX dX4_advanceAtom_36 rfl ?_
        refine rv_aload_n hX dX4_advanceAtom_37 rfl ?_
        refine mv_gi hX (k := 31) gX4_155_X4 (by decide) rfl dX4_advanceAtom_38 ?_
        rw [hmt]
        refine rv_iload_n hX dX4_advanceAtom_41 rfl ?_
        refine mv_calli hX iX4_152 rfl mdX4_whatOf (m_whatOf hG (d := d - 1) (by omega)) (by omega) rfl rfl (Nat.le_of_ble_eq_true rfl) dX4_advanceAtom_42 (fun r_42 τ_42 h_42 => ?_)
        obtain ⟨rfl, rfl⟩ := h_42
        rw [hI.2.1]
        have hw8 := (List.getElem?_eq_some_iff.mp ((hits p it hit).2.2.1 (by omega))).1
        have hS8b := hS8.2.1
        first | refine nv_icmp_ne hX 77 (by omega) (by omega) dX4_advanceAtom_45 (by decide) (fun c_45 => ?_) (fun c_45 => ?_) | refine rv_icmp_ne hX 77 dX4_advanceAtom_45 (by decide) (fun c_45 => ?_) (fun c_45 => ?_)
        · skip
          first | refine nv_iinc hX (m := 1) dX4_advanceAtom_77 rfl (by decide) (rv_st_3 rfl) ?_ | refine rv_iinc hX dX4_advanceAtom_77 rfl rfl (rv_st_3 rfl) ?_
          refine rv_goto hX 16 dX4_advanceAtom_80 (by decide) ?_
          first
            | (refine ih (k + 1) _ (by omega) (by omega) hv1 hk1 ?_ hsm
               rw [hfr, hstep, if_neg c_45]
               rfl)
            | (have hn0 : sp_binds v f it.2.2 0 = none := by
                 cases e : sp_binds v f it.2.2 0 with
                 | none => rfl
                 | some u => exact absurd (g1.mpr (by rw [e]; rfl)) (by rw [c_60]; decide)
               obtain ⟨e1, e2⟩ := sp_strip g5 hkp
               rw [e1] at u1
               rw [e2, sp_kbs g5 hkp hkn] at u2
               refine ih (k + 1) _ (by omega) (by omega) u1 u2 ?_ ((hsm.tr g2).tr u3)
               rw [hfr, hstep, if_pos c_45, hn0]
               rfl)
        · skip
          refine rv_aload_n hX dX4_advanceAtom_48 rfl ?_
          refine rv_iload_n hX dX4_advanceAtom_49 rfl ?_
          refine rv_aload_n hX dX4_advanceAtom_50 rfl ?_
          refine mv_ga hX (k := 15) (j := 15) gX4_52_X4 (by decide) rfl (by decide) dX4_advanceAtom_51 ?_
          refine rv_iload_n hX dX4_advanceAtom_54 rfl ?_
          refine mv_ld hX (j := 15) (by decide) (by decide) rfl (by decide) (show _ < 62 by omega) dX4_advanceAtom_55 ?_
          rw [hF'.2.2.2 k f hf]
          refine rv_iload_n hX dX4_advanceAtom_56 rfl ?_
          refine mv_callz hX iX4_182 rfl mdX4_fitsFact (m_fitsFact hG (d := d - 1) (by omega) (hc.same hsm (by decide) (by decide)) hit (by omega) hf8 hv1 hk1) (by omega) rfl rfl (Nat.le_of_ble_eq_true rfl) dX4_advanceAtom_57 (fun r_57 τ_57 h_57 => ?_)
          obtain ⟨g1, g2, w, g3, g4, g5, g6⟩ := h_57
          first | refine zv_if_eq hX 72 dX4_advanceAtom_60 (by decide) (fun c_60 => ?_) (fun c_60 => ?_) | refine nv_if_eq hX 72 (by omega) dX4_advanceAtom_60 (by decide) (fun c_60 => ?_) (fun c_60 => ?_) | refine rv_if_eq hX 72 dX4_advanceAtom_60 (by decide) (fun c_60 => ?_) (fun c_60 => ?_)
          · skip
            refine rv_aload_n hX dX4_advanceAtom_72 rfl ?_
            refine rv_iload_n hX dX4_advanceAtom_73 rfl ?_
            refine mv_callv hX iX4_185 rfl mdX4_unbind (m_unbind hG (d := d - 1) hp6 g3 g4) (by omega) rfl rfl (Nat.le_of_ble_eq_true rfl) dX4_advanceAtom_74 (fun τ_74 h_74 => ?_)
            obtain ⟨u1, u2, u3⟩ := h_74
            first | refine nv_iinc hX (m := 1) dX4_advanceAtom_77 rfl (by decide) (rv_st_3 rfl) ?_ | refine rv_iinc hX dX4_advanceAtom_77 rfl rfl (rv_st_3 rfl) ?_
            refine rv_goto hX 16 dX4_advanceAtom_80 (by decide) ?_
            first
              | (refine ih (k + 1) _ (by omega) (by omega) hv1 hk1 ?_ hsm
                 rw [hfr, hstep, if_neg c_45]
                 rfl)
              | (have hn0 : sp_binds v f it.2.2 0 = none := by
                   cases e : sp_binds v f it.2.2 0 with
                   | none => rfl
                   | some u => exact absurd (g1.mpr (by rw [e]; rfl)) (by rw [c_60]; decide)
                 obtain ⟨e1, e2⟩ := sp_strip g5 hkp
                 rw [e1] at u1
                 rw [e2, sp_kbs g5 hkp hkn] at u2
                 refine ih (k + 1) _ (by omega) (by omega) u1 u2 ?_ ((hsm.tr g2).tr u3)
                 rw [hfr, hstep, if_pos c_45, hn0]
                 rfl)
          · skip
            refine rv_aload_n hX dX4_advanceAtom_63 rfl ?_
            refine mv_ga hX (k := 36) (j := 27) gX4_88_X4 (by decide) rfl (by decide) dX4_advanceAtom_64 ?_
            refine rv_iload_n hX dX4_advanceAtom_67 rfl ?_
            refine rv_iload_n hX dX4_advanceAtom_68 rfl ?_
            refine mv_st hX (j := 27) (by decide) (by decide) rfl (by decide) (show _ < 6 by omega) dX4_advanceAtom_69 ?_
            refine nv_iconst hX (m := 1) (by decide) dX4_advanceAtom_70 ?_
            refine mv_retz hX hE (b := true) rfl dX4_advanceAtom_71 ?_
            have hbs := g1.mp c_60
            obtain ⟨u, hu⟩ := Option.isSome_iff_exists.mp hbs
            have hwu := g6 u hu
            subst hwu
            refine ⟨((hsm.tr g2).mn (by decide) (by decide)).tr (.u (by decide)), fun q hq => ?_, Or.inr ⟨k, w, sp_from F it v (k + 1), ?_, rfl, by simp [rv_sU_2], by omega, ?_, ?_, g5⟩⟩
            · simp only [rv_sU_2]
              rw [if_neg (fun e => hq e.2), g2.2.1 27 (by decide), hsm.2.1 27 (by decide)]
            · rw [hfr, hstep, if_pos c_45, hu]
              rfl
            · exact g3.same (.u (js := [27]) (fs := []) (by decide)) (by decide)
            · exact g4.same (.u (js := [27]) (fs := []) (by decide)) (by decide)
  obtain ⟨hS8, hF', hmt, hln, -, -, hor, hits⟩ := hc
  have hF6 := hF'.2.1
  refine rv_aload_n hX dX4_advanceAtom_0 rfl ?_
  refine mv_ga hX (k := 35) (j := 26) gX4_85_X4 (by decide) rfl (by decide) dX4_advanceAtom_1 ?_
  refine rv_iload_n hX dX4_advanceAtom_4 rfl ?_
  refine mv_ld hX (j := 26) (by decide) (by decide) rfl (by decide) (show _ < 6 by omega) dX4_advanceAtom_5 ?_
  rw [(hor p hp0).1]
  refine rv_istore_n hX dX4_advanceAtom_6 (rv_st_2 rfl) ?_
  refine rv_aload_n hX dX4_advanceAtom_7 rfl ?_
  refine mv_ga hX (k := 36) (j := 27) gX4_88_X4 (by decide) rfl (by decide) dX4_advanceAtom_8 ?_
  refine rv_iload_n hX dX4_advanceAtom_11 rfl ?_
  refine mv_ld hX (j := 27) (by decide) (by decide) rfl (by decide) (show _ < 6 by omega) dX4_advanceAtom_12 ?_
  rw [ht]
  refine nv_iconst hX (m := 1) (by decide) dX4_advanceAtom_13 ?_
  refine rv_iadd hX dX4_advanceAtom_14 ?_
  rw [sp_nx_add]
  refine rv_istore_n hX dX4_advanceAtom_15 (rv_st_3 rfl) ?_
  refine loop (62 + 1) _ σ ?_ (by omega) hv hk ?_ .rf
  · cases t with
    | none => exact Nat.zero_le _
    | some k => have := ht2 k rfl; show k + 1 ≤ 62; omega
  · cases t with
    | none => exact sp_from_0 hk0
    | some k => exact sp_aft_from hk0 k
/-- the terms that have to be known -/
def sp_ok (v : sp_V) (it : sp_I) : Prop := (it.1 = 1 → ∀ t, t ∈ it.2.2 → (sp_val v t).isSome = true) ∧ (2 ≤ it.1 → ∀ k, k < 2 → (sp_val v (it.2.2.getD k 0)).isSome = true)
theorem sp_alt_not {F : List Nat} {al : Nat → Bool} {it : sp_I} {v : sp_V} (h : it.1 = 1) : sp_alt F al it v = if sp_num v it.2.1 it.2.2 ∈ F then [] else [(0, v)] := by
  unfold sp_alt
  rw [if_neg (by omega), if_pos h]
theorem sp_alt_test {F : List Nat} {al : Nat → Bool} {it : sp_I} {v : sp_V} (h : it.1 = 2) : sp_alt F al it v = if sp_test it.2.1 (sp_get v it.2.2 0) (sp_get v it.2.2 1) = true then [(0, v)] else [] := by
  unfold sp_alt
  rw [if_neg (by omega), if_neg (by omega), if_pos h]
theorem sp_alt_plus {F : List Nat} {al : Nat → Bool} {it : sp_I} {v : sp_V} (h : 3 ≤ it.1) : sp_alt F al it v = if sp_get v it.2.2 0 + sp_get v it.2.2 1 < 100 then ((sp_bind v (it.2.2.getD 2 0) (sp_get v it.2.2 0 + sp_get v it.2.2 1)).map (fun w => (0, w))).toList else [] := by
  unfold sp_alt
  rw [if_neg (by omega), if_neg (by omega), if_neg (by omega)]
theorem sp_sum_lt {v : sp_V} (hv : ∀ x a, v x = some a → a < 100) (ts : List Nat) (h : ts.length ≤ 3) : sp_sum v ts 0 < 1000000 := by
  have hg : ∀ t, (sp_val v t).getD 0 < 100 := by
    intro t
    cases e : sp_val v t with
    | none => simp
    | some a => have := sp_val_lt hv e; simpa using this
  match ts, h with
  | [], _ => simp [sp_sum]
  | [a], _ => have := hg a; simp [sp_sum, sp_wt]; omega
  | [a, b], _ => have := hg a; have := hg b; simp [sp_sum, sp_wt]; omega
  | [a, b, c], _ => have := hg a; have := hg b; have := hg c; simp [sp_sum, sp_wt]; omega
  | a :: b :: c :: e :: ts, h => simp at h
theorem sp_getD {ts : List Nat} {k t : Nat} (h : ts[k]? = some t) : ts.getD k 0 = t := by rw [List.getD_eq_getElem?_getD, h]; rfl
def mHold (σ : rv_S) (v : sp_V) (kb : Nat → Option Nat) (p : Nat) (A : List (Nat × sp_V)) (r : Bool) (τ : rv_S) : Prop :=
  rv_same [] [28, 29] σ τ ∧ ((A = [] ∧ r = false ∧ mVal τ v ∧ mKb τ kb) ∨ ∃ (w : sp_V), A = [(0, w)] ∧ r = true ∧ mVal τ w ∧ mKb τ (sp_kb v w kb (some p)) ∧ sp_le v w)
theorem mHold.yes {σ : rv_S} {v : sp_V} {kb : Nat → Option Nat} {p : Nat} {A : List (Nat × sp_V)} (hA : A = [(0, v)]) (hv : mVal σ v) (hk : mKb σ kb) : mHold σ v kb p A true σ := ⟨.rf, Or.inr ⟨v, hA, rfl, hv, by rw [sp_kb_self]; exact hk, .rf⟩⟩
theorem mHold.no {σ : rv_S} {v : sp_V} {kb : Nat → Option Nat} {p : Nat} {A : List (Nat × sp_V)} (hA : A = []) (hv : mVal σ v) (hk : mKb σ kb) : mHold σ v kb p A false σ := ⟨.rf, Or.inl ⟨hA, rfl, hv, hk⟩⟩
theorem m_holds {G : rv_G} (hG : rv_GK G) {d : Nat} (hd : 2 ≤ d) {σ : rv_S} {S F : List Nat} {b p : Nat} {ord : Nat → Nat} {its : List sp_I} {it : sp_I} {v : sp_V} {kb : Nat → Option Nat} (hc : mCfg σ S F b ord its) (hit : its[p]? = some it) (hk0 : it.1 ≠ 0) (hv : mVal σ v) (hk : mKb σ kb) (hok : sp_ok v it) : mC G d yX4_holds wX4_holds [.int (nI (ord p)), .int (nI p)] σ (mPz (fun r τ => mHold σ v kb p (sp_alt F (fun _ => true) it v) r τ)) := by
  refine mv_start hG (by decide +kernel) (Nat.le_of_ble_eq_true rfl) (fun X Hb o hX1 hX hE => ?_)
  subst hX1
  show rv_V X (rv_mh Hb o _) 0 [some (.ref o), some (.int (nI (ord p))), some (.int (nI p)), none, none, none, none] []
  have hp0 := (List.getElem?_eq_some_iff.mp hit).1
  have hp6 : p < 6 := Nat.lt_of_lt_of_le hp0 hc.2.2.2.2.2.1
  have hord := (hc.2.2.2.2.2.2.1 p hp0).2
  have hb17 := hc.2.2.2.2.1
  obtain ⟨hS8, hF', hmt, -, -, -, -, hits⟩ := hc
  obtain ⟨hI, hwf⟩ := hits p it hit
  have hlen := hwf.len hS8.2.2.1
  obtain ⟨w1, w2, w3, w4, w5⟩ := hwf
  have hF6 := hF'.2.1
  have hS88 := hS8.2.1
  obtain ⟨t0, ht0⟩ : ∃ t, it.2.2[0]? = some t := ⟨it.2.2[0], List.getElem?_eq_getElem (by omega)⟩
  have ht08 := w5 t0 (List.mem_of_getElem? ht0)
  obtain ⟨a0, ha0⟩ : ∃ a, sp_val v t0 = some a := by
    refine Option.isSome_iff_exists.mp ?_
    by_cases e : it.1 = 1
    · exact hok.1 e t0 (List.mem_of_getElem? ht0)
    · have := hok.2 (by omega) 0 (by decide)
      rw [sp_getD ht0] at this
      exact this
  have ha01 := sp_val_lt hv.2 ha0
  have hg0 : sp_get v it.2.2 0 = a0 := by unfold sp_get; rw [sp_getD ht0, ha0]; rfl
  have loop : it.1 = 1 → ∀ (n s a : Nat), s ≤ it.2.2.length → it.2.2.length - s < n → a + sp_sum v (it.2.2.drop s) s = sp_num v it.2.1 it.2.2 → a < 8000000 → rv_V X (rv_mh Hb o σ) 48 [some (.ref o), some (.int (nI (ord p))), some (.int (nI p)), some (.int (nI it.1)), some (.int (nI a0)), some (.int (nI a)), some (.int (nI s))] [] := by
    intro h1
    have hSw := w2 (by omega)
    have hlt := (List.getElem?_eq_some_iff.mp hSw).1
    intro n
    induction n with
    | zero => intro s a h1 h2; omega
    | succ n ih =>
      intro s a hs hn ha ha8
      have hnum : sp_num v it.2.1 it.2.2 < 8000000 := by
        have := sp_sum_lt hv.2 it.2.2 hlen.2
        unfold sp_num
        omega
      refine rv_iload hX dX4_holds_48 rfl ?_
      refine rv_aload_n hX dX4_holds_50 rfl ?_
      refine mv_ga hX (k := 2) (j := 2) gX4_13_X4 (by decide) rfl (by decide) dX4_holds_51 ?_
      refine rv_aload_n hX dX4_holds_54 rfl ?_
      refine rv_aload_n hX dX4_holds_55 rfl ?_
      refine mv_gi hX (k := 31) gX4_155_X4 (by decide) rfl dX4_holds_56 ?_
      rw [hmt]
      refine rv_iload_n hX dX4_holds_59 rfl ?_
      refine mv_calli hX iX4_152 rfl mdX4_whatOf (m_whatOf hG (d := d - 1) (by omega)) (by omega) rfl rfl (Nat.le_of_ble_eq_true rfl) dX4_holds_60 (fun r_60 τ_60 h_60 => ?_)
      obtain ⟨rfl, rfl⟩ := h_60
      rw [hI.2.1]
      refine mv_ld hX (j := 2) (by decide) (by decide) rfl (by decide) (show _ < 8 by omega) dX4_holds_63 ?_
      rw [hS8.2.2.2 _ _ hSw]
      first | refine nv_icmp_ge hX 99 (by omega) (by omega) dX4_holds_64 (by decide) (fun c_64 => ?_) (fun c_64 => ?_) | refine rv_icmp_ge hX 99 dX4_holds_64 (by decide) (fun c_64 => ?_) (fun c_64 => ?_)
      · skip
        have hse : s = it.2.2.length := by omega
        rw [hse, List.drop_length] at ha
        have ha9 : a = sp_num v it.2.1 it.2.2 := ha
        refine rv_aload_n hX dX4_holds_99 rfl ?_
        refine rv_iload hX dX4_holds_100 rfl ?_
        refine mv_calli hX iX4_192 rfl mdX4_indexOf (m_indexOf hG (d := d - 1) hF' (by omega)) (by omega) rfl rfl (Nat.le_of_ble_eq_true rfl) dX4_holds_102 (fun r_102 τ_102 h_102 => ?_)
        obtain ⟨rfl, hr⟩ := h_102
        refine rv_iconst hX (v := -1) dX4_holds_105 (by decide) ?_
        first | refine nv_icmp_ne hX 113 (by omega) (by omega) dX4_holds_106 (by decide) (fun c_106 => ?_) (fun c_106 => ?_) | refine rv_icmp_ne hX 113 dX4_holds_106 (by decide) (fun c_106 => ?_) (fun c_106 => ?_)
        · skip
          refine nv_iconst hX (m := 0) (by decide) dX4_holds_113 ?_
          refine mv_retz hX hE (b := false) rfl dX4_holds_114 ?_
          first
            | (refine mHold.yes ?_ hv hk
               rw [sp_alt_not h1, if_neg]
               rcases hr with ⟨g1, g2⟩ | ⟨k, g1, g2⟩
               · rw [← ha9]; exact g1
               · rw [g2] at c_106
                 have hkl := (List.getElem?_eq_some_iff.mp g1).1
                 exact absurd c_106 (nI_m1 (by omega)))
            | (refine mHold.no ?_ hv hk
               rw [sp_alt_not h1, if_pos]
               rcases hr with ⟨g1, g2⟩ | ⟨k, g1, g2⟩
               · exact absurd g2 c_106
               · rw [← ha9]; exact List.mem_of_getElem? g1)
        · skip
          refine nv_iconst hX (m := 1) (by decide) dX4_holds_109 ?_
          refine rv_goto hX 114 dX4_holds_110 (by decide) ?_
          refine mv_retz hX hE (b := true) rfl dX4_holds_114 ?_
          first
            | (refine mHold.yes ?_ hv hk
               rw [sp_alt_not h1, if_neg]
               rcases hr with ⟨g1, g2⟩ | ⟨k, g1, g2⟩
               · rw [← ha9]; exact g1
               · rw [g2] at c_106
                 have hkl := (List.getElem?_eq_some_iff.mp g1).1
                 exact absurd c_106 (nI_m1 (by omega)))
            | (refine mHold.no ?_ hv hk
               rw [sp_alt_not h1, if_pos]
               rcases hr with ⟨g1, g2⟩ | ⟨k, g1, g2⟩
               · exact absurd g2 c_106
               · rw [← ha9]; exact List.mem_of_getElem? g1)
      · skip
        obtain ⟨t, ht⟩ : ∃ t, it.2.2[s]? = some t := ⟨it.2.2[s], List.getElem?_eq_getElem (by omega)⟩
        have ht8 := w5 t (List.mem_of_getElem? ht)
        obtain ⟨x, hx⟩ := Option.isSome_iff_exists.mp (hok.1 h1 t (List.mem_of_getElem? ht))
        have hx1 := sp_val_lt hv.2 hx
        refine rv_iload hX dX4_holds_67 rfl ?_
        refine rv_iload hX dX4_holds_69 rfl ?_
        refine sv_calli hX iX4_189 mdX4_weight (m_weight hG (d := d - 1) (by omega)) (by omega) rfl rfl (Nat.le_of_ble_eq_true rfl) dX4_holds_71 (fun r_71 h_71 => ?_)
        obtain rfl := h_71
        refine rv_aload_n hX dX4_holds_74 rfl ?_
        refine rv_aload_n hX dX4_holds_75 rfl ?_
        refine rv_aload_n hX dX4_holds_76 rfl ?_
        refine mv_gi hX (k := 31) gX4_155_X4 (by decide) rfl dX4_holds_77 ?_
        rw [hmt]
        refine rv_iload_n hX dX4_holds_80 rfl ?_
        refine rv_iload hX dX4_holds_81 rfl ?_
        refine mv_calli hX iX4_172 rfl mdX4_termOf (m_termOf hG (d := d - 1) (by omega)) (by omega) rfl rfl (Nat.le_of_ble_eq_true rfl) dX4_holds_83 (fun r_83 τ_83 h_83 => ?_)
        obtain ⟨rfl, rfl⟩ := h_83
        rw [hI.2.2 s t ht]
        refine mv_calli hX iX4_168 rfl mdX4_valueOf (m_valueOf hG (d := d - 1) hv ht8) (by omega) rfl rfl (Nat.le_of_ble_eq_true rfl) dX4_holds_86 (fun r_86 τ_86 h_86 => ?_)
        obtain ⟨rfl, rfl⟩ := h_86
        rw [hx]
        show rv_V X _ _ _ (.int (nI x) :: _)
        first | refine nv_imul hX dX4_holds_89 ?_ | refine rv_imul hX dX4_holds_89 ?_
        first | refine nv_iadd hX dX4_holds_90 ?_ | refine rv_iadd hX dX4_holds_90 ?_
        refine rv_istore hX dX4_holds_91 (rv_st_5 rfl) ?_
        first | refine nv_iinc hX (m := 1) dX4_holds_93 rfl (by decide) (rv_st_6 rfl) ?_ | refine rv_iinc hX dX4_holds_93 rfl rfl (rv_st_6 rfl) ?_
        refine rv_goto hX 48 dX4_holds_96 (by decide) ?_
        have hdrop : it.2.2.drop s = t :: it.2.2.drop (s + 1) := by
          have e1 := List.drop_eq_getElem_cons (l := it.2.2) (i := s) (by omega)
          rw [e1]
          congr 1
          have e2 := List.getElem?_eq_getElem (l := it.2.2) (i := s) (by omega)
          rw [ht] at e2
          exact (Option.some.inj e2).symm
        rw [hdrop] at ha
        have e3 : sp_sum v (t :: it.2.2.drop (s + 1)) s = sp_wt s * x + sp_sum v (it.2.2.drop (s + 1)) (s + 1) := by
          show sp_wt s * (sp_val v t).getD 0 + _ = _
          rw [hx]
          rfl
        rw [e3] at ha
        refine ih (s + 1) _ (by omega) (by omega) (by omega) ?_
        omega
  refine rv_aload_n hX dX4_holds_0 rfl ?_
  refine rv_aload_n hX dX4_holds_1 rfl ?_
  refine mv_gi hX (k := 31) gX4_155_X4 (by decide) rfl dX4_holds_2 ?_
  rw [hmt]
  refine rv_iload_n hX dX4_holds_5 rfl ?_
  refine mv_calli hX iX4_148 rfl mdX4_kindOf (m_kindOf hG (d := d - 1) (by omega)) (by omega) rfl rfl (Nat.le_of_ble_eq_true rfl) dX4_holds_6 (fun r_6 τ_6 h_6 => ?_)
  obtain ⟨rfl, rfl⟩ := h_6
  rw [hI.1]
  refine rv_istore_n hX dX4_holds_9 (rv_st_3 rfl) ?_
  refine rv_aload_n hX dX4_holds_10 rfl ?_
  refine rv_aload_n hX dX4_holds_11 rfl ?_
  refine rv_aload_n hX dX4_holds_12 rfl ?_
  refine mv_gi hX (k := 31) gX4_155_X4 (by decide) rfl dX4_holds_13 ?_
  rw [hmt]
  refine rv_iload_n hX dX4_holds_16 rfl ?_
  refine nv_iconst hX (m := 0) (by decide) dX4_holds_17 ?_
  refine mv_calli hX iX4_172 rfl mdX4_termOf (m_termOf hG (d := d - 1) (by omega)) (by omega) rfl rfl (Nat.le_of_ble_eq_true rfl) dX4_holds_18 (fun r_18 τ_18 h_18 => ?_)
  obtain ⟨rfl, rfl⟩ := h_18
  rw [hI.2.2 0 t0 ht0]
  refine mv_calli hX iX4_168 rfl mdX4_valueOf (m_valueOf hG (d := d - 1) hv ht08) (by omega) rfl rfl (Nat.le_of_ble_eq_true rfl) dX4_holds_21 (fun r_21 τ_21 h_21 => ?_)
  obtain ⟨rfl, rfl⟩ := h_21
  rw [ha0]
  show rv_V X _ _ _ (.int (nI a0) :: _)
  refine rv_istore hX dX4_holds_24 (rv_st_4 rfl) ?_
  refine rv_iload_n hX dX4_holds_26 rfl ?_
  refine nv_iconst hX (m := 1) (by decide) dX4_holds_27 ?_
  first | refine nv_icmp_ne hX 115 (by omega) (by omega) dX4_holds_28 (by decide) (fun c_28 => ?_) (fun c_28 => ?_) | refine rv_icmp_ne hX 115 dX4_holds_28 (by decide) (fun c_28 => ?_) (fun c_28 => ?_)
  · skip
    have hk2 : 2 ≤ it.1 := by omega
    have hlen2 : 2 ≤ it.2.2.length := by
      by_cases e : it.1 = 2
      · have := (w3 e).2; omega
      · have := (w4 (by omega)).2; omega
    obtain ⟨t1, ht1⟩ : ∃ t, it.2.2[1]? = some t := ⟨it.2.2[1], List.getElem?_eq_getElem (by omega)⟩
    have ht18 := w5 t1 (List.mem_of_getElem? ht1)
    obtain ⟨a1, ha1⟩ : ∃ a, sp_val v t1 = some a := by
      have := hok.2 hk2 1 (by decide)
      rw [sp_getD ht1] at this
      exact Option.isSome_iff_exists.mp this
    have ha11 := sp_val_lt hv.2 ha1
    have hg1 : sp_get v it.2.2 1 = a1 := by unfold sp_get; rw [sp_getD ht1, ha1]; rfl
    refine rv_aload_n hX dX4_holds_115 rfl ?_
    refine rv_aload_n hX dX4_holds_116 rfl ?_
    refine rv_aload_n hX dX4_holds_117 rfl ?_
    refine mv_gi hX (k := 31) gX4_155_X4 (by decide) rfl dX4_holds_118 ?_
    rw [hmt]
    refine rv_iload_n hX dX4_holds_121 rfl ?_
    refine nv_iconst hX (m := 1) (by decide) dX4_holds_122 ?_
    refine mv_calli hX iX4_172 rfl mdX4_termOf (m_termOf hG (d := d - 1) (by omega)) (by omega) rfl rfl (Nat.le_of_ble_eq_true rfl) dX4_holds_123 (fun r_123 τ_123 h_123 => ?_)
    obtain ⟨rfl, rfl⟩ := h_123
    rw [hI.2.2 1 t1 ht1]
    refine mv_calli hX iX4_168 rfl mdX4_valueOf (m_valueOf hG (d := d - 1) hv ht18) (by omega) rfl rfl (Nat.le_of_ble_eq_true rfl) dX4_holds_126 (fun r_126 τ_126 h_126 => ?_)
    obtain ⟨rfl, rfl⟩ := h_126
    rw [ha1]
    show rv_V X _ _ _ (.int (nI a1) :: _)
    refine rv_istore hX dX4_holds_129 (rv_st_5 rfl) ?_
    refine rv_iload_n hX dX4_holds_131 rfl ?_
    refine nv_iconst hX (m := 2) (by decide) dX4_holds_132 ?_
    first | refine nv_icmp_ne hX 201 (by omega) (by omega) dX4_holds_133 (by decide) (fun c_133 => ?_) (fun c_133 => ?_) | refine rv_icmp_ne hX 201 dX4_holds_133 (by decide) (fun c_133 => ?_) (fun c_133 => ?_)
    · skip
      have hk3 : 3 ≤ it.1 := by omega
      have hlen3 := (w4 (by omega)).2
      obtain ⟨t2, ht2⟩ : ∃ t, it.2.2[2]? = some t := ⟨it.2.2[2], List.getElem?_eq_getElem (by omega)⟩
      have ht28 := w5 t2 (List.mem_of_getElem? ht2)
      refine rv_iload hX dX4_holds_201 rfl ?_
      refine rv_iload hX dX4_holds_203 rfl ?_
      first | refine nv_iadd hX dX4_holds_205 ?_ | refine rv_iadd hX dX4_holds_205 ?_
      refine nv_bipush hX (m := 100) (by decide) dX4_holds_206 ?_
      first | refine nv_icmp_ge hX 238 (by omega) (by omega) dX4_holds_208 (by decide) (fun c_208 => ?_) (fun c_208 => ?_) | refine rv_icmp_ge hX 238 dX4_holds_208 (by decide) (fun c_208 => ?_) (fun c_208 => ?_)
      · skip
        refine nv_iconst hX (m := 0) (by decide) dX4_holds_238 ?_
        refine mv_retz hX hE (b := false) rfl dX4_holds_239 ?_
        first
          | (refine mHold.no ?_ hv hk
             rw [sp_alt_plus hk3, hg0, hg1, if_neg (by omega)])
          | (have hA : sp_alt F (fun _ => true) it v = ((sp_bind v t2 (a0 + a1)).map (fun w => (0, w))).toList := by
               rw [sp_alt_plus hk3, hg0, hg1, if_pos (by omega), sp_getD ht2]
             cases hbd : sp_bind v t2 (a0 + a1) with
             | none =>
               rw [hbd] at g1 g2 g3 hA
               first
                 | exact absurd (g1.mp c_231) (by simp)
                 | (rw [Option.getD_none] at g2 g3
                    rw [sp_kb_self] at g3
                    exact ⟨g4, Or.inl ⟨hA, rfl, g2, g3⟩⟩)
             | some u =>
               rw [hbd] at g1 g2 g3 hA
               first
                 | exact absurd (g1.mpr rfl) (by rw [c_231]; decide)
                 | (rw [Option.getD_some] at g2 g3
                    exact ⟨g4, Or.inr ⟨u, hA, rfl, g2, g3, sp_bind_le hbd⟩⟩))
      · skip
        refine rv_aload_n hX dX4_holds_211 rfl ?_
        refine rv_aload_n hX dX4_holds_212 rfl ?_
        refine rv_aload_n hX dX4_holds_213 rfl ?_
        refine mv_gi hX (k := 31) gX4_155_X4 (by decide) rfl dX4_holds_214 ?_
        rw [hmt]
        refine rv_iload_n hX dX4_holds_217 rfl ?_
        refine nv_iconst hX (m := 2) (by decide) dX4_holds_218 ?_
        refine mv_calli hX iX4_172 rfl mdX4_termOf (m_termOf hG (d := d - 1) (by omega)) (by omega) rfl rfl (Nat.le_of_ble_eq_true rfl) dX4_holds_219 (fun r_219 τ_219 h_219 => ?_)
        obtain ⟨rfl, rfl⟩ := h_219
        rw [hI.2.2 2 t2 ht2]
        refine rv_iload hX dX4_holds_222 rfl ?_
        refine rv_iload hX dX4_holds_224 rfl ?_
        first | refine nv_iadd hX dX4_holds_226 ?_ | refine rv_iadd hX dX4_holds_226 ?_
        refine rv_iload_n hX dX4_holds_227 rfl ?_
        refine mv_callz hX iX4_179 rfl mdX4_fits (m_fits hG (d := d - 1) (by omega) hv hk ht28 (show a0 + a1 < 100 by omega) (p := some p) (fun q e => by cases e; exact hp6)) (by omega) rfl rfl (Nat.le_of_ble_eq_true rfl) dX4_holds_228 (fun r_228 τ_228 h_228 => ?_)
        obtain ⟨g1, g2, g3, g4⟩ := h_228
        first | refine zv_if_eq hX 238 dX4_holds_231 (by decide) (fun c_231 => ?_) (fun c_231 => ?_) | refine nv_if_eq hX 238 (by omega) dX4_holds_231 (by decide) (fun c_231 => ?_) (fun c_231 => ?_) | refine rv_if_eq hX 238 dX4_holds_231 (by decide) (fun c_231 => ?_) (fun c_231 => ?_)
        · skip
          refine nv_iconst hX (m := 0) (by decide) dX4_holds_238 ?_
          refine mv_retz hX hE (b := false) rfl dX4_holds_239 ?_
          first
            | (refine mHold.no ?_ hv hk
               rw [sp_alt_plus hk3, hg0, hg1, if_neg (by omega)])
            | (have hA : sp_alt F (fun _ => true) it v = ((sp_bind v t2 (a0 + a1)).map (fun w => (0, w))).toList := by
                 rw [sp_alt_plus hk3, hg0, hg1, if_pos (by omega), sp_getD ht2]
               cases hbd : sp_bind v t2 (a0 + a1) with
               | none =>
                 rw [hbd] at g1 g2 g3 hA
                 first
                   | exact absurd (g1.mp c_231) (by simp)
                   | (rw [Option.getD_none] at g2 g3
                      rw [sp_kb_self] at g3
                      exact ⟨g4, Or.inl ⟨hA, rfl, g2, g3⟩⟩)
               | some u =>
                 rw [hbd] at g1 g2 g3 hA
                 first
                   | exact absurd (g1.mpr rfl) (by rw [c_231]; decide)
                   | (rw [Option.getD_some] at g2 g3
                      exact ⟨g4, Or.inr ⟨u, hA, rfl, g2, g3, sp_bind_le hbd⟩⟩))
        · skip
          refine nv_iconst hX (m := 1) (by decide) dX4_holds_234 ?_
          refine rv_goto hX 239 dX4_holds_235 (by decide) ?_
          refine mv_retz hX hE (b := true) rfl dX4_holds_239 ?_
          first
            | (refine mHold.no ?_ hv hk
               rw [sp_alt_plus hk3, hg0, hg1, if_neg (by omega)])
            | (have hA : sp_alt F (fun _ => true) it v = ((sp_bind v t2 (a0 + a1)).map (fun w => (0, w))).toList := by
                 rw [sp_alt_plus hk3, hg0, hg1, if_pos (by omega), sp_getD ht2]
               cases hbd : sp_bind v t2 (a0 + a1) with
               | none =>
                 rw [hbd] at g1 g2 g3 hA
                 first
                   | exact absurd (g1.mp c_231) (by simp)
                   | (rw [Option.getD_none] at g2 g3
                      rw [sp_kb_self] at g3
                      exact ⟨g4, Or.inl ⟨hA, rfl, g2, g3⟩⟩)
               | some u =>
                 rw [hbd] at g1 g2 g3 hA
                 first
                   | exact absurd (g1.mpr rfl) (by rw [c_231]; decide)
                   | (rw [Option.getD_some] at g2 g3
                      exact ⟨g4, Or.inr ⟨u, hA, rfl, g2, g3, sp_bind_le hbd⟩⟩))
    · skip
      refine rv_aload_n hX dX4_holds_136 rfl ?_
      refine rv_aload_n hX dX4_holds_137 rfl ?_
      refine mv_gi hX (k := 31) gX4_155_X4 (by decide) rfl dX4_holds_138 ?_
      rw [hmt]
      refine rv_iload_n hX dX4_holds_141 rfl ?_
      refine mv_calli hX iX4_152 rfl mdX4_whatOf (m_whatOf hG (d := d - 1) (by omega)) (by omega) rfl rfl (Nat.le_of_ble_eq_true rfl) dX4_holds_142 (fun r_142 τ_142 h_142 => ?_)
      obtain ⟨rfl, rfl⟩ := h_142
      rw [hI.2.1]
      have hw22 := (w3 c_133).1
      refine rv_istore hX dX4_holds_145 (rv_st_6 rfl) ?_
      refine rv_iload hX dX4_holds_147 rfl ?_
      first | refine zv_if_ne hX 167 dX4_holds_149 (by decide) (fun c_149 => ?_) (fun c_149 => ?_) | refine nv_if_ne hX 167 (by omega) dX4_holds_149 (by decide) (fun c_149 => ?_) (fun c_149 => ?_) | refine rv_if_ne hX 167 dX4_holds_149 (by decide) (fun c_149 => ?_) (fun c_149 => ?_)
      · skip
        refine rv_iload hX dX4_holds_167 rfl ?_
        refine nv_iconst hX (m := 1) (by decide) dX4_holds_169 ?_
        first | refine nv_icmp_ne hX 188 (by omega) (by omega) dX4_holds_170 (by decide) (fun c_170 => ?_) (fun c_170 => ?_) | refine rv_icmp_ne hX 188 dX4_holds_170 (by decide) (fun c_170 => ?_) (fun c_170 => ?_)
        · skip
          refine rv_iload hX dX4_holds_188 rfl ?_
          refine rv_iload hX dX4_holds_190 rfl ?_
          first | refine nv_icmp_ge hX 199 (by omega) (by omega) dX4_holds_192 (by decide) (fun c_192 => ?_) (fun c_192 => ?_) | refine rv_icmp_ge hX 199 dX4_holds_192 (by decide) (fun c_192 => ?_) (fun c_192 => ?_)
          · skip
            refine nv_iconst hX (m := 0) (by decide) dX4_holds_199 ?_
            refine mv_retz hX hE (b := false) rfl dX4_holds_200 ?_
            first
              | (refine mHold.yes ?_ hv hk
                 rw [sp_alt_test c_133, hg0, hg1, if_pos]
                 unfold sp_test
                 first
                   | (rw [if_pos (by omega)]; exact decide_eq_true (by omega))
                   | (rw [if_neg (by omega), if_pos (by omega)]; exact decide_eq_true (by omega))
                   | (rw [if_neg (by omega), if_neg (by omega)]; exact decide_eq_true (by omega)))
              | (refine mHold.no ?_ hv hk
                 rw [sp_alt_test c_133, hg0, hg1, if_neg]
                 unfold sp_test
                 first
                   | (rw [if_pos (by omega)]; exact fun h => absurd (of_decide_eq_true h) (by omega))
                   | (rw [if_neg (by omega), if_pos (by omega)]; exact fun h => absurd (of_decide_eq_true h) (by omega))
                   | (rw [if_neg (by omega), if_neg (by omega)]; exact fun h => absurd (of_decide_eq_true h) (by omega)))
          · skip
            refine nv_iconst hX (m := 1) (by decide) dX4_holds_195 ?_
            refine rv_goto hX 200 dX4_holds_196 (by decide) ?_
            refine mv_retz hX hE (b := true) rfl dX4_holds_200 ?_
            first
              | (refine mHold.yes ?_ hv hk
                 rw [sp_alt_test c_133, hg0, hg1, if_pos]
                 unfold sp_test
                 first
                   | (rw [if_pos (by omega)]; exact decide_eq_true (by omega))
                   | (rw [if_neg (by omega), if_pos (by omega)]; exact decide_eq_true (by omega))
                   | (rw [if_neg (by omega), if_neg (by omega)]; exact decide_eq_true (by omega)))
              | (refine mHold.no ?_ hv hk
                 rw [sp_alt_test c_133, hg0, hg1, if_neg]
                 unfold sp_test
                 first
                   | (rw [if_pos (by omega)]; exact fun h => absurd (of_decide_eq_true h) (by omega))
                   | (rw [if_neg (by omega), if_pos (by omega)]; exact fun h => absurd (of_decide_eq_true h) (by omega))
                   | (rw [if_neg (by omega), if_neg (by omega)]; exact fun h => absurd (of_decide_eq_true h) (by omega)))
        · skip
          refine rv_iload hX dX4_holds_173 rfl ?_
          refine rv_iload hX dX4_holds_175 rfl ?_
          first | refine nv_icmp_eq hX 184 (by omega) (by omega) dX4_holds_177 (by decide) (fun c_177 => ?_) (fun c_177 => ?_) | refine rv_icmp_eq hX 184 dX4_holds_177 (by decide) (fun c_177 => ?_) (fun c_177 => ?_)
          · skip
            refine nv_iconst hX (m := 0) (by decide) dX4_holds_184 ?_
            refine rv_goto hX 200 dX4_holds_185 (by decide) ?_
            refine mv_retz hX hE (b := false) rfl dX4_holds_200 ?_
            first
              | (refine mHold.yes ?_ hv hk
                 rw [sp_alt_test c_133, hg0, hg1, if_pos]
                 unfold sp_test
                 first
                   | (rw [if_pos (by omega)]; exact decide_eq_true (by omega))
                   | (rw [if_neg (by omega), if_pos (by omega)]; exact decide_eq_true (by omega))
                   | (rw [if_neg (by omega), if_neg (by omega)]; exact decide_eq_true (by omega)))
              | (refine mHold.no ?_ hv hk
                 rw [sp_alt_test c_133, hg0, hg1, if_neg]
                 unfold sp_test
                 first
                   | (rw [if_pos (by omega)]; exact fun h => absurd (of_decide_eq_true h) (by omega))
                   | (rw [if_neg (by omega), if_pos (by omega)]; exact fun h => absurd (of_decide_eq_true h) (by omega))
                   | (rw [if_neg (by omega), if_neg (by omega)]; exact fun h => absurd (of_decide_eq_true h) (by omega)))
          · skip
            refine nv_iconst hX (m := 1) (by decide) dX4_holds_180 ?_
            refine rv_goto hX 200 dX4_holds_181 (by decide) ?_
            refine mv_retz hX hE (b := true) rfl dX4_holds_200 ?_
            first
              | (refine mHold.yes ?_ hv hk
                 rw [sp_alt_test c_133, hg0, hg1, if_pos]
                 unfold sp_test
                 first
                   | (rw [if_pos (by omega)]; exact decide_eq_true (by omega))
                   | (rw [if_neg (by omega), if_pos (by omega)]; exact decide_eq_true (by omega))
                   | (rw [if_neg (by omega), if_neg (by omega)]; exact decide_eq_true (by omega)))
              | (refine mHold.no ?_ hv hk
                 rw [sp_alt_test c_133, hg0, hg1, if_neg]
                 unfold sp_test
                 first
                   | (rw [if_pos (by omega)]; exact fun h => absurd (of_decide_eq_true h) (by omega))
                   | (rw [if_neg (by omega), if_pos (by omega)]; exact fun h => absurd (of_decide_eq_true h) (by omega))
                   | (rw [if_neg (by omega), if_neg (by omega)]; exact fun h => absurd (of_decide_eq_true h) (by omega)))
      · skip
        refine rv_iload hX dX4_holds_152 rfl ?_
        refine rv_iload hX dX4_holds_154 rfl ?_
        first | refine nv_icmp_ne hX 163 (by omega) (by omega) dX4_holds_156 (by decide) (fun c_156 => ?_) (fun c_156 => ?_) | refine rv_icmp_ne hX 163 dX4_holds_156 (by decide) (fun c_156 => ?_) (fun c_156 => ?_)
        · skip
          refine nv_iconst hX (m := 0) (by decide) dX4_holds_163 ?_
          refine rv_goto hX 200 dX4_holds_164 (by decide) ?_
          refine mv_retz hX hE (b := false) rfl dX4_holds_200 ?_
          first
            | (refine mHold.yes ?_ hv hk
               rw [sp_alt_test c_133, hg0, hg1, if_pos]
               unfold sp_test
               first
                 | (rw [if_pos (by omega)]; exact decide_eq_true (by omega))
                 | (rw [if_neg (by omega), if_pos (by omega)]; exact decide_eq_true (by omega))
                 | (rw [if_neg (by omega), if_neg (by omega)]; exact decide_eq_true (by omega)))
            | (refine mHold.no ?_ hv hk
               rw [sp_alt_test c_133, hg0, hg1, if_neg]
               unfold sp_test
               first
                 | (rw [if_pos (by omega)]; exact fun h => absurd (of_decide_eq_true h) (by omega))
                 | (rw [if_neg (by omega), if_pos (by omega)]; exact fun h => absurd (of_decide_eq_true h) (by omega))
                 | (rw [if_neg (by omega), if_neg (by omega)]; exact fun h => absurd (of_decide_eq_true h) (by omega)))
        · skip
          refine nv_iconst hX (m := 1) (by decide) dX4_holds_159 ?_
          refine rv_goto hX 200 dX4_holds_160 (by decide) ?_
          refine mv_retz hX hE (b := true) rfl dX4_holds_200 ?_
          first
            | (refine mHold.yes ?_ hv hk
               rw [sp_alt_test c_133, hg0, hg1, if_pos]
               unfold sp_test
               first
                 | (rw [if_pos (by omega)]; exact decide_eq_true (by omega))
                 | (rw [if_neg (by omega), if_pos (by omega)]; exact decide_eq_true (by omega))
                 | (rw [if_neg (by omega), if_neg (by omega)]; exact decide_eq_true (by omega)))
            | (refine mHold.no ?_ hv hk
               rw [sp_alt_test c_133, hg0, hg1, if_neg]
               unfold sp_test
               first
                 | (rw [if_pos (by omega)]; exact fun h => absurd (of_decide_eq_true h) (by omega))
                 | (rw [if_neg (by omega), if_pos (by omega)]; exact fun h => absurd (of_decide_eq_true h) (by omega))
                 | (rw [if_neg (by omega), if_neg (by omega)]; exact fun h => absurd (of_decide_eq_true h) (by omega)))
  · skip
    refine rv_ldc hX q2291 dX4_holds_31 ?_
    rw [show (1000000 : Int32) = nI 1000000 from by decide]
    refine rv_aload_n hX dX4_holds_33 rfl ?_
    refine rv_aload_n hX dX4_holds_34 rfl ?_
    refine mv_gi hX (k := 31) gX4_155_X4 (by decide) rfl dX4_holds_35 ?_
    rw [hmt]
    refine rv_iload_n hX dX4_holds_38 rfl ?_
    refine mv_calli hX iX4_152 rfl mdX4_whatOf (m_whatOf hG (d := d - 1) (by omega)) (by omega) rfl rfl (Nat.le_of_ble_eq_true rfl) dX4_holds_39 (fun r_39 τ_39 h_39 => ?_)
    obtain ⟨rfl, rfl⟩ := h_39
    rw [hI.2.1]
    first | refine nv_imul hX dX4_holds_42 ?_ | refine rv_imul hX dX4_holds_42 ?_
    refine rv_istore hX dX4_holds_43 (rv_st_5 rfl) ?_
    refine nv_iconst hX (m := 0) (by decide) dX4_holds_45 ?_
    refine rv_istore hX dX4_holds_46 (rv_st_6 rfl) ?_
    have hwl := (List.getElem?_eq_some_iff.mp (w2 (by omega))).1
    exact loop c_28 (it.2.2.length + 1) 0 _ (Nat.zero_le _) (by omega) rfl (by omega)
