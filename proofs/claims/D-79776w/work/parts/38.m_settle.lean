/-! THE REFERENCE: what stands is found -/
set_option maxRecDepth 100000
theorem mRel.same2 {fs js : List Nat} {σ τ : rv_S} {S : List Nat} (h : mRel σ S) (hs : rv_same fs js σ τ) (h0 : τ.2.1 1 0 = σ.2.1 1 0) (h2 : 2 ∉ js) : mRel τ S := by
  obtain ⟨a, b, c, d⟩ := h
  exact ⟨by rw [h0]; exact a, b, c, fun k f hk => by rw [hs.2.1 2 h2]; exact d k f hk⟩
theorem mRules.same2 {fs js : List Nat} {σ τ : rv_S} {S : List Nat} {R : List sp_C} (h : mRules σ S R) (hs : rv_same fs js σ τ) (h0 : τ.2.1 1 0 = σ.2.1 1 0) (h01 : τ.2.1 1 1 = σ.2.1 1 1) (h1 : ∀ j, j ∈ [2, 3, 4, 5, 6, 7, 8, 9, 10, 11, 12] → j ∉ js) : mRules τ S R := ⟨h.1.same2 hs h0 (h1 2 (by decide)), by rw [h01]; exact h.2.1, h.2.2.1, fun i C e => ⟨(h.2.2.2 i C e).1.same hs (fun j hj => h1 j (by revert j; decide)), (h.2.2.2 i C e).2⟩⟩
theorem sp_chain_pre {R : List sp_C} {st : Nat → Nat} {F : List Nat} : ∀ {n s : Nat} {G : List Nat}, s ≤ n → sp_chain R st n F G → ∃ H, sp_chain R st s F H := by
  intro n
  induction n with
  | zero => intro s G h hc; have : s = 0 := by omega
            subst this
            exact ⟨G, hc⟩
  | succ n ih =>
    intro s G h hc
    by_cases e : s = n + 1
    · subst e
      exact ⟨G, hc⟩
    · obtain ⟨H, h1, h2⟩ := hc
      exact ih (by omega) h1
theorem sp_no {R : List sp_C} {st : Nat → Nat} {T F0 H cur W : List Nat} {s : Nat} (hb : sp_srt F0 ∧ F0.length ≤ 60 ∧ ∀ x, x ∈ F0 ↔ x ∈ T) (hc : sp_chain R st s F0 H) (hs : s < 8) (h1 : ∀ G', sp_up1 st s H G' → sp_cls R st s G' → ∀ f, f ∈ cur → f ∈ G') (h2 : ∀ G', sp_up1 st s H G' → sp_cls R st s G' → ∀ f, f ∈ W → f ∈ G') (hcr : sp_crowd cur W) : ¬ ∃ G, sp_stl R st T G := by
  rintro ⟨G, F1, f1, f2, f3, f4⟩
  have e := sp_srt_uniq hb.1 f1 (fun x => (hb.2.2 x).trans (f3 x).symm)
  subst e
  obtain ⟨H2, K, k1, k2⟩ := sp_chain_pre (show s + 1 ≤ 8 by omega) f4
  have e := sp_chain_uniq hc k1
  subst e
  have := hcr H2 k2.1.1 (h1 H2 k2.1 k2.2.2.1) (h2 H2 k2.1 k2.2.2.1)
  have := k2.2.1
  omega
def mTold (σ : rv_S) (T : List Nat) : Prop := σ.2.1 1 5 = nI T.length ∧ T.length ≤ 61 ∧ ∀ (k f : Nat), T[k]? = some f → σ.2.1 13 k = nI f ∧ f < 8000000
def sp_rs (R : List sp_C) (st : Nat → Nat) (s : Nat) (H cur0 cur : List Nat) (b : Bool) (j : Nat) : Prop := sp_way R st s H cur ∧ (∀ x, x ∈ cur0 → x ∈ cur) ∧ (b = false → cur = cur0 ∧ ∀ C, C ∈ R.take j → st C.rel = s → ∀ f, f ∈ sp_give cur0 C → f ∈ cur0) ∧ (b = true → cur0.length < cur.length)
theorem sp_rs.skip {R : List sp_C} {st : Nat → Nat} {s : Nat} {H cur0 cur : List Nat} {b : Bool} {j : Nat} {C : sp_C} (h : sp_rs R st s H cur0 cur b j) (hC : R[j]? = some C) (hs : st C.rel ≠ s) : sp_rs R st s H cur0 cur b (j + 1) := by
  obtain ⟨a1, a2, a3, a4⟩ := h
  refine ⟨a1, a2, fun e => ⟨(a3 e).1, fun D hD hDs => ?_⟩, a4⟩
  rw [sp_take_get hC] at hD
  rcases List.mem_append.mp hD with q | q
  · exact (a3 e).2 D q hDs
  · rw [List.mem_singleton.mp q] at hDs
    exact absurd hDs hs
theorem sp_rs.give {S : List Nat} (hS : ∀ n, n ∈ S → 1 ≤ n ∧ n ≤ 3) {R : List sp_C} {st : Nat → Nat} {s : Nat} {H cur0 cur cur' : List Nat} {b r : Bool} {j : Nat} {C : sp_C} (h : sp_rs R st s H cur0 cur b j) (hC : R[j]? = some C) (hw : sp_wfC S C) (hl : C.hts.length ≤ 3) (hf : sp_fit st C) (hs : st C.rel = s) (hsr : sp_srt cur') (hx : ∀ x, x ∈ cur' ↔ x ∈ cur ∨ x ∈ sp_give cur C) (hr : r = true ↔ ∃ x, x ∈ sp_give cur C ∧ x ∉ cur) : sp_rs R st s H cur0 cur' (r || b) (j + 1) := by
  obtain ⟨a1, a2, a3, a4⟩ := h
  have hcm := List.mem_of_getElem? hC
  have hsub : ∀ x, x ∈ cur → x ∈ cur' := fun x q => (hx x).mpr (Or.inl q)
  have hlen := sp_nd_len (sp_srt_nd a1.1.1) hsub
  refine ⟨a1.step hS hcm hw hl hf hs hsr (fun x q => (hx x).mp q) hsub, fun x q => hsub x (a2 x q), fun e => ?_, fun e => ?_⟩
  · rw [Bool.or_eq_false_iff] at e
    obtain ⟨e1, e2⟩ := e
    have hno : ∀ x, x ∈ sp_give cur C → x ∈ cur := fun x hxg => by
      by_cases q : x ∈ cur
      · exact q
      · have := hr.mpr ⟨x, hxg, q⟩
        rw [e1] at this
        cases this
    have he : cur' = cur := sp_srt_uniq hsr a1.1.1 (fun x => ⟨fun q => ((hx x).mp q).elim id (hno x), hsub x⟩)
    obtain ⟨b1, b2⟩ := a3 e2
    refine ⟨he.trans b1, fun D hD hDs => ?_⟩
    rw [sp_take_get hC] at hD
    rcases List.mem_append.mp hD with q | q
    · exact b2 D q hDs
    · rw [List.mem_singleton.mp q]
      intro f hfm
      rw [← b1] at hfm ⊢
      exact hno f hfm
  · rw [Bool.or_eq_true] at e
    have hl0 := sp_nd_len (L := cur0) (G := cur)
    rcases e with e | e
    · obtain ⟨x, h1, h2⟩ := hr.mp e
      have hnd : (x :: cur).Nodup := List.nodup_cons.mpr ⟨h2, sp_srt_nd a1.1.1⟩
      have := sp_nd_len hnd (G := cur') (fun y hy => by
        rcases List.mem_cons.mp hy with rfl | hy
        · exact (hx y).mpr (Or.inr h1)
        · exact hsub y hy)
      rw [List.length_cons] at this
      cases hb : b with
      | false =>
        have := (a3 hb).1
        rw [← this]
        omega
      | true =>
        have := a4 hb
        omega
    · have := a4 e
      omega
theorem m_settle {G : rv_G} (hG : rv_GK G) {d : Nat} (hd : 8 ≤ d) {σ : rv_S} {S F T A : List Nat} {g : Nat} {R : List sp_C} {st dep : Nat → Nat} (hR : mRules σ S R) (hst : sp_strata R = some st) (hF : mFacts σ F) (hF60 : F.length ≤ 60) (hA : mTags σ A) (hAl : A.length = F.length) (hAg : ∀ t, t ∈ A → t ≤ g) (hg : σ.2.1 1 7 = nI g) (hg2 : g ≤ 1000000) (hT : mTold σ T) (hdp : mDep σ dep) : mC G d yX4_settle wX4_settle [] σ (mPz (fun r τ => rv_same [29, 30, 31, 32, 33, 34, 39] [1, 15, 16, 22, 23, 24, 25, 26, 27, 28, 29, 30, 31, 32, 33, 34] σ τ ∧ (∀ i, i ≠ 6 → i ≠ 7 → τ.2.1 1 i = σ.2.1 1 i) ∧ ∃ F', mFacts τ F' ∧ sp_srt F' ∧ F'.length ≤ 60 ∧ mTags τ (sp_gtags F A g F') ∧ τ.2.1 1 7 = nI (sp_gnew F A g F') ∧ ((r = true ∧ sp_stl R st T F') ∨ (r = false ∧ ¬ ∃ G, sp_stl R st T G)))) := by
  refine mv_start hG (by decide +kernel) (Nat.le_of_ble_eq_true rfl) (fun X Hb o hX1 hX hE => ?_)
  subst hX1
  show rv_V X (rv_mh Hb o _) 0 [some (.ref o), none, none, none, none, none, none] []
  have hfit := sp_strata_fit hst
  have hR10 := hR.2.2.1
  have hT61 := hT.2.1
  have main : ∀ (σ0 : rv_S) (y3 : Int32), rv_same [30] [1, 22, 23, 24] σ σ0 → (∀ i, i ≠ 6 → σ0.2.1 1 i = σ.2.1 1 i) → σ0.2.1 1 6 = nI 0 → σ0.1 30 = 0 → mStr σ0 st → (∀ (k f : Nat), F[k]? = some f → σ0.2.1 23 k = nI f) → (∀ (k t : Nat), A[k]? = some t → σ0.2.1 24 k = nI t) → rv_V X (rv_mh Hb o σ0) 56 [some (.ref o), some (.int (rv_z true)), some (.int (nI F.length)), some (.int y3), none, none, none] [] := by
    intro σ0 y3 hs0 hat0 hat6 h30 hstr h23 h24
    have hs0' := hs0.mn (fs' := [29, 30, 31, 32, 33, 34, 39]) (js' := [1, 15, 16, 22, 23, 24, 25, 26, 27, 28, 29, 30, 31, 32, 33, 34]) (by decide) (by decide)
    have hT0 : mTold σ0 T := ⟨by rw [hat0 5 (by decide)]; exact hT.1, hT.2.1, fun k f e => by rw [hs0.2.1 13 (by decide)]; exact hT.2.2 k f e⟩
    have hR0 : mRules σ0 S R := hR.same2 hs0 (hat0 0 (by decide)) (hat0 1 (by decide)) (by decide)
    have hD0 : mDep σ0 dep := hdp.same hs0 (by decide)
    have hS3 : ∀ n, n ∈ S → 1 ≤ n ∧ n ≤ 3 := hR.1.2.2.1
    have fin : ∀ (υ : rv_S) (cur : List Nat) (y3 : Int32) (x4 x5 x6 : Option Value), rv_same [29, 30, 31, 32, 33, 34, 39] [1, 15, 25, 26, 27, 28, 29, 30, 31, 32, 33, 34] σ0 υ → (∀ i, i ≠ 6 → υ.2.1 1 i = σ0.2.1 1 i) → mFacts υ cur → sp_srt cur → cur.length ≤ 60 → ((υ.1 30 = 0 ∧ sp_stl R st T cur) ∨ (υ.1 30 = 1 ∧ ¬ ∃ G, sp_stl R st T G)) → rv_V X (rv_mh Hb o υ) 196 [some (.ref o), some (.int (rv_z true)), some (.int (nI F.length)), some (.int y3), x4, x5, x6] [] := by
      intro υ cur y3 x4 x5 x6 h1 h2 h3 h4 h5 h6
      have h1' := hs0'.tr (h1.mn (js' := [1, 15, 16, 22, 23, 24, 25, 26, 27, 28, 29, 30, 31, 32, 33, 34]) (by decide) (by decide))
      refine rv_aload_n hX dX4_settle_196 rfl ?_
      refine rv_iload_n hX dX4_settle_197 rfl ?_
      refine mv_callv hX iX4_263 rfl mdX4_giveTags (m_giveTags hG (d := d - 1) h3 h5 hF60 hAl (fun k f e => ⟨by rw [h1.2.1 23 (by decide)]; exact h23 k f e, hF.2.2.1 f (List.mem_of_getElem? e)⟩) (fun k t e => by rw [h1.2.1 24 (by decide)]; exact h24 k t e) hAg (by rw [h2 7 (by decide), hat0 7 (by decide)]; exact hg) hg2) (by omega) rfl rfl (Nat.le_of_ble_eq_true rfl) dX4_settle_198 (fun τ_198 h_198 => ?_)
      obtain ⟨t1, t2, t3, t4⟩ := h_198
      refine rv_aload_n hX dX4_settle_201 rfl ?_
      refine mv_gi hX (k := 30) gX4_239_X4 (by decide) rfl dX4_settle_202 ?_
      rw [t1.1 30 (by decide)]
      first | refine zv_if_ne hX 212 dX4_settle_205 (by decide) (fun c_205 => ?_) (fun c_205 => ?_) | refine nv_if_ne hX 212 (by omega) dX4_settle_205 (by decide) (fun c_205 => ?_) (fun c_205 => ?_) | refine rv_if_ne hX 212 dX4_settle_205 (by decide) (fun c_205 => ?_) (fun c_205 => ?_)
      · skip
        refine nv_iconst hX (m := 0) (by decide) dX4_settle_212 ?_
        refine mv_retz hX hE (b := false) rfl dX4_settle_213 ?_
        have hf9 : mFacts τ_198 cur := ⟨by rw [t2 6 (by decide)]; exact h3.1, h3.2.1, h3.2.2.1, fun k f e => by rw [t1.2.1 15 (by decide)]; exact h3.2.2.2 k f e⟩
        refine ⟨h1'.tr (t1.mn (by decide) (by decide)), fun i hi hi2 => by rw [t2 i hi2, h2 i hi, hat0 i hi], cur, hf9, h4, h5, t4, t3, ?_⟩
        rcases h6 with ⟨e1, e2⟩ | ⟨e1, e2⟩
        · first
            | exact Or.inl ⟨rfl, e2⟩
            | (rw [e1] at c_205; exact absurd c_205 (by decide))
        · first
            | exact Or.inr ⟨rfl, e2⟩
            | (rw [e1] at c_205; exact absurd c_205 (by decide))
      · skip
        refine nv_iconst hX (m := 1) (by decide) dX4_settle_208 ?_
        refine rv_goto hX 213 dX4_settle_209 (by decide) ?_
        refine mv_retz hX hE (b := true) rfl dX4_settle_213 ?_
        have hf9 : mFacts τ_198 cur := ⟨by rw [t2 6 (by decide)]; exact h3.1, h3.2.1, h3.2.2.1, fun k f e => by rw [t1.2.1 15 (by decide)]; exact h3.2.2.2 k f e⟩
        refine ⟨h1'.tr (t1.mn (by decide) (by decide)), fun i hi hi2 => by rw [t2 i hi2, h2 i hi, hat0 i hi], cur, hf9, h4, h5, t4, t3, ?_⟩
        rcases h6 with ⟨e1, e2⟩ | ⟨e1, e2⟩
        · first
            | exact Or.inl ⟨rfl, e2⟩
            | (rw [e1] at c_205; exact absurd c_205 (by decide))
        · first
            | exact Or.inr ⟨rfl, e2⟩
            | (rw [e1] at c_205; exact absurd c_205 (by decide))
    have hRu : ∀ υ : rv_S, rv_same [29, 30, 31, 32, 33, 34, 39] [1, 15, 25, 26, 27, 28, 29, 30, 31, 32, 33, 34] σ0 υ → (∀ i, i ≠ 6 → υ.2.1 1 i = σ0.2.1 1 i) → mRules υ S R := fun υ h1 h2 => hR0.same2 h1 (h2 0 (by decide)) (h2 1 (by decide)) (by decide)
    have outer : ∀ (n s : Nat) (υ : rv_S) (cur : List Nat) (y3 : Int32) (x5 x6 : Option Value), s ≤ 8 → 8 - s < n → rv_same [29, 30, 31, 32, 33, 34, 39] [1, 15, 25, 26, 27, 28, 29, 30, 31, 32, 33, 34] σ0 υ → (∀ i, i ≠ 6 → υ.2.1 1 i = σ0.2.1 1 i) → mFacts υ cur → sp_srt cur → cur.length ≤ 60 → ((υ.1 30 = 0 ∧ ∃ F0, (sp_srt F0 ∧ F0.length ≤ 60 ∧ ∀ x, x ∈ F0 ↔ x ∈ T) ∧ sp_chain R st s F0 cur) ∨ (υ.1 30 = 1 ∧ ¬ ∃ G, sp_stl R st T G)) → rv_V X (rv_mh Hb o υ) 90 [some (.ref o), some (.int (rv_z true)), some (.int (nI F.length)), some (.int y3), some (.int (nI s)), x5, x6] [] := by
      intro n
      induction n with
      | zero => intro s υ cur y3 x5 x6 h1 h2; omega
      | succ n ih =>
        intro s υ cur y3 x5 x6 hs8 hn h1 h2 h3 h4 h5 h6
        refine rv_iload hX dX4_settle_90 rfl ?_
        refine nv_bipush hX (m := 8) (by decide) dX4_settle_92 ?_
        first | refine nv_icmp_ge hX 196 (by omega) (by omega) dX4_settle_94 (by decide) (fun c_94 => ?_) (fun c_94 => ?_) | refine rv_icmp_ge hX 196 dX4_settle_94 (by decide) (fun c_94 => ?_) (fun c_94 => ?_)
        · skip
          refine fin υ cur _ _ _ _ h1 h2 h3 h4 h5 ?_
          rcases h6 with ⟨e1, F0, e2, e3⟩ | h6
          · first
              | exact absurd e1 c_101
              | (have hs : s = 8 := by omega
                 subst hs
                 exact Or.inl ⟨e1, F0, e2.1, e2.2.1, e2.2.2, e3⟩)
          · exact Or.inr h6
        · skip
          refine rv_aload_n hX dX4_settle_97 rfl ?_
          refine mv_gi hX (k := 30) gX4_239_X4 (by decide) rfl dX4_settle_98 ?_
          first | refine zv_if_ne hX 196 dX4_settle_101 (by decide) (fun c_101 => ?_) (fun c_101 => ?_) | refine nv_if_ne hX 196 (by omega) dX4_settle_101 (by decide) (fun c_101 => ?_) (fun c_101 => ?_) | refine rv_if_ne hX 196 dX4_settle_101 (by decide) (fun c_101 => ?_) (fun c_101 => ?_)
          · skip
            refine fin υ cur _ _ _ _ h1 h2 h3 h4 h5 ?_
            rcases h6 with ⟨e1, F0, e2, e3⟩ | h6
            · first
                | exact absurd e1 c_101
                | (have hs : s = 8 := by omega
                   subst hs
                   exact Or.inl ⟨e1, F0, e2.1, e2.2.1, e2.2.2, e3⟩)
            · exact Or.inr h6
          · skip
            refine nv_iconst hX (m := 1) (by decide) dX4_settle_104 ?_
            refine rv_istore hX dX4_settle_105 (rv_st_5 rfl) ?_
            have hs1 : s + 1 ≤ 8 := c_94
            have hs2 : 8 - (s + 1) < n := by clear h6; omega
            obtain ⟨F0, hb, hch⟩ : ∃ F0, (sp_srt F0 ∧ F0.length ≤ 60 ∧ ∀ x, x ∈ F0 ↔ x ∈ T) ∧ sp_chain R st s F0 cur := by
              rcases h6 with ⟨e1, e2⟩ | ⟨e1, e2⟩
              · exact e2
              · rw [e1] at c_101; exact absurd c_101 (by decide)
            have ex107 : ∀ (υ : rv_S) (c2 : List Nat) (b : Bool) (x6 : Option Value), rv_same [29, 30, 31, 32, 33, 34, 39] [1, 15, 25, 26, 27, 28, 29, 30, 31, 32, 33, 34] σ0 υ → (∀ i, i ≠ 6 → υ.2.1 1 i = σ0.2.1 1 i) → mFacts υ c2 → sp_srt c2 → c2.length ≤ 60 → ((υ.1 30 = 0 ∧ b = false ∧ sp_way R st s cur c2 ∧ sp_cls R st s c2) ∨ (υ.1 30 = 1 ∧ ¬ ∃ G, sp_stl R st T G)) → rv_V X (rv_mh Hb o υ) 107 [some (.ref o), some (.int (rv_z true)), some (.int (nI F.length)), some (.int y3), some (.int (nI s)), some (.int (rv_z b)), x6] [] := by
              intro υ c2 b x6 g1 g2 g3 g4 g5 g6
              have go : (υ.1 30 = 0 ∧ ∃ F0, (sp_srt F0 ∧ F0.length ≤ 60 ∧ ∀ x, x ∈ F0 ↔ x ∈ T) ∧ sp_chain R st (s + 1) F0 c2) ∨ (υ.1 30 = 1 ∧ ¬ ∃ G, sp_stl R st T G) := by
                rcases g6 with ⟨e1, e2, e3, e4⟩ | g6
                · exact Or.inl ⟨e1, F0, hb, cur, hch, e3.1, g5, e4, fun G' q1 q2 => e3.2 G' q1 q2⟩
                · exact Or.inr g6
              refine rv_iload hX dX4_settle_107 rfl ?_
              first | refine zv_if_eq hX 190 dX4_settle_109 (by decide) (fun c_109 => ?_) (fun c_109 => ?_) | refine nv_if_eq hX 190 (by omega) dX4_settle_109 (by decide) (fun c_109 => ?_) (fun c_109 => ?_) | refine rv_if_eq hX 190 dX4_settle_109 (by decide) (fun c_109 => ?_) (fun c_109 => ?_)
              · skip
                first | refine nv_iinc hX (m := 1) dX4_settle_190 rfl (by decide) (rv_st_4 rfl) ?_ | refine rv_iinc hX dX4_settle_190 rfl rfl (rv_st_4 rfl) ?_
                refine rv_goto hX 90 dX4_settle_193 (by decide) ?_
                exact ih (s + 1) υ c2 y3 _ _ hs1 hs2 g1 g2 g3 g4 g5 go
              · skip
                refine rv_aload_n hX dX4_settle_112 rfl ?_
                refine mv_gi hX (k := 30) gX4_239_X4 (by decide) rfl dX4_settle_113 ?_
                first | refine zv_if_ne hX 190 dX4_settle_116 (by decide) (fun c_116 => ?_) (fun c_116 => ?_) | refine nv_if_ne hX 190 (by omega) dX4_settle_116 (by decide) (fun c_116 => ?_) (fun c_116 => ?_) | refine rv_if_ne hX 190 dX4_settle_116 (by decide) (fun c_116 => ?_) (fun c_116 => ?_)
                · skip
                  first | refine nv_iinc hX (m := 1) dX4_settle_190 rfl (by decide) (rv_st_4 rfl) ?_ | refine rv_iinc hX dX4_settle_190 rfl rfl (rv_st_4 rfl) ?_
                  refine rv_goto hX 90 dX4_settle_193 (by decide) ?_
                  exact ih (s + 1) υ c2 y3 _ _ hs1 hs2 g1 g2 g3 g4 g5 go
                · skip
                  refine nv_iconst hX (m := 0) (by decide) dX4_settle_119 ?_
                  refine rv_istore hX dX4_settle_120 (rv_st_5 rfl) ?_
                  refine nv_iconst hX (m := 0) (by decide) dX4_settle_122 ?_
                  refine rv_istore hX dX4_settle_123 (rv_st_6 rfl) ?_
                  rcases g6 with ⟨e1, e2, e3, e4⟩ | ⟨e1, e2⟩
                  · rw [e2] at c_109; cases c_109
                  · rw [e1] at c_116; exact absurd c_116 (by decide)
            have mid : ∀ (m : Nat) (υ : rv_S) (c2 : List Nat) (x6 : Option Value), 61 - c2.length < m → rv_same [29, 30, 31, 32, 33, 34, 39] [1, 15, 25, 26, 27, 28, 29, 30, 31, 32, 33, 34] σ0 υ → (∀ i, i ≠ 6 → υ.2.1 1 i = σ0.2.1 1 i) → mFacts υ c2 → sp_srt c2 → c2.length ≤ 60 → υ.1 30 = 0 → sp_way R st s cur c2 → rv_V X (rv_mh Hb o υ) 107 [some (.ref o), some (.int (rv_z true)), some (.int (nI F.length)), some (.int y3), some (.int (nI s)), some (.int (rv_z true)), x6] [] := by
              intro m
              induction m with
              | zero => intro υ c2 x6 g0; omega
              | succ m ihm =>
                intro υ c2 x6 g0 g1 g2 g3 g4 g5 g6 g7
                have rules : ∀ (k j : Nat) (υ : rv_S) (c3 : List Nat) (b : Bool), j ≤ R.length → R.length - j < k → rv_same [29, 30, 31, 32, 33, 34, 39] [1, 15, 25, 26, 27, 28, 29, 30, 31, 32, 33, 34] σ0 υ → (∀ i, i ≠ 6 → υ.2.1 1 i = σ0.2.1 1 i) → mFacts υ c3 → sp_srt c3 → c3.length ≤ 60 → ((υ.1 30 = 0 ∧ sp_rs R st s cur c2 c3 b j) ∨ (υ.1 30 = 1 ∧ ¬ ∃ G, sp_stl R st T G)) → rv_V X (rv_mh Hb o υ) 125 [some (.ref o), some (.int (rv_z true)), some (.int (nI F.length)), some (.int y3), some (.int (nI s)), some (.int (rv_z b)), some (.int (nI j))] [] := by
                  intro k
                  induction k with
                  | zero => intro j υ c3 b r1 r2; omega
                  | succ k ihk =>
                    intro j υ c3 b r1 r2 r3 r4 r5 r6 r7 r8
                    have hRv := hRu υ r3 r4
                    refine rv_iload hX dX4_settle_125 rfl ?_
                    refine rv_aload_n hX dX4_settle_127 rfl ?_
                    refine mv_ga hX (k := 1) (j := 1) gX4_7_X4 (by decide) rfl (by decide) dX4_settle_128 ?_
                    refine nv_iconst hX (m := 1) (by decide) dX4_settle_131 ?_
                    refine mv_ld hX (j := 1) (by decide) (by decide) rfl (by decide) (show _ < 11 by omega) dX4_settle_132 ?_
                    rw [hRv.2.1]
                    first | refine nv_icmp_ge hX 187 (by omega) (by omega) dX4_settle_133 (by decide) (fun c_133 => ?_) (fun c_133 => ?_) | refine rv_icmp_ge hX 187 dX4_settle_133 (by decide) (fun c_133 => ?_) (fun c_133 => ?_)
                    · skip
                      refine rv_goto hX 107 dX4_settle_187 (by decide) ?_
                      rcases r8 with ⟨e1, e2⟩ | e1
                      · first
                          | exact absurd e1 c_140
                          | (have hj : j = R.length := by omega
                             cases b with
                             | false =>
                               obtain ⟨q1, q2⟩ := e2.2.2.1 rfl
                               refine ex107 υ c3 false _ r3 r4 r5 r6 r7 (Or.inl ⟨e1, rfl, e2.1, fun C hC hCs f hf => ?_⟩)
                               rw [hj, List.take_length] at q2
                               rw [q1] at hf ⊢
                               exact q2 C hC hCs f hf
                             | true =>
                               have := e2.2.2.2 rfl
                               exact ihm υ c3 _ (by omega) r3 r4 r5 r6 r7 e1 e2.1)
                      · exact ex107 υ c3 b _ r3 r4 r5 r6 r7 (Or.inr e1)
                    · skip
                      refine rv_aload_n hX dX4_settle_136 rfl ?_
                      refine mv_gi hX (k := 30) gX4_239_X4 (by decide) rfl dX4_settle_137 ?_
                      first | refine zv_if_ne hX 187 dX4_settle_140 (by decide) (fun c_140 => ?_) (fun c_140 => ?_) | refine nv_if_ne hX 187 (by omega) dX4_settle_140 (by decide) (fun c_140 => ?_) (fun c_140 => ?_) | refine rv_if_ne hX 187 dX4_settle_140 (by decide) (fun c_140 => ?_) (fun c_140 => ?_)
                      · skip
                        refine rv_goto hX 107 dX4_settle_187 (by decide) ?_
                        rcases r8 with ⟨e1, e2⟩ | e1
                        · first
                            | exact absurd e1 c_140
                            | (have hj : j = R.length := by omega
                               cases b with
                               | false =>
                                 obtain ⟨q1, q2⟩ := e2.2.2.1 rfl
                                 refine ex107 υ c3 false _ r3 r4 r5 r6 r7 (Or.inl ⟨e1, rfl, e2.1, fun C hC hCs f hf => ?_⟩)
                                 rw [hj, List.take_length] at q2
                                 rw [q1] at hf ⊢
                                 exact q2 C hC hCs f hf
                               | true =>
                                 have := e2.2.2.2 rfl
                                 exact ihm υ c3 _ (by omega) r3 r4 r5 r6 r7 e1 e2.1)
                        · exact ex107 υ c3 b _ r3 r4 r5 r6 r7 (Or.inr e1)
                      · skip
                        obtain ⟨C, hC⟩ : ∃ C, R[j]? = some C := ⟨R[j], List.getElem?_eq_getElem (by omega)⟩
                        obtain ⟨hB, hw⟩ := hRv.2.2.2 j C hC
                        have hbd := (hB.mHd hRv.1 hw (by omega)).bds
                        have hrel := hbd.1
                        have hst9 := hstr.2 C.rel
                        have hstv : mStr υ st := hstr.same r3 (by decide)
                        have hrs : sp_rs R st s cur c2 c3 b j := by
                          rcases r8 with ⟨e1, e2⟩ | ⟨e1, e2⟩
                          · exact e2
                          · rw [e1] at c_140; exact absurd c_140 (by decide)
                        refine rv_aload_n hX dX4_settle_143 rfl ?_
                        refine mv_ga hX (k := 25) (j := 22) gX4_73_X4 (by decide) rfl (by decide) dX4_settle_144 ?_
                        refine rv_aload_n hX dX4_settle_147 rfl ?_
                        refine mv_ga hX (k := 4) (j := 4) gX4_19_X4 (by decide) rfl (by decide) dX4_settle_148 ?_
                        refine rv_iload hX dX4_settle_151 rfl ?_
                        refine mv_ld hX (j := 4) (by decide) (by decide) rfl (by decide) (show _ < 17 by omega) dX4_settle_153 ?_
                        rw [hB.rel]
                        refine mv_ld hX (j := 22) (by decide) (by decide) rfl (by decide) (show _ < 8 by omega) dX4_settle_154 ?_
                        rw [hstv.1 _ hrel]
                        refine rv_iload hX dX4_settle_155 rfl ?_
                        first | refine nv_icmp_ne hX 169 (by omega) (by omega) dX4_settle_157 (by decide) (fun c_157 => ?_) (fun c_157 => ?_) | refine rv_icmp_ne hX 169 dX4_settle_157 (by decide) (fun c_157 => ?_) (fun c_157 => ?_)
                        · skip
                          refine rv_iload hX dX4_settle_169 rfl ?_
                          first | refine zv_if_eq hX 178 dX4_settle_171 (by decide) (fun c_171 => ?_) (fun c_171 => ?_) | refine nv_if_eq hX 178 (by omega) dX4_settle_171 (by decide) (fun c_171 => ?_) (fun c_171 => ?_) | refine rv_if_eq hX 178 dX4_settle_171 (by decide) (fun c_171 => ?_) (fun c_171 => ?_)
                          · skip
                            refine nv_iconst hX (m := 0) (by decide) dX4_settle_178 ?_
                            refine rv_istore hX dX4_settle_179 (rv_st_5 rfl) ?_
                            first | refine nv_iinc hX (m := 1) dX4_settle_181 rfl (by decide) (rv_st_6 rfl) ?_ | refine rv_iinc hX dX4_settle_181 rfl rfl (rv_st_6 rfl) ?_
                            refine rv_goto hX 125 dX4_settle_184 (by decide) ?_
                            first
                              | (have hne : st C.rel ≠ s := by omega
                                 have hk9 := hrs.skip hC hne
                                 first
                                   | (rw [c_171] at hk9; exact ihk (j + 1) υ c3 false (by omega) (by omega) r3 r4 r5 r6 r7 (Or.inl ⟨c_140, hk9⟩))
                                   | (rw [c_171] at hk9; exact ihk (j + 1) υ c3 true (by omega) (by omega) r3 r4 r5 r6 r7 (Or.inl ⟨c_140, hk9⟩)))
                              | (have hw9 : ((τ_163.1 30 = 0 ∧ sp_rs R st s cur c2 c4 (r_163 || b) (j + 1)) ∨ (τ_163.1 30 = 1 ∧ ¬ ∃ G, sp_stl R st T G)) := by
                                   rcases w6 with ⟨e1, e2, e3⟩ | ⟨e1, e2⟩
                                   · exact Or.inl ⟨e1, hrs.give hS3 hC hw hbd.2.2.1 (hfit C (List.mem_of_getElem? hC)) c_157 w4 e2 e3⟩
                                   · exact Or.inr ⟨e1, sp_no hb hch (by omega) hrs.1.2 (hrs.1.give hS3 (List.mem_of_getElem? hC) hw (hfit C (List.mem_of_getElem? hC)) c_157) e2⟩
                                 first
                                   | (rw [c_166, Bool.true_or] at hw9; exact ihk (j + 1) _ c4 true (by omega) (by omega) (r3.tr (w1.mn (by decide) (by decide))) (fun i hi => by rw [w2 i hi]; exact r4 i hi) w3 w4 w5 hw9)
                                   | (rw [c_166, c_171, Bool.false_or] at hw9; exact ihk (j + 1) _ c4 false (by omega) (by omega) (r3.tr (w1.mn (by decide) (by decide))) (fun i hi => by rw [w2 i hi]; exact r4 i hi) w3 w4 w5 hw9)
                                   | (rw [c_166, c_171, Bool.false_or] at hw9; exact ihk (j + 1) _ c4 true (by omega) (by omega) (r3.tr (w1.mn (by decide) (by decide))) (fun i hi => by rw [w2 i hi]; exact r4 i hi) w3 w4 w5 hw9))
                          · skip
                            refine nv_iconst hX (m := 1) (by decide) dX4_settle_174 ?_
                            refine rv_goto hX 179 dX4_settle_175 (by decide) ?_
                            refine rv_istore hX dX4_settle_179 (rv_st_5 rfl) ?_
                            first | refine nv_iinc hX (m := 1) dX4_settle_181 rfl (by decide) (rv_st_6 rfl) ?_ | refine rv_iinc hX dX4_settle_181 rfl rfl (rv_st_6 rfl) ?_
                            refine rv_goto hX 125 dX4_settle_184 (by decide) ?_
                            first
                              | (have hne : st C.rel ≠ s := by omega
                                 have hk9 := hrs.skip hC hne
                                 first
                                   | (rw [c_171] at hk9; exact ihk (j + 1) υ c3 false (by omega) (by omega) r3 r4 r5 r6 r7 (Or.inl ⟨c_140, hk9⟩))
                                   | (rw [c_171] at hk9; exact ihk (j + 1) υ c3 true (by omega) (by omega) r3 r4 r5 r6 r7 (Or.inl ⟨c_140, hk9⟩)))
                              | (have hw9 : ((τ_163.1 30 = 0 ∧ sp_rs R st s cur c2 c4 (r_163 || b) (j + 1)) ∨ (τ_163.1 30 = 1 ∧ ¬ ∃ G, sp_stl R st T G)) := by
                                   rcases w6 with ⟨e1, e2, e3⟩ | ⟨e1, e2⟩
                                   · exact Or.inl ⟨e1, hrs.give hS3 hC hw hbd.2.2.1 (hfit C (List.mem_of_getElem? hC)) c_157 w4 e2 e3⟩
                                   · exact Or.inr ⟨e1, sp_no hb hch (by omega) hrs.1.2 (hrs.1.give hS3 (List.mem_of_getElem? hC) hw (hfit C (List.mem_of_getElem? hC)) c_157) e2⟩
                                 first
                                   | (rw [c_166, Bool.true_or] at hw9; exact ihk (j + 1) _ c4 true (by omega) (by omega) (r3.tr (w1.mn (by decide) (by decide))) (fun i hi => by rw [w2 i hi]; exact r4 i hi) w3 w4 w5 hw9)
                                   | (rw [c_166, c_171, Bool.false_or] at hw9; exact ihk (j + 1) _ c4 false (by omega) (by omega) (r3.tr (w1.mn (by decide) (by decide))) (fun i hi => by rw [w2 i hi]; exact r4 i hi) w3 w4 w5 hw9)
                                   | (rw [c_166, c_171, Bool.false_or] at hw9; exact ihk (j + 1) _ c4 true (by omega) (by omega) (r3.tr (w1.mn (by decide) (by decide))) (fun i hi => by rw [w2 i hi]; exact r4 i hi) w3 w4 w5 hw9))
                        · skip
                          refine rv_aload_n hX dX4_settle_160 rfl ?_
                          refine rv_iload hX dX4_settle_161 rfl ?_
                          refine mv_callz hX iX4_260 rfl mdX4_give (m_give hG (d := d - 1) (by omega) ⟨hRv.1, r5, hB, hw, by omega⟩ r7 r6 (hD0.same r3 (by decide)) c_140) (by omega) rfl rfl (Nat.le_of_ble_eq_true rfl) dX4_settle_163 (fun r_163 τ_163 h_163 => ?_)
                          obtain ⟨w1, w2, c4, w3, w4, w5, w6⟩ := h_163
                          first | refine zv_if_ne hX 174 dX4_settle_166 (by decide) (fun c_166 => ?_) (fun c_166 => ?_) | refine nv_if_ne hX 174 (by omega) dX4_settle_166 (by decide) (fun c_166 => ?_) (fun c_166 => ?_) | refine rv_if_ne hX 174 dX4_settle_166 (by decide) (fun c_166 => ?_) (fun c_166 => ?_)
                          · skip
                            refine nv_iconst hX (m := 1) (by decide) dX4_settle_174 ?_
                            refine rv_goto hX 179 dX4_settle_175 (by decide) ?_
                            refine rv_istore hX dX4_settle_179 (rv_st_5 rfl) ?_
                            first | refine nv_iinc hX (m := 1) dX4_settle_181 rfl (by decide) (rv_st_6 rfl) ?_ | refine rv_iinc hX dX4_settle_181 rfl rfl (rv_st_6 rfl) ?_
                            refine rv_goto hX 125 dX4_settle_184 (by decide) ?_
                            first
                              | (have hne : st C.rel ≠ s := by omega
                                 have hk9 := hrs.skip hC hne
                                 first
                                   | (rw [c_171] at hk9; exact ihk (j + 1) υ c3 false (by omega) (by omega) r3 r4 r5 r6 r7 (Or.inl ⟨c_140, hk9⟩))
                                   | (rw [c_171] at hk9; exact ihk (j + 1) υ c3 true (by omega) (by omega) r3 r4 r5 r6 r7 (Or.inl ⟨c_140, hk9⟩)))
                              | (have hw9 : ((τ_163.1 30 = 0 ∧ sp_rs R st s cur c2 c4 (r_163 || b) (j + 1)) ∨ (τ_163.1 30 = 1 ∧ ¬ ∃ G, sp_stl R st T G)) := by
                                   rcases w6 with ⟨e1, e2, e3⟩ | ⟨e1, e2⟩
                                   · exact Or.inl ⟨e1, hrs.give hS3 hC hw hbd.2.2.1 (hfit C (List.mem_of_getElem? hC)) c_157 w4 e2 e3⟩
                                   · exact Or.inr ⟨e1, sp_no hb hch (by omega) hrs.1.2 (hrs.1.give hS3 (List.mem_of_getElem? hC) hw (hfit C (List.mem_of_getElem? hC)) c_157) e2⟩
                                 first
                                   | (rw [c_166, Bool.true_or] at hw9; exact ihk (j + 1) _ c4 true (by omega) (by omega) (r3.tr (w1.mn (by decide) (by decide))) (fun i hi => by rw [w2 i hi]; exact r4 i hi) w3 w4 w5 hw9)
                                   | (rw [c_166, c_171, Bool.false_or] at hw9; exact ihk (j + 1) _ c4 false (by omega) (by omega) (r3.tr (w1.mn (by decide) (by decide))) (fun i hi => by rw [w2 i hi]; exact r4 i hi) w3 w4 w5 hw9)
                                   | (rw [c_166, c_171, Bool.false_or] at hw9; exact ihk (j + 1) _ c4 true (by omega) (by omega) (r3.tr (w1.mn (by decide) (by decide))) (fun i hi => by rw [w2 i hi]; exact r4 i hi) w3 w4 w5 hw9))
                          · skip
                            refine rv_iload hX dX4_settle_169 rfl ?_
                            first | refine zv_if_eq hX 178 dX4_settle_171 (by decide) (fun c_171 => ?_) (fun c_171 => ?_) | refine nv_if_eq hX 178 (by omega) dX4_settle_171 (by decide) (fun c_171 => ?_) (fun c_171 => ?_) | refine rv_if_eq hX 178 dX4_settle_171 (by decide) (fun c_171 => ?_) (fun c_171 => ?_)
                            · skip
                              refine nv_iconst hX (m := 0) (by decide) dX4_settle_178 ?_
                              refine rv_istore hX dX4_settle_179 (rv_st_5 rfl) ?_
                              first | refine nv_iinc hX (m := 1) dX4_settle_181 rfl (by decide) (rv_st_6 rfl) ?_ | refine rv_iinc hX dX4_settle_181 rfl rfl (rv_st_6 rfl) ?_
                              refine rv_goto hX 125 dX4_settle_184 (by decide) ?_
                              first
                                | (have hne : st C.rel ≠ s := by omega
                                   have hk9 := hrs.skip hC hne
                                   first
                                     | (rw [c_171] at hk9; exact ihk (j + 1) υ c3 false (by omega) (by omega) r3 r4 r5 r6 r7 (Or.inl ⟨c_140, hk9⟩))
                                     | (rw [c_171] at hk9; exact ihk (j + 1) υ c3 true (by omega) (by omega) r3 r4 r5 r6 r7 (Or.inl ⟨c_140, hk9⟩)))
                                | (have hw9 : ((τ_163.1 30 = 0 ∧ sp_rs R st s cur c2 c4 (r_163 || b) (j + 1)) ∨ (τ_163.1 30 = 1 ∧ ¬ ∃ G, sp_stl R st T G)) := by
                                     rcases w6 with ⟨e1, e2, e3⟩ | ⟨e1, e2⟩
                                     · exact Or.inl ⟨e1, hrs.give hS3 hC hw hbd.2.2.1 (hfit C (List.mem_of_getElem? hC)) c_157 w4 e2 e3⟩
                                     · exact Or.inr ⟨e1, sp_no hb hch (by omega) hrs.1.2 (hrs.1.give hS3 (List.mem_of_getElem? hC) hw (hfit C (List.mem_of_getElem? hC)) c_157) e2⟩
                                   first
                                     | (rw [c_166, Bool.true_or] at hw9; exact ihk (j + 1) _ c4 true (by omega) (by omega) (r3.tr (w1.mn (by decide) (by decide))) (fun i hi => by rw [w2 i hi]; exact r4 i hi) w3 w4 w5 hw9)
                                     | (rw [c_166, c_171, Bool.false_or] at hw9; exact ihk (j + 1) _ c4 false (by omega) (by omega) (r3.tr (w1.mn (by decide) (by decide))) (fun i hi => by rw [w2 i hi]; exact r4 i hi) w3 w4 w5 hw9)
                                     | (rw [c_166, c_171, Bool.false_or] at hw9; exact ihk (j + 1) _ c4 true (by omega) (by omega) (r3.tr (w1.mn (by decide) (by decide))) (fun i hi => by rw [w2 i hi]; exact r4 i hi) w3 w4 w5 hw9))
                            · skip
                              refine nv_iconst hX (m := 1) (by decide) dX4_settle_174 ?_
                              refine rv_goto hX 179 dX4_settle_175 (by decide) ?_
                              refine rv_istore hX dX4_settle_179 (rv_st_5 rfl) ?_
                              first | refine nv_iinc hX (m := 1) dX4_settle_181 rfl (by decide) (rv_st_6 rfl) ?_ | refine rv_iinc hX dX4_settle_181 rfl rfl (rv_st_6 rfl) ?_
                              refine rv_goto hX 125 dX4_settle_184 (by decide) ?_
                              first
                                | (have hne : st C.rel ≠ s := by omega
                                   have hk9 := hrs.skip hC hne
                                   first
                                     | (rw [c_171] at hk9; exact ihk (j + 1) υ c3 false (by omega) (by omega) r3 r4 r5 r6 r7 (Or.inl ⟨c_140, hk9⟩))
                                     | (rw [c_171] at hk9; exact ihk (j + 1) υ c3 true (by omega) (by omega) r3 r4 r5 r6 r7 (Or.inl ⟨c_140, hk9⟩)))
                                | (have hw9 : ((τ_163.1 30 = 0 ∧ sp_rs R st s cur c2 c4 (r_163 || b) (j + 1)) ∨ (τ_163.1 30 = 1 ∧ ¬ ∃ G, sp_stl R st T G)) := by
                                     rcases w6 with ⟨e1, e2, e3⟩ | ⟨e1, e2⟩
                                     · exact Or.inl ⟨e1, hrs.give hS3 hC hw hbd.2.2.1 (hfit C (List.mem_of_getElem? hC)) c_157 w4 e2 e3⟩
                                     · exact Or.inr ⟨e1, sp_no hb hch (by omega) hrs.1.2 (hrs.1.give hS3 (List.mem_of_getElem? hC) hw (hfit C (List.mem_of_getElem? hC)) c_157) e2⟩
                                   first
                                     | (rw [c_166, Bool.true_or] at hw9; exact ihk (j + 1) _ c4 true (by omega) (by omega) (r3.tr (w1.mn (by decide) (by decide))) (fun i hi => by rw [w2 i hi]; exact r4 i hi) w3 w4 w5 hw9)
                                     | (rw [c_166, c_171, Bool.false_or] at hw9; exact ihk (j + 1) _ c4 false (by omega) (by omega) (r3.tr (w1.mn (by decide) (by decide))) (fun i hi => by rw [w2 i hi]; exact r4 i hi) w3 w4 w5 hw9)
                                     | (rw [c_166, c_171, Bool.false_or] at hw9; exact ihk (j + 1) _ c4 true (by omega) (by omega) (r3.tr (w1.mn (by decide) (by decide))) (fun i hi => by rw [w2 i hi]; exact r4 i hi) w3 w4 w5 hw9))
                refine rv_iload hX dX4_settle_107 rfl ?_
                first | refine zv_if_eq hX 190 dX4_settle_109 (by decide) (fun c_109 => ?_) (fun c_109 => ?_) | refine nv_if_eq hX 190 (by omega) dX4_settle_109 (by decide) (fun c_109 => ?_) (fun c_109 => ?_) | refine rv_if_eq hX 190 dX4_settle_109 (by decide) (fun c_109 => ?_) (fun c_109 => ?_)
                · skip
                  cases c_109
                  --done
                · skip
                  refine rv_aload_n hX dX4_settle_112 rfl ?_
                  refine mv_gi hX (k := 30) gX4_239_X4 (by decide) rfl dX4_settle_113 ?_
                  first | refine zv_if_ne hX 190 dX4_settle_116 (by decide) (fun c_116 => ?_) (fun c_116 => ?_) | refine nv_if_ne hX 190 (by omega) dX4_settle_116 (by decide) (fun c_116 => ?_) (fun c_116 => ?_) | refine rv_if_ne hX 190 dX4_settle_116 (by decide) (fun c_116 => ?_) (fun c_116 => ?_)
                  · skip
                    exact absurd g6 c_116
                    --done
                  · skip
                    refine nv_iconst hX (m := 0) (by decide) dX4_settle_119 ?_
                    refine rv_istore hX dX4_settle_120 (rv_st_5 rfl) ?_
                    refine nv_iconst hX (m := 0) (by decide) dX4_settle_122 ?_
                    refine rv_istore hX dX4_settle_123 (rv_st_6 rfl) ?_
                    exact rules _ 0 υ c2 false (Nat.zero_le _) (Nat.lt_succ_self _) g1 g2 g3 g4 g5 (Or.inl ⟨g6, g7, fun _ q => q, fun _ => ⟨rfl, fun C hC => by cases hC⟩, fun e => by cases e⟩)
            exact mid _ υ cur _ (Nat.lt_succ_self _) h1 h2 h3 h4 h5 c_101 (.rf h4)
    have tells : ∀ (n k : Nat) (υ : rv_S) (cur : List Nat), k ≤ T.length → T.length - k < n → rv_same [29, 30, 31, 32, 33, 34, 39] [1, 15, 25, 26, 27, 28, 29, 30, 31, 32, 33, 34] σ0 υ → (∀ i, i ≠ 6 → υ.2.1 1 i = σ0.2.1 1 i) → mFacts υ cur → sp_srt cur → cur.length ≤ 60 → ((υ.1 30 = 0 ∧ ∀ x, x ∈ cur ↔ x ∈ T.take k) ∨ (υ.1 30 = 1 ∧ sp_crowd [] T)) → rv_V X (rv_mh Hb o υ) 59 [some (.ref o), some (.int (rv_z true)), some (.int (nI F.length)), some (.int y3), some (.int (nI k)), none, none] [] := by
      intro n
      induction n with
      | zero => intro k υ cur h1 h2; omega
      | succ n ih =>
        intro k υ cur hk hn h1 h2 h3 h4 h5 h6
        refine rv_iload hX dX4_settle_59 rfl ?_
        refine rv_aload_n hX dX4_settle_61 rfl ?_
        refine mv_ga hX (k := 1) (j := 1) gX4_7_X4 (by decide) rfl (by decide) dX4_settle_62 ?_
        refine nv_iconst hX (m := 5) (by decide) dX4_settle_65 ?_
        refine mv_ld hX (j := 1) (by decide) (by decide) rfl (by decide) (show _ < 11 by omega) dX4_settle_66 ?_
        rw [h2 5 (by decide), hT0.1]
        first | refine nv_icmp_ge hX 87 (by omega) (by omega) dX4_settle_67 (by decide) (fun c_67 => ?_) (fun c_67 => ?_) | refine rv_icmp_ge hX 87 dX4_settle_67 (by decide) (fun c_67 => ?_) (fun c_67 => ?_)
        · skip
          refine nv_iconst hX (m := 0) (by decide) dX4_settle_87 ?_
          refine rv_istore hX dX4_settle_88 (rv_st_4 rfl) ?_
          refine outer 9 0 υ cur _ _ _ (by omega) (by omega) h1 h2 h3 h4 h5 ?_
          rcases h6 with ⟨e1, e2⟩ | ⟨e1, e2⟩
          · refine Or.inl ⟨e1, cur, ⟨h4, h5, fun x => ?_⟩, rfl⟩
            rw [e2 x, List.take_of_length_le (by omega)]
          · refine Or.inr ⟨e1, ?_⟩
            rintro ⟨G, F0, f1, f2, f3, f4⟩
            have := e2 F0 f1 (fun x hx => by cases hx) (fun x hx => (f3 x).mpr hx)
            omega
        · skip
          obtain ⟨f, hf⟩ : ∃ f, T[k]? = some f := ⟨T[k], List.getElem?_eq_getElem (by omega)⟩
          obtain ⟨hf1, hf8⟩ := hT0.2.2 k f hf
          have htk := sp_take_get hf
          refine rv_aload_n hX dX4_settle_70 rfl ?_
          refine rv_aload_n hX dX4_settle_71 rfl ?_
          refine mv_ga hX (k := 13) (j := 13) gX4_46_X4 (by decide) rfl (by decide) dX4_settle_72 ?_
          refine rv_iload hX dX4_settle_75 rfl ?_
          refine mv_ld hX (j := 13) (by decide) (by decide) rfl (by decide) (show _ < 62 by omega) dX4_settle_77 ?_
          rw [h1.2.1 13 (by decide), hf1]
          refine mv_callv hX iX4_254 rfl mdX4_insert (m_insert hG (d := d - 1) (by omega) h3 h5 h4 hf8) (by omega) rfl rfl (Nat.le_of_ble_eq_true rfl) dX4_settle_78 (fun τ_78 h_78 => ?_)
          have hi := h_78
          first | refine nv_iinc hX (m := 1) dX4_settle_81 rfl (by decide) (rv_st_4 rfl) ?_ | refine rv_iinc hX dX4_settle_81 rfl rfl (rv_st_4 rfl) ?_
          refine rv_goto hX 59 dX4_settle_84 (by decide) ?_
          rcases hi with ⟨g1, rfl⟩ | ⟨g1, g2, rfl⟩ | ⟨g1, g2, F', ⟨i1, i2, i3⟩, g4, g5, g6⟩
          · refine ih (k + 1) _ cur (by omega) (by omega) h1 h2 h3 h4 h5 ?_
            rcases h6 with ⟨e1, e2⟩ | e1
            · refine Or.inl ⟨e1, fun x => ?_⟩
              rw [htk, List.mem_append, List.mem_singleton, e2 x]
              constructor
              · exact Or.inl
              · rintro (q | q)
                · exact q
                · rw [q]; exact (e2 f).mp g1
            · exact Or.inr e1
          · have hN : rv_same [29, 30, 31, 32, 33, 34, 39] [1, 15, 25, 26, 27, 28, 29, 30, 31, 32, 33, 34] υ (rv_sF υ 30 1) := .f (by decide)
            have hN2 : rv_same [30] [] υ (rv_sF υ 30 1) := .f (by decide)
            refine ih (k + 1) _ cur (by omega) (by omega) (h1.tr hN) (fun i hi => by rw [rv_sF_2]; exact h2 i hi) (h3.same hN2 (by decide) (by decide)) h4 h5 (Or.inr ⟨by rw [rv_sF_1, if_pos rfl], ?_⟩)
            rcases h6 with ⟨e1, e2⟩ | ⟨_, e1⟩
            · intro G hGs hGF hGE
              have hnd : (f :: cur).Nodup := List.nodup_cons.mpr ⟨g1, sp_srt_nd h4⟩
              have := sp_nd_len hnd (G := G) (fun x hx => by
                rcases List.mem_cons.mp hx with rfl | hx
                · exact hGE _ (List.mem_of_getElem? hf)
                · exact hGE x (List.mem_of_mem_take ((e2 x).mp hx)))
              rw [List.length_cons] at this
              omega
            · exact e1
          · refine ih (k + 1) _ F' (by omega) (by omega) (h1.tr (g5.mn (by decide) (by decide))) (fun i hi => by rw [g6 i hi]; exact h2 i hi) g4 i1 (by omega) ?_
            rcases h6 with ⟨e1, e2⟩ | ⟨e0, e1⟩
            · refine Or.inl ⟨by rw [g5.1 30 (by decide)]; exact e1, fun x => ?_⟩
              rw [htk, List.mem_append, List.mem_singleton, i3 x, e2 x]
              constructor
              · rintro (q | q)
                · exact Or.inr q
                · exact Or.inl q
              · rintro (q | q)
                · exact Or.inr q
                · exact Or.inl q
            · exact Or.inr ⟨by rw [g5.1 30 (by decide)]; exact e0, e1⟩
    refine nv_iconst hX (m := 0) (by decide) dX4_settle_56 ?_
    refine rv_istore hX dX4_settle_57 (rv_st_4 rfl) ?_
    exact tells _ 0 σ0 [] (Nat.zero_le _) (Nat.lt_succ_self _) .rf (fun _ _ => rfl) ⟨hat6, by decide, fun f h => (by cases h), fun k f e => (by cases e)⟩ List.Pairwise.nil (Nat.zero_le _) (Or.inl ⟨h30, fun x => by simp⟩)
  refine rv_aload_n hX dX4_settle_0 rfl ?_
  refine mv_callz hX iX4_257 rfl mdX4_findStrata (m_findStrata hG (d := d - 1) (by omega) hR) (by omega) rfl rfl (Nat.le_of_ble_eq_true rfl) dX4_settle_1 (fun r_1 τ_1 h_1 => ?_)
  obtain ⟨s1, s2, s3, s4⟩ := h_1
  rw [(s2 st hst).1]
  refine rv_istore_n hX dX4_settle_4 (rv_st_1 rfl) ?_
  refine rv_aload_n hX dX4_settle_5 rfl ?_
  refine mv_ga hX (k := 1) (j := 1) gX4_7_X4 (by decide) rfl (by decide) dX4_settle_6 ?_
  refine nv_bipush hX (m := 6) (by decide) dX4_settle_9 ?_
  refine mv_ld hX (j := 1) (by decide) (by decide) rfl (by decide) (show _ < 11 by omega) dX4_settle_11 ?_
  rw [s1.2.1 1 (by decide), hF.1]
  refine rv_istore_n hX dX4_settle_12 (rv_st_2 rfl) ?_
  refine rv_aload_n hX dX4_settle_13 rfl ?_
  refine mv_ga hX (k := 15) (j := 15) gX4_52_X4 (by decide) rfl (by decide) dX4_settle_14 ?_
  refine nv_iconst hX (m := 0) (by decide) dX4_settle_17 ?_
  refine rv_aload_n hX dX4_settle_18 rfl ?_
  refine mv_ga hX (k := 26) (j := 23) gX4_76_X4 (by decide) rfl (by decide) dX4_settle_19 ?_
  refine nv_iconst hX (m := 0) (by decide) dX4_settle_22 ?_
  refine rv_iload_n hX dX4_settle_23 rfl ?_
  refine mv_copy hX iX4_144 hG (j1 := 15) (j2 := 23) ⟨by decide, by decide, rfl, by decide⟩ ⟨by decide, by decide, rfl, by decide⟩ (show _ ≤ 62 by omega) (show _ ≤ 62 by omega) (Or.inl (by decide)) (by omega) rfl (Nat.le_of_ble_eq_true rfl) dX4_settle_24 ?_
  refine rv_istore_n hX dX4_settle_27 (rv_st_3 rfl) ?_
  refine rv_aload_n hX dX4_settle_28 rfl ?_
  refine mv_ga hX (k := 16) (j := 16) gX4_55_X4 (by decide) rfl (by decide) dX4_settle_29 ?_
  refine nv_iconst hX (m := 0) (by decide) dX4_settle_32 ?_
  refine rv_aload_n hX dX4_settle_33 rfl ?_
  refine mv_ga hX (k := 27) (j := 24) gX4_79_X4 (by decide) rfl (by decide) dX4_settle_34 ?_
  refine nv_iconst hX (m := 0) (by decide) dX4_settle_37 ?_
  refine rv_iload_n hX dX4_settle_38 rfl ?_
  refine mv_copy hX iX4_144 hG (j1 := 16) (j2 := 24) ⟨by decide, by decide, rfl, by decide⟩ ⟨by decide, by decide, rfl, by decide⟩ (show _ ≤ 62 by omega) (show _ ≤ 62 by omega) (Or.inl (by decide)) (by omega) rfl (Nat.le_of_ble_eq_true rfl) dX4_settle_39 ?_
  refine rv_istore_n hX dX4_settle_42 (rv_st_3 rfl) ?_
  refine rv_aload_n hX dX4_settle_43 rfl ?_
  refine mv_ga hX (k := 1) (j := 1) gX4_7_X4 (by decide) rfl (by decide) dX4_settle_44 ?_
  refine nv_bipush hX (m := 6) (by decide) dX4_settle_47 ?_
  refine nv_iconst hX (m := 0) (by decide) dX4_settle_49 ?_
  refine mv_st hX (j := 1) (by decide) (by decide) rfl (by decide) (show _ < 11 by omega) dX4_settle_50 ?_
  refine rv_aload_n hX dX4_settle_51 rfl ?_
  refine nv_iconst hX (m := 0) (by decide) dX4_settle_52 ?_
  refine mv_pi hX (k := 30) pX4_239_X4 (by decide) rfl rfl rfl dX4_settle_53 ?_
  have hsA : ∀ f1 f2 v w, rv_same [30] [1, 22, 23, 24] τ_1 (rv_sF (rv_sU (rv_sA (rv_sA τ_1 23 f1) 24 f2) 1 6 v) 30 w) := fun f1 f2 v w => (((rv_same.a (by decide)).tr (.a (by decide))).tr (.u (by decide))).tr (.f (by decide))
  refine main _ _ ((s1.mn (by decide) (by decide)).tr (hsA _ _ _ _)) (fun i hi => ?_) ?_ ?_ ((s2 st hst).2.same (js := [1, 23, 24]) (fs := [30]) ((((rv_same.a (by decide)).tr (.a (by decide))).tr (.u (by decide))).tr (.f (by decide))) (by decide)) (fun k f e => ?_) (fun k t e => ?_)
  · rw [rv_sF_2, rv_sU_2, if_neg (by omega), rv_sA_2, if_neg (by decide), rv_sA_2, if_neg (by decide), s1.2.1 1 (by decide)]
  · rw [rv_sF_2, rv_sU_2, if_pos ⟨rfl, rfl⟩]
  · rw [rv_sF_1, if_pos rfl]
    rfl
  · rw [rv_sF_2, rv_sU_2, if_neg (by omega), rv_sA_2, if_neg (by decide), rv_sA_2, if_pos rfl]
    unfold sp_cp
    have := (List.getElem?_eq_some_iff.mp e).1
    rw [if_pos (by omega), s1.2.1 15 (by decide), show 0 + (k - 0) = k by omega]
    exact hF.2.2.2 k f e
  · rw [rv_sF_2, rv_sU_2, if_neg (by omega), rv_sA_2, if_pos rfl]
    unfold sp_cp
    have := (List.getElem?_eq_some_iff.mp e).1
    rw [if_pos (by omega), rv_sA_2, if_neg (by decide), s1.2.1 16 (by decide), show 0 + (k - 0) = k by omega]
    exact hA k t e
