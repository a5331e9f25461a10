/-! THE REFERENCE: depths, found by lowering -/
set_option maxRecDepth 100000
def sp_li (R : List sp_C) (F T : List Nat) (dep cur : Nat → Nat) (ch : Bool) : Prop := (∀ i, cur i ≤ dep i) ∧ (sp_dsnd R F T dep → sp_dsnd R F T cur) ∧ (ch = true → ∃ i, i < F.length ∧ cur i < dep i) ∧ (ch = false → cur = dep)
theorem sp_li.rf {R : List sp_C} {F T : List Nat} {dep : Nat → Nat} : sp_li R F T dep dep false := ⟨fun _ => Nat.le_refl _, id, fun e => (by cases e), fun _ => rfl⟩
theorem sp_li.step {R : List sp_C} {F T : List Nat} {dep cur : Nat → Nat} {ch : Bool} {k f m : Nat} (h : sp_li R F T dep cur ch) (hk : F[k]? = some f) (h6 : ∀ i, cur i ≤ 1000000) (hd : sp_dsnd R F T dep → m < 1000000 → sp_D R F T (1 + m) f) : sp_li R F T dep (sp_low cur k (1 + m)) (decide (1 + m < cur k) || ch) := by
  obtain ⟨a1, a2, a3, a4⟩ := h
  have hkl := (List.getElem?_eq_some_iff.mp hk).1
  have hck := h6 k
  by_cases q : 1 + m < cur k
  · rw [decide_eq_true q, Bool.true_or]
    have e : sp_low cur k (1 + m) k = 1 + m := by unfold sp_low; rw [if_pos ⟨rfl, q⟩]
    refine ⟨fun i => Nat.le_trans (sp_low_le _ _ _ _) (a1 i), fun hs i g hi hlt => ?_, fun _ => ⟨k, hkl, by rw [e]; exact Nat.lt_of_lt_of_le q (a1 k)⟩, fun e => (by cases e)⟩
    by_cases e2 : i = k
    · subst e2
      rw [hk] at hi
      cases hi
      rw [e]
      exact hd hs (by omega)
    · have e3 : sp_low cur k (1 + m) i = cur i := by unfold sp_low; rw [if_neg (fun h => e2 h.1)]
      rw [e3] at hlt ⊢
      exact a2 hs i g hi hlt
  · rw [sp_low_no q, decide_eq_false q, Bool.false_or]
    exact ⟨a1, a2, a3, a4⟩
theorem sp_D_plain {R : List sp_C} {F T : List Nat} {dep : Nat → Nat} {C : sp_C} {q : sp_Q} (hs : sp_dsnd R F T dep) (hC : C ∈ R) (hg : C.gath = none) (hq : q ∈ sp_m F C.its (fun _ => none)) (hm : sp_mxd dep (sp_atk C.its q.1) < 1000000) : sp_D R F T (1 + sp_mxd dep (sp_atk C.its q.1)) (sp_key C q) := by
  rw [Nat.add_comm]
  refine Or.inr ⟨C, hC, Or.inl ⟨hg, q, hq, rfl, fun k hk => ?_⟩⟩
  have hkl := sp_m_ks hq k hk
  have hge := sp_mxd_ge (dep := dep) hk
  have e : F[k]? = some (F.getD k 0) := by rw [List.getD_eq_getElem?_getD, List.getElem?_eq_getElem hkl]; rfl
  exact sp_D_le (hs k _ e (by omega)) hge
theorem sp_D_gath {R : List sp_C} {F T : List Nat} {dep : Nat → Nat} {C : sp_C} {key : Nat} (hs : sp_dsnd R F T dep) (hC : C ∈ R) (hg : C.gath ≠ none) (hk : key ∈ sp_keys C (sp_m F C.its (fun _ => none))) (hm : sp_gd dep C.its (sp_grp C (sp_m F C.its (fun _ => none)) key) < 1000000) : sp_D R F T (1 + sp_gd dep C.its (sp_grp C (sp_m F C.its (fun _ => none)) key)) (sp_gfact C (sp_m F C.its (fun _ => none)) key) := by
  rw [Nat.add_comm]
  refine Or.inr ⟨C, hC, Or.inr ⟨hg, key, hk, rfl, fun q hq k hkq => ?_⟩⟩
  have hqm := (List.mem_filter.mp hq).1
  have hkl := sp_m_ks hqm k hkq
  have h1 := sp_mxd_ge (dep := dep) hkq
  have h2 := sp_gd_ge (dep := dep) (its := C.its) hq
  have e : F[k]? = some (F.getD k 0) := by rw [List.getD_eq_getElem?_getD, List.getElem?_eq_getElem hkl]; rfl
  exact sp_D_le (hs k _ e (by omega)) (by omega)
/-- nothing can be lowered by a rule -/
def sp_dst (F : List Nat) (C : sp_C) (dep : Nat → Nat) : Prop := (C.gath = none → ∀ q, q ∈ sp_m F C.its (fun _ => none) → ∀ k, F[k]? = some (sp_key C q) → dep k ≤ 1 + sp_mxd dep (sp_atk C.its q.1)) ∧ (C.gath ≠ none → ∀ key, key ∈ sp_keys C (sp_m F C.its (fun _ => none)) → ∀ k, F[k]? = some (sp_gfact C (sp_m F C.its (fun _ => none)) key) → dep k ≤ 1 + sp_gd dep C.its (sp_grp C (sp_m F C.its (fun _ => none)) key))
/-- the matches of a rule of which all stands do not crowd -/
theorem sp_closed_keys {F : List Nat} {C : sp_C} {s t : Nat} (hl : C.hts.length ≤ 3) (hs : C.gath = some s) (ht : C.hts[s]? = some t) (ht2 : 200 ≤ t) (hsr : sp_srt F) (h60 : F.length ≤ 60) (hc : ∀ f, f ∈ sp_give F C → f ∈ F) {P R : List sp_Q} (hPR : P ++ R = sp_m F C.its (fun _ => none)) : (sp_keys C P).length ≤ 60 := by
  by_cases h : (sp_keys C P).length ≤ 60
  · exact h
  · have := (sp_keys_crowd hl hs ht ht2 hPR (by omega)).1 F hsr (fun _ q => q) hc
    omega
theorem m_lowerBy {G : rv_G} (hG : rv_GK G) {d : Nat} (hd : 7 ≤ d) {σ : rv_S} {S F T : List Nat} {R : List sp_C} {b : Nat} {C : sp_C} {dep : Nat → Nat} (hB : mBF σ S F b C) (hCR : C ∈ R) (hsr : sp_srt F) (h60 : F.length ≤ 60) (hcl : ∀ f, f ∈ sp_give F C → f ∈ F) (hdp : mDep σ dep) : mC G d yX4_lowerBy wX4_lowerBy [.int (nI b)] σ (mPz (fun r τ => rv_same [31, 32, 33, 34, 39] [26, 27, 28, 29, 30, 31, 32, 33, 34, 35] σ τ ∧ ∃ cur, mDep τ cur ∧ sp_li R F T dep cur r ∧ (r = false → sp_dst F C dep))) := by
  refine mv_start hG (by decide +kernel) (Nat.le_of_ble_eq_true rfl) (fun X Hb o hX1 hX hE => ?_)
  subst hX1
  show rv_V X (rv_mh Hb o _) 0 [some (.ref o), some (.int (nI b)), none, none] []
  have hb17 := hB.2.2.2.2
  have hbds := hB.hd.bds
  have hl3 := hbds.2.2.1
  have mats : C.gath = none → ∀ (n : Nat) (P Q : List sp_Q) (τ : rv_S) (cur : Nat → Nat) (ch : Bool), Q.length < n → P ++ Q = sp_m F C.its (fun _ => none) → mRun τ F C.its Q → rv_same [31, 32, 33, 34, 39] [26, 27, 28, 29, 30, 31, 32, 33, 34, 35] σ τ → mCfg τ S F b (fun p => p) C.its → mDep τ cur → sp_li R F T dep cur ch → (ch = false → ∀ q, q ∈ P → ∀ k, F[k]? = some (sp_key C q) → dep k ≤ 1 + sp_mxd dep (sp_atk C.its q.1)) → rv_V X (rv_mh Hb o τ) 79 [some (.ref o), some (.int (nI b)), some (.int (rv_z ch)), none] [] := by
    intro hgn n
    induction n with
    | zero => intro P Q τ cur ch h; omega
    | succ n ih =>
      intro P Q τ cur ch hn hPQ hr hsm hc hdc hli hst
      refine rv_aload_n hX dX4_lowerBy_79 rfl ?_
      refine mv_callz hX iX4_218 rfl mdX4_nextMatch (m_nextMatch hG (d := d - 1) (by omega) hc hr) (by omega) rfl rfl (Nat.le_of_ble_eq_true rfl) dX4_lowerBy_80 (fun r_80 τ_80 h_80 => ?_)
      obtain ⟨n1, n2, n3⟩ := h_80
      first | refine zv_if_eq hX 117 dX4_lowerBy_83 (by decide) (fun c_83 => ?_) (fun c_83 => ?_) | refine nv_if_eq hX 117 (by omega) dX4_lowerBy_83 (by decide) (fun c_83 => ?_) (fun c_83 => ?_) | refine rv_if_eq hX 117 dX4_lowerBy_83 (by decide) (fun c_83 => ?_) (fun c_83 => ?_)
      · skip
        refine rv_iload_n hX dX4_lowerBy_117 rfl ?_
        refine mv_retz hX hE rfl dX4_lowerBy_118 ?_
        have hQ0 : Q = [] := by
          cases Q with
          | nil => rfl
          | cons q T =>
            have := (n2 q.1 q.2 T rfl).1
            rw [c_83] at this
            cases this
        subst hQ0
        rw [List.append_nil] at hPQ
        refine ⟨hsm.tr (n1.mn (by decide) (by decide)), cur, hdc.same n1 (by decide), hli, fun e => ⟨fun _ => ?_, fun h => absurd hgn h⟩⟩
        rw [← hPQ]
        exact hst e
      · skip
        obtain ⟨q, T9, hR⟩ : ∃ q T, Q = q :: T := by
          cases Q with
          | nil => have := n3 rfl; rw [c_83] at this; cases this
          | cons q T => exact ⟨q, T, rfl⟩
        subst hR
        have hm := (n2 q.1 q.2 T9 rfl).2
        have hqm : q ∈ sp_m F C.its (fun _ => none) := by rw [← hPQ]; exact List.mem_append_right _ List.mem_cons_self
        obtain ⟨kn1, kn2⟩ := hB.2.2.2.1.known hqm
        have hsm2 := hsm.tr (n1.mn (fs' := [31, 32, 33, 34, 39]) (js' := [26, 27, 28, 29, 30, 31, 32, 33, 34, 35]) (by decide) (by decide))
        have hB2 := hB.same hsm2 (by decide)
        have hc2 := hc.same n1 (by decide) (by decide)
        have hdc2 := hdc.same n1 (by decide)
        have hmx := sp_mxd_le hdc2.2 (sp_atk C.its q.1)
        have hkF : sp_key C q ∈ F := hcl _ (by unfold sp_give; rw [if_pos hgn]; exact List.mem_map.mpr ⟨q, hqm, rfl⟩)
        obtain ⟨k, hk⟩ := List.getElem?_of_mem hkF
        refine rv_aload_n hX dX4_lowerBy_86 rfl ?_
        refine rv_aload_n hX dX4_lowerBy_87 rfl ?_
        refine rv_iload_n hX dX4_lowerBy_88 rfl ?_
        refine mv_calli hX iX4_222 rfl mdX4_headFact (m_headFact hG (d := d - 1) (by omega) hB2.hd hm.val kn1) (by omega) rfl rfl (Nat.le_of_ble_eq_true rfl) dX4_lowerBy_89 (fun r_89 τ_89 h_89 => ?_)
        obtain ⟨rfl, rfl⟩ := h_89
        refine nv_iconst hX (m := 1) (by decide) dX4_lowerBy_92 ?_
        refine rv_aload_n hX dX4_lowerBy_93 rfl ?_
        refine mv_calli hX iX4_225 rfl mdX4_matchDepth (m_matchDepth hG (d := d - 1) (by omega) hc2 hm.tri (hm.dep hdc2) hdc2.2) (by omega) rfl rfl (Nat.le_of_ble_eq_true rfl) dX4_lowerBy_94 (fun r_94 τ_94 h_94 => ?_)
        obtain ⟨rfl, rfl⟩ := h_94
        first | refine nv_iadd hX dX4_lowerBy_97 ?_ | refine rv_iadd hX dX4_lowerBy_97 ?_
        refine mv_callz hX iX4_338 rfl mdX4_lower (m_lower hG (d := d - 1) (by omega) hB2.2.1 hsr (f := sp_key C q) hk hdc2 (by omega)) (by omega) rfl rfl (Nat.le_of_ble_eq_true rfl) dX4_lowerBy_98 (fun r_98 τ_98 h_98 => ?_)
        obtain ⟨l1, l2, l3⟩ := h_98
        first | refine zv_if_ne hX 108 dX4_lowerBy_101 (by decide) (fun c_101 => ?_) (fun c_101 => ?_) | refine nv_if_ne hX 108 (by omega) dX4_lowerBy_101 (by decide) (fun c_101 => ?_) (fun c_101 => ?_) | refine rv_if_ne hX 108 dX4_lowerBy_101 (by decide) (fun c_101 => ?_) (fun c_101 => ?_)
        · skip
          refine nv_iconst hX (m := 1) (by decide) dX4_lowerBy_108 ?_
          refine rv_goto hX 113 dX4_lowerBy_109 (by decide) ?_
          refine rv_istore_n hX dX4_lowerBy_113 (rv_st_2 rfl) ?_
          refine rv_goto hX 79 dX4_lowerBy_114 (by decide) ?_
          have hli2 := hli.step hk hdc2.2 (fun hs hm9 => sp_D_plain (hli.2.1 hs) hCR hgn hqm hm9)
          rw [← l3] at hli2
          have hst2 : (r_98 || ch) = false → ∀ q', q' ∈ P ++ [q] → ∀ k, F[k]? = some (sp_key C q') → dep k ≤ 1 + sp_mxd dep (sp_atk C.its q'.1) := by
            intro e q' hq' k' hk'
            rw [Bool.or_eq_false_iff] at e
            obtain ⟨e1, e2⟩ := e
            rcases List.mem_append.mp hq' with hq' | hq'
            · exact hst e2 q' hq' k' hk'
            · rw [List.mem_singleton.mp hq'] at hk' ⊢
              rw [sp_nd_inj (sp_srt_nd hsr) hk' hk]
              have hcd := hli.2.2.2 e2
              rw [e1] at l3
              have := of_decide_eq_false l3.symm
              rw [hcd] at this
              omega
          have h9 := fun ch' => ih (P ++ [q]) T9 τ_98 _ ch' (by have : T9.length + 1 < n + 1 := hn; omega) (by rw [List.append_assoc]; exact hPQ) (Or.inr ⟨q.1, q.2, hm.same l1 (by decide) (by decide)⟩) (hsm2.tr (l1.mn (by decide) (by decide))) (hc2.same l1 (by decide) (by decide)) l2
          first
            | (rw [c_101, Bool.true_or] at hli2 hst2; exact h9 true hli2 hst2)
            | (rw [c_101, c_105, Bool.or_self] at hli2 hst2; exact h9 false hli2 hst2)
            | (rw [c_101, c_105, Bool.false_or] at hli2 hst2; exact h9 true hli2 hst2)
        · skip
          refine rv_iload_n hX dX4_lowerBy_104 rfl ?_
          first | refine zv_if_eq hX 112 dX4_lowerBy_105 (by decide) (fun c_105 => ?_) (fun c_105 => ?_) | refine nv_if_eq hX 112 (by omega) dX4_lowerBy_105 (by decide) (fun c_105 => ?_) (fun c_105 => ?_) | refine rv_if_eq hX 112 dX4_lowerBy_105 (by decide) (fun c_105 => ?_) (fun c_105 => ?_)
          · skip
            refine nv_iconst hX (m := 0) (by decide) dX4_lowerBy_112 ?_
            refine rv_istore_n hX dX4_lowerBy_113 (rv_st_2 rfl) ?_
            refine rv_goto hX 79 dX4_lowerBy_114 (by decide) ?_
            have hli2 := hli.step hk hdc2.2 (fun hs hm9 => sp_D_plain (hli.2.1 hs) hCR hgn hqm hm9)
            rw [← l3] at hli2
            have hst2 : (r_98 || ch) = false → ∀ q', q' ∈ P ++ [q] → ∀ k, F[k]? = some (sp_key C q') → dep k ≤ 1 + sp_mxd dep (sp_atk C.its q'.1) := by
              intro e q' hq' k' hk'
              rw [Bool.or_eq_false_iff] at e
              obtain ⟨e1, e2⟩ := e
              rcases List.mem_append.mp hq' with hq' | hq'
              · exact hst e2 q' hq' k' hk'
              · rw [List.mem_singleton.mp hq'] at hk' ⊢
                rw [sp_nd_inj (sp_srt_nd hsr) hk' hk]
                have hcd := hli.2.2.2 e2
                rw [e1] at l3
                have := of_decide_eq_false l3.symm
                rw [hcd] at this
                omega
            have h9 := fun ch' => ih (P ++ [q]) T9 τ_98 _ ch' (by have : T9.length + 1 < n + 1 := hn; omega) (by rw [List.append_assoc]; exact hPQ) (Or.inr ⟨q.1, q.2, hm.same l1 (by decide) (by decide)⟩) (hsm2.tr (l1.mn (by decide) (by decide))) (hc2.same l1 (by decide) (by decide)) l2
            first
              | (rw [c_101, Bool.true_or] at hli2 hst2; exact h9 true hli2 hst2)
              | (rw [c_101, c_105, Bool.or_self] at hli2 hst2; exact h9 false hli2 hst2)
              | (rw [c_101, c_105, Bool.false_or] at hli2 hst2; exact h9 true hli2 hst2)
          · skip
            refine nv_iconst hX (m := 1) (by decide) dX4_lowerBy_108 ?_
            refine rv_goto hX 113 dX4_lowerBy_109 (by decide) ?_
            refine rv_istore_n hX dX4_lowerBy_113 (rv_st_2 rfl) ?_
            refine rv_goto hX 79 dX4_lowerBy_114 (by decide) ?_
            have hli2 := hli.step hk hdc2.2 (fun hs hm9 => sp_D_plain (hli.2.1 hs) hCR hgn hqm hm9)
            rw [← l3] at hli2
            have hst2 : (r_98 || ch) = false → ∀ q', q' ∈ P ++ [q] → ∀ k, F[k]? = some (sp_key C q') → dep k ≤ 1 + sp_mxd dep (sp_atk C.its q'.1) := by
              intro e q' hq' k' hk'
              rw [Bool.or_eq_false_iff] at e
              obtain ⟨e1, e2⟩ := e
              rcases List.mem_append.mp hq' with hq' | hq'
              · exact hst e2 q' hq' k' hk'
              · rw [List.mem_singleton.mp hq'] at hk' ⊢
                rw [sp_nd_inj (sp_srt_nd hsr) hk' hk]
                have hcd := hli.2.2.2 e2
                rw [e1] at l3
                have := of_decide_eq_false l3.symm
                rw [hcd] at this
                omega
            have h9 := fun ch' => ih (P ++ [q]) T9 τ_98 _ ch' (by have : T9.length + 1 < n + 1 := hn; omega) (by rw [List.append_assoc]; exact hPQ) (Or.inr ⟨q.1, q.2, hm.same l1 (by decide) (by decide)⟩) (hsm2.tr (l1.mn (by decide) (by decide))) (hc2.same l1 (by decide) (by decide)) l2
            first
              | (rw [c_101, Bool.true_or] at hli2 hst2; exact h9 true hli2 hst2)
              | (rw [c_101, c_105, Bool.or_self] at hli2 hst2; exact h9 false hli2 hst2)
              | (rw [c_101, c_105, Bool.false_or] at hli2 hst2; exact h9 true hli2 hst2)
  have grps : ∀ (s t : Nat) (P : List sp_Q), C.gath = some s → C.hts[s]? = some t → 200 ≤ t → P = sp_m F C.its (fun _ => none) → ∀ (n j : Nat) (υ : rv_S) (cur : Nat → Nat) (ch : Bool), j ≤ (sp_keys C P).length → (sp_keys C P).length - j < n → rv_same [31, 32, 33, 34, 39] [26, 27, 28, 29, 30, 31, 32, 33, 34, 35] σ υ → mGr υ C dep ((t - 200) % 8) P (sp_keys C P) → mDep υ cur → sp_li R F T dep cur ch → (ch = false → ∀ key, key ∈ (sp_keys C P).take j → ∀ k, F[k]? = some (sp_gfact C P key) → dep k ≤ 1 + sp_gd dep C.its (sp_grp C P key)) → rv_V X (rv_mh Hb o υ) 17 [some (.ref o), some (.int (nI b)), some (.int (rv_z ch)), some (.int (nI j))] [] := by
    intro s t P hs ht ht2 hP n
    have hgt : C.gt = t := by
      unfold sp_C.gt
      rw [hs]
      exact sp_getD ht
    have hgx : C.gx = (t - 200) % 8 := by unfold sp_C.gx; rw [hgt]
    have hgne : C.gath ≠ none := by rw [hs]; simp
    have hs3 := (List.getElem?_eq_some_iff.mp ht).1
    induction n with
    | zero => intro j υ cur ch h1 h2; omega
    | succ n ih =>
      intro j υ cur ch h1 h2 h3 h4 hdc hli hst
      have hB2 := hB.same h3 (by decide)
      have hK61 := h4.2.1
      refine rv_iload_n hX dX4_lowerBy_17 rfl ?_
      refine rv_aload_n hX dX4_lowerBy_18 rfl ?_
      refine mv_gi hX (k := 39) gX4_208_X4 (by decide) rfl dX4_lowerBy_19 ?_
      rw [h4.1]
      first | refine nv_icmp_ge hX 62 (by omega) (by omega) dX4_lowerBy_22 (by decide) (fun c_22 => ?_) (fun c_22 => ?_) | refine rv_icmp_ge hX 62 dX4_lowerBy_22 (by decide) (fun c_22 => ?_) (fun c_22 => ?_)
      · skip
        refine rv_iload_n hX dX4_lowerBy_62 rfl ?_
        refine mv_retz hX hE rfl dX4_lowerBy_63 ?_
        have hke : (sp_keys C P).take j = sp_keys C P := List.take_of_length_le (by omega)
        rw [hke] at hst
        refine ⟨h3, cur, hdc, hli, fun e => ⟨fun h => absurd h hgne, fun _ => ?_⟩⟩
        rw [← hP]
        exact hst e
      · skip
        obtain ⟨key, hkey⟩ : ∃ key, (sp_keys C P)[j]? = some key := ⟨(sp_keys C P)[j], List.getElem?_eq_getElem (by omega)⟩
        have hkm := List.mem_of_getElem? hkey
        obtain ⟨k1, k2, k3, k4, k5, k6⟩ := h4.2.2 j key hkey
        have hgdl := sp_gd_le (its := C.its) hdc.2 (sp_grp C P key)
        have hex : ∃ a, a < 100 ∧ sp_hasv ((t - 200) % 8) (sp_grp C P key) a = true := by
          obtain ⟨q, hq⟩ := sp_grp_ne hkm
          have hqP : q ∈ sp_m F C.its (fun _ => none) := by rw [← hP]; exact (List.mem_filter.mp hq).1
          obtain ⟨y, hy⟩ := Option.isSome_iff_exists.mp ((hB.2.2.2.1.known hqP).2 t (List.mem_of_getElem? ht) ht2)
          refine ⟨y, sp_m_bd sp_none_bd q hqP _ y hy, ?_⟩
          unfold sp_hasv
          rw [List.any_eq_true]
          exact ⟨q, hq, by rw [hy]; simp⟩
        have hgf : sp_gfact C P key = key + sp_wt s * sp_min99 (sp_agg ((t - 200) / 8) (sp_hasv ((t - 200) % 8) (sp_grp C P key))) := by
          unfold sp_gfact
          rw [hgt, hgx, hs]
          rfl
        have hgF : sp_gfact C P key ∈ F := hcl _ (by unfold sp_give; rw [if_neg hgne, ← hP]; exact List.mem_map.mpr ⟨key, hkm, rfl⟩)
        obtain ⟨k, hk⟩ := List.getElem?_of_mem hgF
        have hgd0 := sp_gd_le (dep := dep) (its := C.its) (m := 1000000) hdp.2 (sp_grp C P key)
        refine rv_aload_n hX dX4_lowerBy_25 rfl ?_
        refine rv_aload_n hX dX4_lowerBy_26 rfl ?_
        refine rv_iload_n hX dX4_lowerBy_27 rfl ?_
        refine rv_iload_n hX dX4_lowerBy_28 rfl ?_
        refine mv_calli hX iX4_248 rfl mdX4_groupFact (m_groupFact hG (d := d - 1) (by omega) hB2.hd hB2.2.2.2.1.hts hs ht (by omega) k1 k2 k3 k4 hex) (by omega) rfl rfl (Nat.le_of_ble_eq_true rfl) dX4_lowerBy_29 (fun r_29 τ_29 h_29 => ?_)
        obtain ⟨rfl, rfl⟩ := h_29
        rw [← hgf]
        refine nv_iconst hX (m := 1) (by decide) dX4_lowerBy_32 ?_
        refine rv_aload_n hX dX4_lowerBy_33 rfl ?_
        refine mv_ga hX (k := 43) (j := 33) gX4_107_X4 (by decide) rfl (by decide) dX4_lowerBy_34 ?_
        refine rv_iload_n hX dX4_lowerBy_37 rfl ?_
        refine mv_ld hX (j := 33) (by decide) (by decide) rfl (by decide) (show _ < 62 by omega) dX4_lowerBy_38 ?_
        rw [k5]
        first | refine nv_iadd hX dX4_lowerBy_39 ?_ | refine rv_iadd hX dX4_lowerBy_39 ?_
        refine mv_callz hX iX4_338 rfl mdX4_lower (m_lower hG (d := d - 1) (by omega) hB2.2.1 hsr (f := sp_gfact C P key) hk hdc (by omega)) (by omega) rfl rfl (Nat.le_of_ble_eq_true rfl) dX4_lowerBy_40 (fun r_40 τ_40 h_40 => ?_)
        obtain ⟨l1, l2, l3⟩ := h_40
        first | refine zv_if_ne hX 50 dX4_lowerBy_43 (by decide) (fun c_43 => ?_) (fun c_43 => ?_) | refine nv_if_ne hX 50 (by omega) dX4_lowerBy_43 (by decide) (fun c_43 => ?_) (fun c_43 => ?_) | refine rv_if_ne hX 50 dX4_lowerBy_43 (by decide) (fun c_43 => ?_) (fun c_43 => ?_)
        · skip
          refine nv_iconst hX (m := 1) (by decide) dX4_lowerBy_50 ?_
          refine rv_goto hX 55 dX4_lowerBy_51 (by decide) ?_
          refine rv_istore_n hX dX4_lowerBy_55 (rv_st_2 rfl) ?_
          first | refine nv_iinc hX (m := 1) dX4_lowerBy_56 rfl (by decide) (rv_st_3 rfl) ?_ | refine rv_iinc hX dX4_lowerBy_56 rfl rfl (rv_st_3 rfl) ?_
          refine rv_goto hX 17 dX4_lowerBy_59 (by decide) ?_
          have hli2 := hli.step (m := sp_gd dep C.its (sp_grp C P key)) hk hdc.2 (fun hsn hm9 => by
            have hkm' : key ∈ sp_keys C (sp_m F C.its (fun _ => none)) := by rw [← hP]; exact hkm
            have hm9' : sp_gd dep C.its (sp_grp C (sp_m F C.its (fun _ => none)) key) < 1000000 := by rw [← hP]; exact hm9
            have := sp_D_gath hsn hCR hgne hkm' hm9'
            rw [← hP] at this
            exact this)
          rw [← l3] at hli2
          have hst2 : (r_40 || ch) = false → ∀ key', key' ∈ (sp_keys C P).take (j + 1) → ∀ k, F[k]? = some (sp_gfact C P key') → dep k ≤ 1 + sp_gd dep C.its (sp_grp C P key') := by
            intro e key' hq' k' hk'
            rw [Bool.or_eq_false_iff] at e
            obtain ⟨e1, e2⟩ := e
            rw [sp_take_get hkey] at hq'
            rcases List.mem_append.mp hq' with hq' | hq'
            · exact hst e2 key' hq' k' hk'
            · rw [List.mem_singleton.mp hq'] at hk' ⊢
              rw [sp_nd_inj (sp_srt_nd hsr) hk' hk]
              have hcd := hli.2.2.2 e2
              rw [e1] at l3
              have := of_decide_eq_false l3.symm
              rw [hcd] at this
              omega
          have h9 := fun ch' => ih (j + 1) τ_40 _ ch' (by omega) (by omega) (h3.tr (l1.mn (by decide) (by decide))) (h4.same l1 (by decide) (by decide)) l2
          first
            | (rw [c_43, Bool.true_or] at hli2 hst2; exact h9 true hli2 hst2)
            | (rw [c_43, c_47, Bool.or_self] at hli2 hst2; exact h9 false hli2 hst2)
            | (rw [c_43, c_47, Bool.false_or] at hli2 hst2; exact h9 true hli2 hst2)
        · skip
          refine rv_iload_n hX dX4_lowerBy_46 rfl ?_
          first | refine zv_if_eq hX 54 dX4_lowerBy_47 (by decide) (fun c_47 => ?_) (fun c_47 => ?_) | refine nv_if_eq hX 54 (by omega) dX4_lowerBy_47 (by decide) (fun c_47 => ?_) (fun c_47 => ?_) | refine rv_if_eq hX 54 dX4_lowerBy_47 (by decide) (fun c_47 => ?_) (fun c_47 => ?_)
          · skip
            refine nv_iconst hX (m := 0) (by decide) dX4_lowerBy_54 ?_
            refine rv_istore_n hX dX4_lowerBy_55 (rv_st_2 rfl) ?_
            first | refine nv_iinc hX (m := 1) dX4_lowerBy_56 rfl (by decide) (rv_st_3 rfl) ?_ | refine rv_iinc hX dX4_lowerBy_56 rfl rfl (rv_st_3 rfl) ?_
            refine rv_goto hX 17 dX4_lowerBy_59 (by decide) ?_
            have hli2 := hli.step (m := sp_gd dep C.its (sp_grp C P key)) hk hdc.2 (fun hsn hm9 => by
              have hkm' : key ∈ sp_keys C (sp_m F C.its (fun _ => none)) := by rw [← hP]; exact hkm
              have hm9' : sp_gd dep C.its (sp_grp C (sp_m F C.its (fun _ => none)) key) < 1000000 := by rw [← hP]; exact hm9
              have := sp_D_gath hsn hCR hgne hkm' hm9'
              rw [← hP] at this
              exact this)
            rw [← l3] at hli2
            have hst2 : (r_40 || ch) = false → ∀ key', key' ∈ (sp_keys C P).take (j + 1) → ∀ k, F[k]? = some (sp_gfact C P key') → dep k ≤ 1 + sp_gd dep C.its (sp_grp C P key') := by
              intro e key' hq' k' hk'
              rw [Bool.or_eq_false_iff] at e
              obtain ⟨e1, e2⟩ := e
              rw [sp_take_get hkey] at hq'
              rcases List.mem_append.mp hq' with hq' | hq'
              · exact hst e2 key' hq' k' hk'
              · rw [List.mem_singleton.mp hq'] at hk' ⊢
                rw [sp_nd_inj (sp_srt_nd hsr) hk' hk]
                have hcd := hli.2.2.2 e2
                rw [e1] at l3
                have := of_decide_eq_false l3.symm
                rw [hcd] at this
                omega
            have h9 := fun ch' => ih (j + 1) τ_40 _ ch' (by omega) (by omega) (h3.tr (l1.mn (by decide) (by decide))) (h4.same l1 (by decide) (by decide)) l2
            first
              | (rw [c_43, Bool.true_or] at hli2 hst2; exact h9 true hli2 hst2)
              | (rw [c_43, c_47, Bool.or_self] at hli2 hst2; exact h9 false hli2 hst2)
              | (rw [c_43, c_47, Bool.false_or] at hli2 hst2; exact h9 true hli2 hst2)
          · skip
            refine nv_iconst hX (m := 1) (by decide) dX4_lowerBy_50 ?_
            refine rv_goto hX 55 dX4_lowerBy_51 (by decide) ?_
            refine rv_istore_n hX dX4_lowerBy_55 (rv_st_2 rfl) ?_
            first | refine nv_iinc hX (m := 1) dX4_lowerBy_56 rfl (by decide) (rv_st_3 rfl) ?_ | refine rv_iinc hX dX4_lowerBy_56 rfl rfl (rv_st_3 rfl) ?_
            refine rv_goto hX 17 dX4_lowerBy_59 (by decide) ?_
            have hli2 := hli.step (m := sp_gd dep C.its (sp_grp C P key)) hk hdc.2 (fun hsn hm9 => by
              have hkm' : key ∈ sp_keys C (sp_m F C.its (fun _ => none)) := by rw [← hP]; exact hkm
              have hm9' : sp_gd dep C.its (sp_grp C (sp_m F C.its (fun _ => none)) key) < 1000000 := by rw [← hP]; exact hm9
              have := sp_D_gath hsn hCR hgne hkm' hm9'
              rw [← hP] at this
              exact this)
            rw [← l3] at hli2
            have hst2 : (r_40 || ch) = false → ∀ key', key' ∈ (sp_keys C P).take (j + 1) → ∀ k, F[k]? = some (sp_gfact C P key') → dep k ≤ 1 + sp_gd dep C.its (sp_grp C P key') := by
              intro e key' hq' k' hk'
              rw [Bool.or_eq_false_iff] at e
              obtain ⟨e1, e2⟩ := e
              rw [sp_take_get hkey] at hq'
              rcases List.mem_append.mp hq' with hq' | hq'
              · exact hst e2 key' hq' k' hk'
              · rw [List.mem_singleton.mp hq'] at hk' ⊢
                rw [sp_nd_inj (sp_srt_nd hsr) hk' hk]
                have hcd := hli.2.2.2 e2
                rw [e1] at l3
                have := of_decide_eq_false l3.symm
                rw [hcd] at this
                omega
            have h9 := fun ch' => ih (j + 1) τ_40 _ ch' (by omega) (by omega) (h3.tr (l1.mn (by decide) (by decide))) (h4.same l1 (by decide) (by decide)) l2
            first
              | (rw [c_43, Bool.true_or] at hli2 hst2; exact h9 true hli2 hst2)
              | (rw [c_43, c_47, Bool.or_self] at hli2 hst2; exact h9 false hli2 hst2)
              | (rw [c_43, c_47, Bool.false_or] at hli2 hst2; exact h9 true hli2 hst2)
  refine nv_iconst hX (m := 0) (by decide) dX4_lowerBy_0 ?_
  refine rv_istore_n hX dX4_lowerBy_1 (rv_st_2 rfl) ?_
  refine rv_aload_n hX dX4_lowerBy_2 rfl ?_
  refine rv_iload_n hX dX4_lowerBy_3 rfl ?_
  refine mv_callz hX iX4_236 rfl mdX4_isGathering (m_isGathering hG (d := d - 1) hB.hd) (by omega) rfl rfl (Nat.le_of_ble_eq_true rfl) dX4_lowerBy_4 (fun r_4 τ_4 h_4 => ?_)
  obtain ⟨rfl, hg⟩ := h_4
  first | refine zv_if_eq hX 64 dX4_lowerBy_7 (by decide) (fun c_7 => ?_) (fun c_7 => ?_) | refine nv_if_eq hX 64 (by omega) dX4_lowerBy_7 (by decide) (fun c_7 => ?_) (fun c_7 => ?_) | refine rv_if_eq hX 64 dX4_lowerBy_7 (by decide) (fun c_7 => ?_) (fun c_7 => ?_)
  · skip
    have hgn : C.gath = none := by
      have : (sp_gslot C.hts 0).isSome = false := hg.symm.trans c_7
      cases e : C.gath with
      | none => rfl
      | some s =>
        have e' : sp_gslot C.hts 0 = some s := e
        rw [e'] at this
        cases this
    refine rv_aload_n hX dX4_lowerBy_64 rfl ?_
    refine mv_callv hX iX4_211 rfl mdX4_forget (m_forget hG (d := d - 1)) (by omega) rfl rfl (Nat.le_of_ble_eq_true rfl) dX4_lowerBy_65 (fun τ_65 h_65 => ?_)
    obtain ⟨f1, f2, f3⟩ := h_65
    refine rv_aload_n hX dX4_lowerBy_68 rfl ?_
    refine rv_iload_n hX dX4_lowerBy_69 rfl ?_
    refine rv_aload_n hX dX4_lowerBy_70 rfl ?_
    refine mv_ga hX (k := 6) (j := 6) gX4_25_X4 (by decide) rfl (by decide) dX4_lowerBy_71 ?_
    refine rv_iload_n hX dX4_lowerBy_74 rfl ?_
    refine mv_ld hX (j := 6) (by decide) (by decide) rfl (by decide) (show _ < 17 by omega) dX4_lowerBy_75 ?_
    rw [f3.2.1 6 (by decide), hB.2.2.1.len]
    refine mv_callv hX iX4_214 rfl mdX4_beginMatches (m_beginMatches hG (d := d - 1)) (by omega) rfl rfl (Nat.le_of_ble_eq_true rfl) dX4_lowerBy_76 (fun τ_76 h_76 => ?_)
    obtain ⟨g1, g2, g3, g4, g5, g6⟩ := h_76
    have hS1 := f3.mn (fs' := [31, 32, 33, 34, 39]) (js' := [26, 27, 28, 29, 30, 31, 32, 33, 34, 35]) (by decide) (by decide)
    have hS2 := hS1.tr (g6.mn (by decide) (by decide))
    exact mats hgn _ [] _ τ_76 dep false (Nat.lt_succ_self _) rfl (Or.inl ⟨fun _ => none, ⟨f1.same g6 (by decide), f2.same g6 (by decide), g3, g4, sp_snd.okA hB.2.2.2.1.its (sp_has_none _) hB.2.2.2.1.snd⟩, rfl⟩) hS2 ((hB.same hS2 (by decide)).cfg' g1 g2 g5) ((hdp.same f3 (by decide)).same g6 (by decide)) .rf (fun _ q hq => by cases hq)
  · skip
    obtain ⟨s, hs⟩ := Option.isSome_iff_exists.mp (hg.symm.trans c_7)
    obtain ⟨_, t, ht', ht2⟩ := sp_gslot_get hs
    have ht : C.hts[s]? = some t := by rw [Nat.sub_zero] at ht'; exact ht'
    refine rv_aload_n hX dX4_lowerBy_10 rfl ?_
    refine rv_iload_n hX dX4_lowerBy_11 rfl ?_
    refine mv_callv hX iX4_245 rfl mdX4_gatherAll (m_gatherAll hG (d := d - 1) (by omega) hB hdp hs ht) (by omega) rfl rfl (Nat.le_of_ble_eq_true rfl) dX4_lowerBy_12 (fun τ_12 h_12 => ?_)
    obtain ⟨a1, P, Q, a2, a3, a4⟩ := h_12
    refine nv_iconst hX (m := 0) (by decide) dX4_lowerBy_15 ?_
    refine rv_istore_n hX dX4_lowerBy_16 (rv_st_3 rfl) ?_
    have hk60 := sp_closed_keys hl3 hs ht ht2 hsr h60 hcl a2
    have hQ : Q = [] := by
      rcases a4 with a4 | a4
      · exact a4
      · omega
    subst hQ
    rw [List.append_nil] at a2
    exact grps s t P hs ht ht2 a2 _ 0 _ dep false (Nat.zero_le _) (Nat.lt_succ_self _) (a1.mn (by decide) (by decide)) a3 (hdp.same a1 (by decide)) .rf (fun _ key hkey => by cases hkey)
