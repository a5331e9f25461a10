/-! THE REFERENCE: what a rule gives comes to stand -/
set_option maxRecDepth 100000
def sp_mid (F T E : List Nat) : Prop := ((∀ f, f ∈ E → f ∈ T) ∧ ∀ f, f ∈ T → f ∈ F ∨ f ∈ E) ∨ (sp_crowd F T ∧ sp_crowd F E)
theorem sp_crowd_exl {F L : List Nat} (h : sp_crowd F L) : sp_crowd F (sp_exl F L) := by
  obtain ⟨p1, p2, p3, p4⟩ := sp_exl_prop F L
  intro G hG hF hE
  rcases p4 with p4 | p4
  · have := sp_nd_len p1 hE
    omega
  · exact h G hG hF (fun x hx => by
      rcases p4 x hx with q | q
      · exact hF x q
      · exact hE x q)
theorem sp_mid_exl {F T L : List Nat} (h1 : ∀ f, f ∈ L → f ∈ T) (h2 : 60 < (sp_exl F L).length ∨ ∀ f, f ∈ T → f ∈ L) : sp_mid F T (sp_exl F L) := by
  obtain ⟨p1, p2, p3, p4⟩ := sp_exl_prop F L
  by_cases h : 60 < (sp_exl F L).length
  · refine Or.inr ⟨fun G hG hF hT => ?_, fun G hG hF hE => ?_⟩
    · have := sp_nd_len p1 (fun x hx => hT x (h1 x (p2 x hx).1))
      omega
    · have := sp_nd_len p1 hE
      omega
  · refine Or.inl ⟨fun f hf => h1 f (p2 f hf).1, fun f hf => ?_⟩
    rcases h2 with h2 | h2
    · exact absurd h2 h
    · rcases p4 with p4 | p4
      · exact absurd p4 (by omega)
      · exact p4 f (h2 f hf)
def mStand (F : List Nat) (T : List Nat) (r : Bool) (τ : rv_S) : Prop := ∃ F', mFacts τ F' ∧ sp_srt F' ∧ F'.length ≤ 60 ∧ ((τ.1 30 = 0 ∧ (∀ x, x ∈ F' ↔ x ∈ F ∨ x ∈ T) ∧ (r = true ↔ ∃ x, x ∈ T ∧ x ∉ F)) ∨ (τ.1 30 = 1 ∧ sp_crowd F T))
theorem m_give {G : rv_G} (hG : rv_GK G) {d : Nat} (hd : 7 ≤ d) {σ : rv_S} {S F : List Nat} {b : Nat} {C : sp_C} {dep : Nat → Nat} (hB : mBF σ S F b C) (hl : F.length ≤ 60) (hsr : sp_srt F) (hdp : mDep σ dep) (h30 : σ.1 30 = 0) : mC G d yX4_give wX4_give [.int (nI b)] σ (mPz (fun r τ => rv_same [29, 30, 31, 32, 33, 34, 39] [1, 15, 25, 26, 27, 28, 29, 30, 31, 32, 33, 34] σ τ ∧ (∀ i, i ≠ 6 → τ.2.1 1 i = σ.2.1 1 i) ∧ mStand F (sp_give F C) r τ)) := by
  refine mv_start hG (by decide +kernel) (Nat.le_of_ble_eq_true rfl) (fun X Hb o hX1 hX hE => ?_)
  subst hX1
  show rv_V X (rv_mh Hb o _) 0 [some (.ref o), some (.int (nI b)), none] []
  have hb17 := hB.2.2.2.2
  have hbds := hB.hd.bds
  have hl3 := hbds.2.2.1
  have ins : ∀ (τ : rv_S) (E : List Nat) (x : Option Value), rv_same [29, 31, 32, 33, 34, 39] [25, 26, 27, 28, 29, 30, 31, 32, 33, 34] σ τ → mPend τ E → E.Nodup → (∀ f, f ∈ E → f ∉ F) → sp_mid F (sp_give F C) E → rv_V X (rv_mh Hb o τ) 90 [some (.ref o), some (.int (nI b)), x] [] := by
    intro τ E x hsm hP hEn hEF hmid
    have hsmB := hsm.mn (fs' := [29, 30, 31, 32, 33, 34, 39]) (js' := [1, 15, 25, 26, 27, 28, 29, 30, 31, 32, 33, 34]) (by decide) (by decide)
    have hE61 := hP.2.1
    have loop : ∀ (n k : Nat) (Fk : List Nat) (υ : rv_S), k ≤ E.length → E.length - k < n → rv_same [30] [1, 15] τ υ → (∀ i, i ≠ 6 → υ.2.1 1 i = τ.2.1 1 i) → mFacts υ Fk → sp_srt Fk → Fk.length ≤ 60 → ((υ.1 30 = 0 ∧ ∀ x, x ∈ Fk ↔ x ∈ F ∨ x ∈ E.take k) ∨ (υ.1 30 = 1 ∧ sp_crowd F E)) → rv_V X (rv_mh Hb o υ) 92 [some (.ref o), some (.int (nI b)), some (.int (nI k))] [] := by
      intro n
      induction n with
      | zero => intro k Fk υ h1 h2; omega
      | succ n ih =>
        intro k Fk υ h1 h2 h3 h4 h5 h6 h7 h8
        have hP' := hP.same h3 (by decide) (by decide)
        refine rv_iload_n hX dX4_give_92 rfl ?_
        refine rv_aload_n hX dX4_give_93 rfl ?_
        refine mv_gi hX (k := 29) gX4_242_X4 (by decide) rfl dX4_give_94 ?_
        rw [hP'.1]
        first | refine nv_icmp_ge hX 116 (by omega) (by omega) dX4_give_97 (by decide) (fun c_97 => ?_) (fun c_97 => ?_) | refine rv_icmp_ge hX 116 dX4_give_97 (by decide) (fun c_97 => ?_) (fun c_97 => ?_)
        · skip
          refine rv_aload_n hX dX4_give_116 rfl ?_
          refine mv_gi hX (k := 29) gX4_242_X4 (by decide) rfl dX4_give_117 ?_
          rw [hP'.1]
          first | refine nv_if_le hX 127 (by omega) dX4_give_120 (by decide) (fun c_120 => ?_) (fun c_120 => ?_) | refine rv_if_le hX 127 dX4_give_120 (by decide) (fun c_120 => ?_) (fun c_120 => ?_)
          · skip
            refine nv_iconst hX (m := 0) (by decide) dX4_give_127 ?_
            refine mv_retz hX hE (b := false) rfl dX4_give_128 ?_
            have hke : E.take k = E := List.take_of_length_le (by omega)
            refine ⟨hsmB.tr (h3.mn (by decide) (by decide)), fun i hi => by rw [h4 i hi, hsm.2.1 1 (by decide)], Fk, h5, h6, h7, ?_⟩
            rcases h8 with ⟨e1, e2⟩ | ⟨e0, e1⟩
            · rw [hke] at e2
              rcases hmid with ⟨m1, m2⟩ | ⟨m1, m2⟩
              · refine Or.inl ⟨e1, fun x => ?_, ?_⟩
                · rw [e2 x]
                  constructor
                  · rintro (q | q)
                    · exact Or.inl q
                    · exact Or.inr (m1 x q)
                  · rintro (q | q)
                    · exact Or.inl q
                    · exact m2 x q
                · first
                    | (refine ⟨fun _ => ?_, fun _ => rfl⟩
                       have hx : E[0]? = some E[0] := List.getElem?_eq_getElem c_120
                       have hxm := List.mem_of_getElem? hx
                       exact ⟨_, m1 _ hxm, hEF _ hxm⟩)
                    | (refine ⟨fun e => (by cases e), fun ⟨x, q1, q2⟩ => ?_⟩
                       have hE0 : E = [] := List.eq_nil_of_length_eq_zero c_120
                       rcases m2 x q1 with q | q
                       · exact absurd q q2
                       · rw [hE0] at q; cases q)
              · have := m2 Fk h6 (fun x hx => (e2 x).mpr (Or.inl hx)) (fun x hx => (e2 x).mpr (Or.inr hx))
                exact absurd h7 (by omega)
            · refine Or.inr ⟨e0, ?_⟩
              rcases hmid with ⟨m1, m2⟩ | ⟨m1, m2⟩
              · exact fun G hGs hGF hGT => e1 G hGs hGF (fun x hx => hGT x (m1 x hx))
              · exact m1
          · skip
            refine nv_iconst hX (m := 1) (by decide) dX4_give_123 ?_
            refine rv_goto hX 128 dX4_give_124 (by decide) ?_
            refine mv_retz hX hE (b := true) rfl dX4_give_128 ?_
            have hke : E.take k = E := List.take_of_length_le (by omega)
            refine ⟨hsmB.tr (h3.mn (by decide) (by decide)), fun i hi => by rw [h4 i hi, hsm.2.1 1 (by decide)], Fk, h5, h6, h7, ?_⟩
            rcases h8 with ⟨e1, e2⟩ | ⟨e0, e1⟩
            · rw [hke] at e2
              rcases hmid with ⟨m1, m2⟩ | ⟨m1, m2⟩
              · refine Or.inl ⟨e1, fun x => ?_, ?_⟩
                · rw [e2 x]
                  constructor
                  · rintro (q | q)
                    · exact Or.inl q
                    · exact Or.inr (m1 x q)
                  · rintro (q | q)
                    · exact Or.inl q
                    · exact m2 x q
                · first
                    | (refine ⟨fun _ => ?_, fun _ => rfl⟩
                       have hx : E[0]? = some E[0] := List.getElem?_eq_getElem c_120
                       have hxm := List.mem_of_getElem? hx
                       exact ⟨_, m1 _ hxm, hEF _ hxm⟩)
                    | (refine ⟨fun e => (by cases e), fun ⟨x, q1, q2⟩ => ?_⟩
                       have hE0 : E = [] := List.eq_nil_of_length_eq_zero c_120
                       rcases m2 x q1 with q | q
                       · exact absurd q q2
                       · rw [hE0] at q; cases q)
              · have := m2 Fk h6 (fun x hx => (e2 x).mpr (Or.inl hx)) (fun x hx => (e2 x).mpr (Or.inr hx))
                exact absurd h7 (by omega)
            · refine Or.inr ⟨e0, ?_⟩
              rcases hmid with ⟨m1, m2⟩ | ⟨m1, m2⟩
              · exact fun G hGs hGF hGT => e1 G hGs hGF (fun x hx => hGT x (m1 x hx))
              · exact m1
        · skip
          obtain ⟨f, hf⟩ : ∃ f, E[k]? = some f := ⟨E[k], List.getElem?_eq_getElem (by omega)⟩
          obtain ⟨hf1, hf8⟩ := hP'.2.2 k f hf
          have htk := sp_take_get hf
          refine rv_aload_n hX dX4_give_100 rfl ?_
          refine rv_aload_n hX dX4_give_101 rfl ?_
          refine mv_ga hX (k := 28) (j := 25) gX4_82_X4 (by decide) rfl (by decide) dX4_give_102 ?_
          refine rv_iload_n hX dX4_give_105 rfl ?_
          refine mv_ld hX (j := 25) (by decide) (by decide) rfl (by decide) (show _ < 62 by omega) dX4_give_106 ?_
          rw [hf1]
          refine mv_callv hX iX4_254 rfl mdX4_insert (m_insert hG (d := d - 1) (by omega) h5 h7 h6 hf8) (by omega) rfl rfl (Nat.le_of_ble_eq_true rfl) dX4_give_107 (fun τ_107 h_107 => ?_)
          have hi := h_107
          first | refine nv_iinc hX (m := 1) dX4_give_110 rfl (by decide) (rv_st_2 rfl) ?_ | refine rv_iinc hX dX4_give_110 rfl rfl (rv_st_2 rfl) ?_
          refine rv_goto hX 92 dX4_give_113 (by decide) ?_
          rcases hi with ⟨g1, rfl⟩ | ⟨g1, g2, rfl⟩ | ⟨g1, g2, F', ⟨i1, i2, i3⟩, g4, g5, g6⟩
          · refine ih (k + 1) Fk _ (by omega) (by omega) h3 h4 h5 h6 h7 ?_
            rcases h8 with ⟨e1, e2⟩ | e1
            · refine Or.inl ⟨e1, fun x => ?_⟩
              rw [htk, List.mem_append, List.mem_singleton, e2 x]
              constructor
              · rintro (q | q)
                · exact Or.inl q
                · exact Or.inr (Or.inl q)
              · rintro (q | q | q)
                · exact Or.inl q
                · exact Or.inr q
                · rw [q]; exact (e2 f).mp g1
            · exact Or.inr e1
          · have hN : rv_same [30] [1, 15] υ (rv_sF υ 30 1) := .f (by decide)
            have hN2 : rv_same [30] [] υ (rv_sF υ 30 1) := .f (by decide)
            refine ih (k + 1) Fk _ (by omega) (by omega) (h3.tr hN) (fun i hi => by rw [rv_sF_2]; exact h4 i hi) (h5.same hN2 (by decide) (by decide)) h6 h7 (Or.inr ⟨by rw [rv_sF_1, if_pos rfl], ?_⟩)
            rcases h8 with ⟨e1, e2⟩ | ⟨_, e1⟩
            · intro G hGs hGF hGE
              have hnd : (f :: Fk).Nodup := List.nodup_cons.mpr ⟨g1, sp_srt_nd h6⟩
              have := sp_nd_len hnd (G := G) (fun x hx => by
                rcases List.mem_cons.mp hx with rfl | hx
                · exact hGE _ (List.mem_of_getElem? hf)
                · rcases (e2 x).mp hx with q | q
                  · exact hGF x q
                  · exact hGE x (List.mem_of_mem_take q))
              rw [List.length_cons] at this
              omega
            · exact e1
          · refine ih (k + 1) F' _ (by omega) (by omega) (h3.tr (g5.mn (by decide) (by decide))) (fun i hi => by rw [g6 i hi]; exact h4 i hi) g4 i1 (by omega) ?_
            rcases h8 with ⟨e1, e2⟩ | ⟨e0, e1⟩
            · refine Or.inl ⟨by rw [g5.1 30 (by decide)]; exact e1, fun x => ?_⟩
              rw [htk, List.mem_append, List.mem_singleton, i3 x, e2 x]
              constructor
              · rintro (q | q | q)
                · exact Or.inr (Or.inr q)
                · exact Or.inl q
                · exact Or.inr (Or.inl q)
              · rintro (q | q | q)
                · exact Or.inr (Or.inl q)
                · exact Or.inr (Or.inr q)
                · exact Or.inl q
            · exact Or.inr ⟨by rw [g5.1 30 (by decide)]; exact e0, e1⟩
    refine nv_iconst hX (m := 0) (by decide) dX4_give_90 ?_
    refine rv_istore_n hX dX4_give_91 (rv_st_2 rfl) ?_
    exact loop _ 0 F τ (Nat.zero_le _) (Nat.lt_succ_self _) .rf (fun _ _ => rfl) (hB.2.1.same hsm (by decide) (by decide)) hsr hl (Or.inl ⟨by rw [hsm.1 30 (by decide)]; exact h30, fun x => by simp⟩)
  have hW : rv_same [29] [] σ (rv_sF σ 29 (nI 0)) := .f (by decide)
  have hW2 := hW.mn (fs' := [29, 31, 32, 33, 34, 39]) (js' := [25, 26, 27, 28, 29, 30, 31, 32, 33, 34]) (by decide) (by decide)
  have hP0 : mPend (rv_sF σ 29 (nI 0)) (sp_exl F []) := ⟨by rw [rv_sF_1, if_pos rfl]; rfl, Nat.zero_le _, fun k f e => by cases e⟩
  have mats : ∀ (n : Nat) (P R : List sp_Q) (τ : rv_S) (x : Option Value), R.length < n → P ++ R = sp_m F C.its (fun _ => none) → C.gath = none → mRun τ F C.its R → rv_same [29, 31, 32, 33, 34, 39] [25, 26, 27, 28, 29, 30, 31, 32, 33, 34] σ τ → mCfg τ S F b (fun p => p) C.its → mPend τ (sp_exl F (P.map (sp_key C))) → rv_V X (rv_mh Hb o τ) 62 [some (.ref o), some (.int (nI b)), x] [] := by
    intro n
    induction n with
    | zero => intro P R τ x h; omega
    | succ n ih =>
      intro P R τ x hn hPR hgn hr hsm hc hP
      have hgive : sp_give F C = (sp_m F C.its (fun _ => none)).map (sp_key C) := by unfold sp_give; rw [if_pos hgn]
      obtain ⟨p1, p2, p3, p4⟩ := sp_exl_prop F (P.map (sp_key C))
      have hsub : ∀ f, f ∈ P.map (sp_key C) → f ∈ sp_give F C := fun f hf => by
        obtain ⟨q, hq, e⟩ := List.mem_map.mp hf
        rw [hgive]
        exact List.mem_map.mpr ⟨q, by rw [← hPR]; exact List.mem_append_left _ hq, e⟩
      refine rv_aload_n hX dX4_give_62 rfl ?_
      refine mv_gi hX (k := 29) gX4_242_X4 (by decide) rfl dX4_give_63 ?_
      rw [hP.1]
      refine nv_bipush hX (m := 60) (by decide) dX4_give_66 ?_
      first | refine nv_icmp_gt hX 90 (by omega) (by omega) dX4_give_68 (by decide) (fun c_68 => ?_) (fun c_68 => ?_) | refine rv_icmp_gt hX 90 dX4_give_68 (by decide) (fun c_68 => ?_) (fun c_68 => ?_)
      · skip
        first
          | exact ins _ _ _ hsm hP p1 (fun f hf => (p2 f hf).2) (sp_mid_exl hsub (Or.inl c_68))
          | (have hR0 : R = [] := by
               cases R with
               | nil => rfl
               | cons q T =>
                 have := (n2 q.1 q.2 T rfl).1
                 rw [c_75] at this
                 cases this
             subst hR0
             rw [List.append_nil] at hPR
             exact ins _ _ _ (hsm.tr (n1.mn (by decide) (by decide))) (hP.same n1 (by decide) (by decide)) p1 (fun f hf => (p2 f hf).2) (sp_mid_exl hsub (Or.inr (fun f hf => by rw [hgive, ← hPR] at hf; exact hf))))
      · skip
        refine rv_aload_n hX dX4_give_71 rfl ?_
        refine mv_callz hX iX4_218 rfl mdX4_nextMatch (m_nextMatch hG (d := d - 1) (by omega) hc hr) (by omega) rfl rfl (Nat.le_of_ble_eq_true rfl) dX4_give_72 (fun r_72 τ_72 h_72 => ?_)
        obtain ⟨n1, n2, n3⟩ := h_72
        first | refine zv_if_eq hX 90 dX4_give_75 (by decide) (fun c_75 => ?_) (fun c_75 => ?_) | refine nv_if_eq hX 90 (by omega) dX4_give_75 (by decide) (fun c_75 => ?_) (fun c_75 => ?_) | refine rv_if_eq hX 90 dX4_give_75 (by decide) (fun c_75 => ?_) (fun c_75 => ?_)
        · skip
          first
            | exact ins _ _ _ hsm hP p1 (fun f hf => (p2 f hf).2) (sp_mid_exl hsub (Or.inl c_68))
            | (have hR0 : R = [] := by
                 cases R with
                 | nil => rfl
                 | cons q T =>
                   have := (n2 q.1 q.2 T rfl).1
                   rw [c_75] at this
                   cases this
               subst hR0
               rw [List.append_nil] at hPR
               exact ins _ _ _ (hsm.tr (n1.mn (by decide) (by decide))) (hP.same n1 (by decide) (by decide)) p1 (fun f hf => (p2 f hf).2) (sp_mid_exl hsub (Or.inr (fun f hf => by rw [hgive, ← hPR] at hf; exact hf))))
        · skip
          obtain ⟨q, T, hR⟩ : ∃ q T, R = q :: T := by
            cases R with
            | nil => have := n3 rfl; rw [c_75] at this; cases this
            | cons q T => exact ⟨q, T, rfl⟩
          subst hR
          have hm := (n2 q.1 q.2 T rfl).2
          have hqm : q ∈ sp_m F C.its (fun _ => none) := by rw [← hPR]; exact List.mem_append_right _ List.mem_cons_self
          obtain ⟨kn1, kn2⟩ := hB.2.2.2.1.known hqm
          have hsm2 := hsm.tr (n1.mn (fs' := [29, 31, 32, 33, 34, 39]) (js' := [25, 26, 27, 28, 29, 30, 31, 32, 33, 34]) (by decide) (by decide))
          have hB2 := hB.same hsm2 (by decide)
          have hkey : sp_key C q < 8000000 := by
            have h1 := sp_hsum_lt (g := 0) hm.val.2 (by decide) C.hts hl3
            have h2 := hbds.1
            unfold sp_key sp_hfact
            omega
          refine rv_aload_n hX dX4_give_78 rfl ?_
          refine rv_aload_n hX dX4_give_79 rfl ?_
          refine rv_iload_n hX dX4_give_80 rfl ?_
          refine mv_calli hX iX4_222 rfl mdX4_headFact (m_headFact hG (d := d - 1) (by omega) hB2.hd hm.val kn1) (by omega) rfl rfl (Nat.le_of_ble_eq_true rfl) dX4_give_81 (fun r_81 τ_81 h_81 => ?_)
          obtain ⟨rfl, rfl⟩ := h_81
          show rv_V X _ _ _ (.int (nI (sp_key C q)) :: _)
          refine mv_callv hX iX4_251 rfl mdX4_expect (m_expect hG (d := d - 1) (by omega) hB2.2.1 (hP.same n1 (by decide) (by decide)) hkey) (by omega) rfl rfl (Nat.le_of_ble_eq_true rfl) dX4_give_84 (fun τ_84 h_84 => ?_)
          obtain ⟨e1, e2⟩ := h_84
          refine rv_goto hX 62 dX4_give_87 (by decide) ?_
          refine ih (P ++ [q]) T _ _ (by have : T.length + 1 < n + 1 := hn; omega) (by rw [List.append_assoc]; exact hPR) hgn (Or.inr ⟨q.1, q.2, hm.same e2 (by decide) (by decide)⟩) (hsm2.tr (e2.mn (by decide) (by decide))) ((hc.same n1 (by decide) (by decide)).same e2 (by decide) (by decide)) ?_
          rw [List.map_append]
          show mPend _ (sp_exl F (P.map (sp_key C) ++ [sp_key C q]))
          rw [sp_exl_snoc]
          exact e1
  have grps : ∀ (s t : Nat) (P R : List sp_Q) (τ : rv_S), C.gath = some s → C.hts[s]? = some t → 200 ≤ t → P ++ R = sp_m F C.its (fun _ => none) → (R = [] ∨ (sp_keys C P).length = 61) → ∀ (n k : Nat) (υ : rv_S), k ≤ (sp_keys C P).length → (sp_keys C P).length - k < n → rv_same [29, 31, 32, 33, 34, 39] [25, 26, 27, 28, 29, 30, 31, 32, 33, 34] σ υ → mGr υ C dep ((t - 200) % 8) P (sp_keys C P) → mPend υ (sp_exl F (((sp_keys C P).map (sp_gfact C P)).take k)) → rv_V X (rv_mh Hb o υ) 20 [some (.ref o), some (.int (nI b)), some (.int (nI k))] [] := by
    intro s t P R τ hs ht ht2 hPR hend n
    have hgt : C.gt = t := by
      unfold sp_C.gt
      rw [hs]
      exact sp_getD ht
    have hgx : C.gx = (t - 200) % 8 := by unfold sp_C.gx; rw [hgt]
    have ht232 := hB.2.2.2.1.hts.1 t (List.mem_of_getElem? ht)
    have hs3 := (List.getElem?_eq_some_iff.mp ht).1
    induction n with
    | zero => intro k υ h1 h2; omega
    | succ n ih =>
      intro k υ h1 h2 h3 h4 h5
      have hB2 := hB.same h3 (by decide)
      have hK61 := h4.2.1
      refine rv_iload_n hX dX4_give_20 rfl ?_
      refine rv_aload_n hX dX4_give_21 rfl ?_
      refine mv_gi hX (k := 39) gX4_208_X4 (by decide) rfl dX4_give_22 ?_
      rw [h4.1]
      first | refine nv_icmp_ge hX 44 (by omega) (by omega) dX4_give_25 (by decide) (fun c_25 => ?_) (fun c_25 => ?_) | refine rv_icmp_ge hX 44 dX4_give_25 (by decide) (fun c_25 => ?_) (fun c_25 => ?_)
      · skip
        have hke : ((sp_keys C P).map (sp_gfact C P)).take k = (sp_keys C P).map (sp_gfact C P) := List.take_of_length_le (by rw [List.length_map]; omega)
        rw [hke] at h5
        obtain ⟨p1, p2, p3, p4⟩ := sp_exl_prop F ((sp_keys C P).map (sp_gfact C P))
        refine rv_goto hX 90 dX4_give_44 (by decide) ?_
        refine ins υ _ _ h3 h5 p1 (fun f hf => (p2 f hf).2) ?_
        rcases hend with hR | h61
        · subst hR
          rw [List.append_nil] at hPR
          have hgive : sp_give F C = (sp_keys C P).map (sp_gfact C P) := by unfold sp_give; rw [if_neg (by rw [hs]; simp), hPR]
          exact sp_mid_exl (fun f hf => by rw [hgive]; exact hf) (Or.inr (fun f hf => by rw [hgive] at hf; exact hf))
        · obtain ⟨q1, q2⟩ := sp_keys_crowd hl3 hs ht ht2 hPR (by omega)
          exact Or.inr ⟨q1, sp_crowd_exl q2⟩
      · skip
        obtain ⟨key, hkey⟩ : ∃ key, (sp_keys C P)[k]? = some key := ⟨(sp_keys C P)[k], List.getElem?_eq_getElem (by omega)⟩
        obtain ⟨k1, k2, k3, k4, k5, k6⟩ := h4.2.2 k key hkey
        have hex : ∃ a, a < 100 ∧ sp_hasv ((t - 200) % 8) (sp_grp C P key) a = true := by
          obtain ⟨q, hq⟩ := sp_grp_ne (List.mem_of_getElem? hkey)
          have hqP : q ∈ sp_m F C.its (fun _ => none) := by rw [← hPR]; exact List.mem_append_left _ (List.mem_filter.mp hq).1
          obtain ⟨y, hy⟩ := Option.isSome_iff_exists.mp ((hB.2.2.2.1.known hqP).2 t (List.mem_of_getElem? ht) ht2)
          refine ⟨y, sp_m_bd sp_none_bd q hqP _ y hy, ?_⟩
          unfold sp_hasv
          rw [List.any_eq_true]
          exact ⟨q, hq, by rw [hy]; simp⟩
        have hgf : sp_gfact C P key = key + sp_wt s * sp_min99 (sp_agg ((t - 200) / 8) (sp_hasv ((t - 200) % 8) (sp_grp C P key))) := by
          unfold sp_gfact
          rw [hgt, hgx, hs]
          rfl
        have hgf8 : sp_gfact C P key < 8000000 := by
          obtain ⟨q, hq, eq⟩ := List.mem_map.mp (sp_dd_mem.mp (List.mem_of_getElem? hkey))
          have hqP : q ∈ sp_m F C.its (fun _ => none) := by rw [← hPR]; exact List.mem_append_left _ hq
          have hbd := sp_m_bd sp_none_bd q hqP
          have e0 : sp_slot key s = 0 := by
            rw [← eq]
            show sp_slot (sp_hfact C q.2 0) s = 0
            rw [sp_hfact_slot hbd (by decide) hl3 ht]
            unfold sp_hval
            rw [if_pos ht2]
          have e1 := sp_min99_lt (sp_agg ((t - 200) / 8) (sp_hasv ((t - 200) % 8) (sp_grp C P key)))
          rw [hgf]
          generalize sp_min99 (sp_agg ((t - 200) / 8) (sp_hasv ((t - 200) % 8) (sp_grp C P key))) = m at e1
          unfold sp_slot at e0
          unfold sp_wt
          by_cases q0 : s = 0
          · rw [if_pos q0] at e0 ⊢; omega
          · rw [if_neg q0] at e0 ⊢
            by_cases q1 : s = 1
            · rw [if_pos q1] at e0 ⊢; omega
            · rw [if_neg q1] at e0 ⊢; omega
        have hmk : ((sp_keys C P).map (sp_gfact C P))[k]? = some (sp_gfact C P key) := by rw [List.getElem?_map, hkey]; rfl
        have htk := sp_take_get hmk
        refine rv_aload_n hX dX4_give_28 rfl ?_
        refine rv_aload_n hX dX4_give_29 rfl ?_
        refine rv_iload_n hX dX4_give_30 rfl ?_
        refine rv_iload_n hX dX4_give_31 rfl ?_
        refine mv_calli hX iX4_248 rfl mdX4_groupFact (m_groupFact hG (d := d - 1) (by omega) hB2.hd hB2.2.2.2.1.hts hs ht (by omega) k1 k2 k3 k4 hex) (by omega) rfl rfl (Nat.le_of_ble_eq_true rfl) dX4_give_32 (fun r_32 τ_32 h_32 => ?_)
        obtain ⟨rfl, rfl⟩ := h_32
        rw [← hgf]
        refine mv_callv hX iX4_251 rfl mdX4_expect (m_expect hG (d := d - 1) (by omega) hB2.2.1 h5 hgf8) (by omega) rfl rfl (Nat.le_of_ble_eq_true rfl) dX4_give_35 (fun τ_35 h_35 => ?_)
        obtain ⟨e1, e2⟩ := h_35
        first | refine nv_iinc hX (m := 1) dX4_give_38 rfl (by decide) (rv_st_2 rfl) ?_ | refine rv_iinc hX dX4_give_38 rfl rfl (rv_st_2 rfl) ?_
        refine rv_goto hX 20 dX4_give_41 (by decide) ?_
        refine ih (k + 1) _ (by omega) (by omega) (h3.tr (e2.mn (by decide) (by decide))) (h4.same e2 (by decide) (by decide)) ?_
        rw [htk, sp_exl_snoc]
        exact e1
  refine rv_aload_n hX dX4_give_0 rfl ?_
  refine nv_iconst hX (m := 0) (by decide) dX4_give_1 ?_
  refine mv_pi hX (k := 29) pX4_242_X4 (by decide) rfl rfl rfl dX4_give_2 ?_
  refine rv_aload_n hX dX4_give_5 rfl ?_
  refine rv_iload_n hX dX4_give_6 rfl ?_
  refine mv_callz hX iX4_236 rfl mdX4_isGathering (m_isGathering hG (d := d - 1) (hB.same hW2 (by decide)).hd) (by omega) rfl rfl (Nat.le_of_ble_eq_true rfl) dX4_give_7 (fun r_7 τ_7 h_7 => ?_)
  obtain ⟨rfl, hg⟩ := h_7
  first | refine zv_if_eq hX 47 dX4_give_10 (by decide) (fun c_10 => ?_) (fun c_10 => ?_) | refine nv_if_eq hX 47 (by omega) dX4_give_10 (by decide) (fun c_10 => ?_) (fun c_10 => ?_) | refine rv_if_eq hX 47 dX4_give_10 (by decide) (fun c_10 => ?_) (fun c_10 => ?_)
  · skip
    have hgn : C.gath = none := by
      have : (sp_gslot C.hts 0).isSome = false := hg.symm.trans c_10
      cases e : C.gath with
      | none => rfl
      | some s =>
        have e' : sp_gslot C.hts 0 = some s := e
        rw [e'] at this
        cases this
    refine rv_aload_n hX dX4_give_47 rfl ?_
    refine mv_callv hX iX4_211 rfl mdX4_forget (m_forget hG (d := d - 1)) (by omega) rfl rfl (Nat.le_of_ble_eq_true rfl) dX4_give_48 (fun τ_48 h_48 => ?_)
    obtain ⟨f1, f2, f3⟩ := h_48
    refine rv_aload_n hX dX4_give_51 rfl ?_
    refine rv_iload_n hX dX4_give_52 rfl ?_
    refine rv_aload_n hX dX4_give_53 rfl ?_
    refine mv_ga hX (k := 6) (j := 6) gX4_25_X4 (by decide) rfl (by decide) dX4_give_54 ?_
    refine rv_iload_n hX dX4_give_57 rfl ?_
    refine mv_ld hX (j := 6) (by decide) (by decide) rfl (by decide) (show _ < 17 by omega) dX4_give_58 ?_
    rw [f3.2.1 6 (by decide), hW.2.1 6 (by decide), hB.2.2.1.len]
    refine mv_callv hX iX4_214 rfl mdX4_beginMatches (m_beginMatches hG (d := d - 1)) (by omega) rfl rfl (Nat.le_of_ble_eq_true rfl) dX4_give_59 (fun τ_59 h_59 => ?_)
    obtain ⟨g1, g2, g3, g4, g5, g6⟩ := h_59
    have hS1 := hW2.tr (f3.mn (by decide) (by decide))
    have hS2 := hS1.tr (g6.mn (by decide) (by decide))
    refine mats _ [] _ τ_59 none (Nat.lt_succ_self _) rfl hgn (Or.inl ⟨fun _ => none, ⟨f1.same g6 (by decide), f2.same g6 (by decide), g3, g4, sp_snd.okA hB.2.2.2.1.its (sp_has_none _) hB.2.2.2.1.snd⟩, rfl⟩) hS2 ((hB.same hS2 (by decide)).cfg' g1 g2 g5) ((hP0.same f3 (by decide) (by decide)).same g6 (by decide) (by decide))
  · skip
    obtain ⟨s, hs⟩ := Option.isSome_iff_exists.mp (hg.symm.trans c_10)
    obtain ⟨_, t, ht', ht2⟩ := sp_gslot_get hs
    have ht : C.hts[s]? = some t := by rw [Nat.sub_zero] at ht'; exact ht'
    refine rv_aload_n hX dX4_give_13 rfl ?_
    refine rv_iload_n hX dX4_give_14 rfl ?_
    refine mv_callv hX iX4_245 rfl mdX4_gatherAll (m_gatherAll hG (d := d - 1) (by omega) (hB.same hW2 (by decide)) (hdp.same hW2 (by decide)) hs ht) (by omega) rfl rfl (Nat.le_of_ble_eq_true rfl) dX4_give_15 (fun τ_15 h_15 => ?_)
    obtain ⟨a1, P, R, a2, a3, a4⟩ := h_15
    refine nv_iconst hX (m := 0) (by decide) dX4_give_18 ?_
    refine rv_istore_n hX dX4_give_19 (rv_st_2 rfl) ?_
    exact grps s t P R σ hs ht ht2 a2 a4 _ 0 _ (Nat.zero_le _) (Nat.lt_succ_self _) (hW2.tr (a1.mn (by decide) (by decide))) a3 (hP0.same a1 (by decide) (by decide))
