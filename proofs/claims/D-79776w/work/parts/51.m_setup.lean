/-! THE REFERENCE: goals that a goal sets up -/
set_option maxRecDepth 100000
def sp_gof (n s : Nat) : Option Nat :=
  if (if s = 0 then n / 10201 % 101 else if s = 1 then n / 101 % 101 else n % 101) = 0 then none else some ((if s = 0 then n / 10201 % 101 else if s = 1 then n / 101 % 101 else n % 101) - 1)
theorem sp_gof_lt {n s a : Nat} (h : sp_gof n s = some a) : a < 100 := by
  unfold sp_gof at h
  have h1 : (if s = 0 then n / 10201 % 101 else if s = 1 then n / 101 % 101 else n % 101) < 101 := by
    split
    · omega
    · split <;> omega
  generalize (if s = 0 then n / 10201 % 101 else if s = 1 then n / 101 % 101 else n % 101) = v at h h1
  by_cases hv : v = 0
  · rw [if_pos hv] at h
    cases h
  · rw [if_neg hv] at h
    have := Option.some.inj h
    omega
theorem sp_gof_sub {v : Nat} (hv : v < 101) : nI v - nI 1 = rv_oi (if v = 0 then none else some (v - 1)) := by
  by_cases h : v = 0
  · subst h; decide
  · rw [if_neg h, pk_sub (by omega)]
    rfl
def sp_setI (F : List Nat) (C : sp_C) (n i : Nat) : List Nat := match C.its[i]?, sp_lay (sp_gof n) C.hts 0 (fun _ => none) with
  | some it, some v => if it.1 ≤ 1 then (sp_m F (C.its.take i) v).map (fun q => sp_goal it.2.1 (sp_open q.2 it.2.2)) else []
  | _, _ => []
def sp_setC (F : List Nat) (n : Nat) (C : sp_C) : List Nat := if C.rel = n / 1030301 then (List.range C.its.length).flatMap (sp_setI F C n) else []
def sp_setL (R : List sp_C) (F : List Nat) (n : Nat) : List Nat := R.flatMap (sp_setC F n)
theorem sp_ag_full {L : List Nat} (h : 200 < L.length) (xs : List Nat) : xs.foldl sp_ag L = L := by
  induction xs with
  | nil => rfl
  | cons x xs ih =>
    rw [List.foldl_cons]
    have : sp_ag L x = L := by unfold sp_ag; rw [if_pos (Or.inr h)]
    rw [this]
    exact ih
theorem sp_open_lt {v : sp_V} (hv : sp_bd v) {ts : List Nat} {s a : Nat} (h : sp_open v ts s = some a) : a < 100 := by
  unfold sp_open at h
  split at h
  · cases h
  · exact sp_val_lt hv h
theorem sp_okA_take {F : List Nat} {its : List sp_I} : ∀ {i : Nat} {v : sp_V}, sp_okA F its v → sp_okA F (its.take i) v := by
  induction its with
  | nil => intro i v _; rw [List.take_nil]; trivial
  | cons it its ih =>
    intro i v h
    cases i with
    | zero => trivial
    | succ i => exact ⟨h.1, fun a ha => ih (h.2 a ha)⟩
theorem m_setUp {G : rv_G} (hG : rv_GK G) {d : Nat} (hd : 6 ≤ d) {σ : rv_S} {S F : List Nat} {R : List sp_C} {n : Nat} {G0 : List Nat} (hR : mRules σ S R) (hF : mFacts σ F) (hn : n < 10000000) (hg0 : mGl σ G0) : mC G d yX4_setUp wX4_setUp [.int (nI n)] σ (mPv (fun τ => rv_same [31, 32, 33, 34, 50] [26, 27, 28, 29, 38] σ τ ∧ mGl τ ((sp_setL R F n).foldl sp_ag G0))) := by
  refine mv_start hG (by decide +kernel) (Nat.le_of_ble_eq_true rfl) (fun X Hb o hX1 hX hE => ?_)
  subst hX1
  show rv_V X (rv_mh Hb o _) 0 [some (.ref o), some (.int (nI n)), none, none, none, none, none, none] []
  have hR10 := hR.2.2.1
  have e0 : sp_gof n 0 = if n / 10201 % 101 = 0 then none else some (n / 10201 % 101 - 1) := rfl
  have e1 : sp_gof n 1 = if n / 101 % 101 = 0 then none else some (n / 101 % 101 - 1) := rfl
  have e2 : sp_gof n 2 = if n % 101 = 0 then none else some (n % 101 - 1) := rfl
  have rules : ∀ (m r : Nat) (τ : rv_S) (x : Option Value), r ≤ R.length → R.length - r < m → rv_same [31, 32, 33, 34, 50] [26, 27, 28, 29, 38] σ τ → mGl τ (((R.take r).flatMap (sp_setC F n)).foldl sp_ag G0) → rv_V X (rv_mh Hb o τ) 39 [some (.ref o), some (.int (nI n)), some (.int (nI (n / 1030301))), some (.int (rv_oi (sp_gof n 0))), some (.int (rv_oi (sp_gof n 1))), some (.int (rv_oi (sp_gof n 2))), some (.int (nI r)), x] [] := by
    intro m
    induction m with
    | zero => intro r τ x h1 h2; omega
    | succ m ih =>
      intro r τ x h1 h2 h3 h4
      have hRv := hR.same h3 (by decide)
      refine rv_iload hX dX4_setUp_39 rfl ?_
      refine rv_aload_n hX dX4_setUp_41 rfl ?_
      refine mv_ga hX (k := 1) (j := 1) gX4_7_X4 (by decide) rfl (by decide) dX4_setUp_42 ?_
      refine nv_iconst hX (m := 1) (by decide) dX4_setUp_45 ?_
      refine mv_ld hX (j := 1) (by decide) (by decide) rfl (by decide) (show _ < 11 by omega) dX4_setUp_46 ?_
      rw [hRv.2.1]
      first | refine nv_icmp_ge hX 184 (by omega) (by omega) dX4_setUp_47 (by decide) (fun c_47 => ?_) (fun c_47 => ?_) | refine rv_icmp_ge hX 184 dX4_setUp_47 (by decide) (fun c_47 => ?_) (fun c_47 => ?_)
      · skip
        refine mv_retv hX hE dX4_setUp_184 ?_
        have hr : r = R.length := by omega
        rw [hr, List.take_length] at h4
        exact ⟨h3, h4⟩
      · skip
        refine nv_iconst hX (m := 0) (by decide) dX4_setUp_50 ?_
        refine rv_istore hX dX4_setUp_51 (rv_st_7 rfl) ?_
        obtain ⟨C, hC⟩ : ∃ C, R[r]? = some C := ⟨R[r], List.getElem?_eq_getElem (by omega)⟩
        have hw := (hRv.2.2.2 r C hC).2
        have hlen := hw.len
        have hnx : (R.take (r + 1)).flatMap (sp_setC F n) = (R.take r).flatMap (sp_setC F n) ++ sp_setC F n C := by
          rw [sp_take_get hC, List.flatMap_append]
          simp
        have items : ∀ (k i : Nat) (υ : rv_S), i ≤ C.its.length → C.its.length - i < k → rv_same [31, 32, 33, 34, 50] [26, 27, 28, 29, 38] σ υ → (C.rel = n / 1030301 ∨ i = 0) → mGl υ (((List.range i).flatMap (sp_setI F C n)).foldl sp_ag (((R.take r).flatMap (sp_setC F n)).foldl sp_ag G0)) → rv_V X (rv_mh Hb o υ) 53 [some (.ref o), some (.int (nI n)), some (.int (nI (n / 1030301))), some (.int (rv_oi (sp_gof n 0))), some (.int (rv_oi (sp_gof n 1))), some (.int (rv_oi (sp_gof n 2))), some (.int (nI r)), some (.int (nI i))] [] := by
          intro k
          induction k with
          | zero => intro i υ i1 i2; omega
          | succ k ihk =>
            intro i υ i1 i2 i3 irel i4
            have hRu := hR.same i3 (by decide)
            have hBu : mBF υ S F r C := ⟨hRu.1, hF.same i3 (by decide) (by decide), (hRu.2.2.2 r C hC).1, hw, by omega⟩
            have hbds := hBu.hd.bds
            have hri : (List.range (i + 1)).flatMap (sp_setI F C n) = (List.range i).flatMap (sp_setI F C n) ++ sp_setI F C n i := by
              rw [List.range_succ, List.flatMap_append]
              simp
            have nextI : sp_setI F C n i = [] → ∀ x, x = some (.int (nI (i + 1))) → i < C.its.length → C.rel = n / 1030301 → rv_V X (rv_mh Hb o υ) 53 [some (.ref o), some (.int (nI n)), some (.int (nI (n / 1030301))), some (.int (rv_oi (sp_gof n 0))), some (.int (rv_oi (sp_gof n 1))), some (.int (rv_oi (sp_gof n 2))), some (.int (nI r)), x] [] := by
              intro he x hx hi hrel
              subst hx
              refine ihk (i + 1) υ (by omega) (by omega) i3 (Or.inl hrel) ?_
              rw [hri, he, List.append_nil]
              exact i4
            refine rv_iload hX dX4_setUp_53 rfl ?_
            refine rv_aload_n hX dX4_setUp_55 rfl ?_
            refine mv_ga hX (k := 6) (j := 6) gX4_25_X4 (by decide) rfl (by decide) dX4_setUp_56 ?_
            refine rv_iload hX dX4_setUp_59 rfl ?_
            refine mv_ld hX (j := 6) (by decide) (by decide) rfl (by decide) (show _ < 17 by omega) dX4_setUp_61 ?_
            rw [hBu.2.2.1.len]
            first | refine nv_icmp_ge hX 178 (by omega) (by omega) dX4_setUp_62 (by decide) (fun c_62 => ?_) (fun c_62 => ?_) | refine rv_icmp_ge hX 178 dX4_setUp_62 (by decide) (fun c_62 => ?_) (fun c_62 => ?_)
            · skip
              first | refine nv_iinc hX (m := 1) dX4_setUp_178 rfl (by decide) (rv_st_6 rfl) ?_ | refine rv_iinc hX dX4_setUp_178 rfl rfl (rv_st_6 rfl) ?_
              refine rv_goto hX 39 dX4_setUp_181 (by decide) ?_
              refine ih (r + 1) υ _ (by omega) (by omega) i3 ?_
              rw [hnx, List.foldl_append]
              unfold sp_setC
              first
                | (rw [if_neg c_73]
                   rcases irel with q | q
                   · exact absurd q c_73
                   · rw [q] at i4
                     exact i4)
                | (have hi : i = C.its.length := by omega
                   rcases irel with q | q
                   · rw [if_pos q, ← hi]
                     exact i4
                   · exact absurd hi (by omega))
            · skip
              obtain ⟨it, hit⟩ : ∃ it, C.its[i]? = some it := ⟨C.its[i], List.getElem?_eq_getElem (by omega)⟩
              have hI := hBu.2.2.1.its i it hit
              have hwI := hw.its it (List.mem_of_getElem? hit)
              have hk3 := hwI.1
              refine rv_aload_n hX dX4_setUp_65 rfl ?_
              refine mv_ga hX (k := 4) (j := 4) gX4_19_X4 (by decide) rfl (by decide) dX4_setUp_66 ?_
              refine rv_iload hX dX4_setUp_69 rfl ?_
              refine mv_ld hX (j := 4) (by decide) (by decide) rfl (by decide) (show _ < 17 by omega) dX4_setUp_71 ?_
              rw [hBu.2.2.1.rel]
              refine rv_iload_n hX dX4_setUp_72 rfl ?_
              first | refine nv_icmp_ne hX 178 (by omega) (by omega) dX4_setUp_73 (by decide) (fun c_73 => ?_) (fun c_73 => ?_) | refine rv_icmp_ne hX 178 dX4_setUp_73 (by decide) (fun c_73 => ?_) (fun c_73 => ?_)
              · skip
                first | refine nv_iinc hX (m := 1) dX4_setUp_178 rfl (by decide) (rv_st_6 rfl) ?_ | refine rv_iinc hX dX4_setUp_178 rfl rfl (rv_st_6 rfl) ?_
                refine rv_goto hX 39 dX4_setUp_181 (by decide) ?_
                refine ih (r + 1) υ _ (by omega) (by omega) i3 ?_
                rw [hnx, List.foldl_append]
                unfold sp_setC
                first
                  | (rw [if_neg c_73]
                     rcases irel with q | q
                     · exact absurd q c_73
                     · rw [q] at i4
                       exact i4)
                  | (have hi : i = C.its.length := by omega
                     rcases irel with q | q
                     · rw [if_pos q, ← hi]
                       exact i4
                     · exact absurd hi (by omega))
              · skip
                refine rv_aload_n hX dX4_setUp_76 rfl ?_
                refine rv_iload hX dX4_setUp_77 rfl ?_
                refine rv_iload hX dX4_setUp_79 rfl ?_
                refine mv_calli hX iX4_148 rfl mdX4_kindOf (m_kindOf hG (d := d - 1) (by omega)) (by omega) rfl rfl (Nat.le_of_ble_eq_true rfl) dX4_setUp_81 (fun r_81 τ_81 h_81 => ?_)
                obtain ⟨rfl, rfl⟩ := h_81
                rw [hI.1]
                refine nv_iconst hX (m := 2) (by decide) dX4_setUp_84 ?_
                first | refine nv_icmp_ge hX 172 (by omega) (by omega) dX4_setUp_85 (by decide) (fun c_85 => ?_) (fun c_85 => ?_) | refine rv_icmp_ge hX 172 dX4_setUp_85 (by decide) (fun c_85 => ?_) (fun c_85 => ?_)
                · skip
                  first | refine nv_iinc hX (m := 1) dX4_setUp_172 rfl (by decide) (rv_st_7 rfl) ?_ | refine rv_iinc hX dX4_setUp_172 rfl rfl (rv_st_7 rfl) ?_
                  refine rv_goto hX 53 dX4_setUp_175 (by decide) ?_
                  first
                    | (refine nextI ?_ _ rfl c_62 c_73
                       unfold sp_setI
                       rw [hit]
                       cases sp_lay (sp_gof n) C.hts 0 (fun _ => none) with
                       | none => rfl
                       | some v =>
                         show (if it.1 ≤ 1 then _ else _) = _
                         rw [if_neg (by omega)])
                    | (rw [c_99] at l2
                       have hno : sp_lay (sp_gof n) C.hts 0 (fun _ => none) = none := by
                         cases e : sp_lay (sp_gof n) C.hts 0 (fun _ => none) with
                         | none => rfl
                         | some v => rw [e] at l2; cases l2
                       have he : sp_setI F C n i = [] := by
                         unfold sp_setI
                         rw [hit, hno]
                       refine ihk (i + 1) _ (by omega) (by omega) (i3.tr (l1.mn (by decide) (by decide))) (Or.inl c_73) ?_
                       rw [hri, he, List.append_nil]
                       exact i4.same l1 (by decide) (by decide))
                · skip
                  refine rv_aload_n hX dX4_setUp_88 rfl ?_
                  refine rv_iload hX dX4_setUp_89 rfl ?_
                  refine rv_iload_n hX dX4_setUp_91 rfl ?_
                  refine rv_iload hX dX4_setUp_92 rfl ?_
                  refine rv_iload hX dX4_setUp_94 rfl ?_
                  refine mv_callz hX iX4_360 rfl mdX4_layHead (m_layHead hG (d := d - 1) (g := sp_gof n) (by omega) hBu.hd (fun s a => sp_gof_lt)) (by omega) rfl rfl (Nat.le_of_ble_eq_true rfl) dX4_setUp_96 (fun r_96 τ_96 h_96 => ?_)
                  obtain ⟨l1, l2, l3⟩ := h_96
                  first | refine zv_if_eq hX 172 dX4_setUp_99 (by decide) (fun c_99 => ?_) (fun c_99 => ?_) | refine nv_if_eq hX 172 (by omega) dX4_setUp_99 (by decide) (fun c_99 => ?_) (fun c_99 => ?_) | refine rv_if_eq hX 172 dX4_setUp_99 (by decide) (fun c_99 => ?_) (fun c_99 => ?_)
                  · skip
                    first | refine nv_iinc hX (m := 1) dX4_setUp_172 rfl (by decide) (rv_st_7 rfl) ?_ | refine rv_iinc hX dX4_setUp_172 rfl rfl (rv_st_7 rfl) ?_
                    refine rv_goto hX 53 dX4_setUp_175 (by decide) ?_
                    first
                      | (refine nextI ?_ _ rfl c_62 c_73
                         unfold sp_setI
                         rw [hit]
                         cases sp_lay (sp_gof n) C.hts 0 (fun _ => none) with
                         | none => rfl
                         | some v =>
                           show (if it.1 ≤ 1 then _ else _) = _
                           rw [if_neg (by omega)])
                      | (rw [c_99] at l2
                         have hno : sp_lay (sp_gof n) C.hts 0 (fun _ => none) = none := by
                           cases e : sp_lay (sp_gof n) C.hts 0 (fun _ => none) with
                           | none => rfl
                           | some v => rw [e] at l2; cases l2
                         have he : sp_setI F C n i = [] := by
                           unfold sp_setI
                           rw [hit, hno]
                         refine ihk (i + 1) _ (by omega) (by omega) (i3.tr (l1.mn (by decide) (by decide))) (Or.inl c_73) ?_
                         rw [hri, he, List.append_nil]
                         exact i4.same l1 (by decide) (by decide))
                  · skip
                    refine rv_aload_n hX dX4_setUp_102 rfl ?_
                    refine rv_iload hX dX4_setUp_103 rfl ?_
                    refine rv_iload hX dX4_setUp_105 rfl ?_
                    refine mv_callv hX iX4_214 rfl mdX4_beginMatches (m_beginMatches hG (d := d - 1)) (by omega) rfl rfl (Nat.le_of_ble_eq_true rfl) dX4_setUp_107 (fun τ_107 h_107 => ?_)
                    obtain ⟨g1, g2, g3, g4, g5, g6⟩ := h_107
                    rw [c_99] at l2
                    obtain ⟨v, hv⟩ := Option.isSome_iff_exists.mp l2.symm
                    obtain ⟨v1, v2⟩ := l3 v hv
                    have he : sp_setI F C n i = (sp_m F (C.its.take i) v).map (fun q => sp_goal it.2.1 (sp_open q.2 it.2.2)) := by
                      unfold sp_setI
                      rw [hit, hv]
                      show (if it.1 ≤ 1 then _ else _) = _
                      rw [if_pos (by omega)]
                    have hS3 := (i3.tr (l1.mn (fs' := [31, 32, 33, 34, 50]) (js' := [26, 27, 28, 29, 38]) (by decide) (by decide))).tr (g6.mn (fs' := [31, 32, 33, 34, 50]) (js' := [26, 27, 28, 29, 38]) (by decide) (by decide))
                    have hBw : ∀ υ', rv_same [31, 32, 33, 34, 50] [26, 27, 28, 29, 38] σ υ' → mBF υ' S F r C := fun υ' h => by
                      have hRu := hR.same h (by decide)
                      exact ⟨hRu.1, hF.same h (by decide) (by decide), (hRu.2.2.2 r C hC).1, hw, by omega⟩
                    generalize hbase : ((List.range i).flatMap (sp_setI F C n)).foldl sp_ag (((R.take r).flatMap (sp_setC F n)).foldl sp_ag G0) = base at i4
                    have done : ∀ υ', rv_same [31, 32, 33, 34, 50] [26, 27, 28, 29, 38] σ υ' → mGl υ' ((sp_setI F C n i).foldl sp_ag base) → rv_V X (rv_mh Hb o υ') 53 [some (.ref o), some (.int (nI n)), some (.int (nI (n / 1030301))), some (.int (rv_oi (sp_gof n 0))), some (.int (rv_oi (sp_gof n 1))), some (.int (rv_oi (sp_gof n 2))), some (.int (nI r)), some (.int (nI (i + 1)))] [] := fun υ' h5 h6 => by
                      refine ihk (i + 1) υ' (by omega) (by omega) h5 (Or.inl c_73) ?_
                      rw [hri, List.foldl_append, hbase]
                      exact h6
                    have mats : ∀ (w : Nat) (P Q : List sp_Q) (υ' : rv_S), Q.length < w → P ++ Q = sp_m F (C.its.take i) v → mRun υ' F (C.its.take i) Q → rv_same [31, 32, 33, 34, 50] [26, 27, 28, 29, 38] σ υ' → mCfg υ' S F r (fun p => p) (C.its.take i) → mGl υ' ((P.map (fun q => sp_goal it.2.1 (sp_open q.2 it.2.2))).foldl sp_ag base) → rv_V X (rv_mh Hb o υ') 110 [some (.ref o), some (.int (nI n)), some (.int (nI (n / 1030301))), some (.int (rv_oi (sp_gof n 0))), some (.int (rv_oi (sp_gof n 1))), some (.int (rv_oi (sp_gof n 2))), some (.int (nI r)), some (.int (nI i))] [] := by
                      intro w
                      induction w with
                      | zero => intro P Q υ' h; omega
                      | succ w ihw =>
                        intro P Q υ' hw1 hPQ hrun h5 hc h6
                        have h201 := h6.2.1
                        refine rv_aload_n hX dX4_setUp_110 rfl ?_
                        refine mv_gi hX (k := 50) gX4_367_X4 (by decide) rfl dX4_setUp_111 ?_
                        rw [h6.1]
                        refine nv_sipush hX (m := 200) (by decide) dX4_setUp_114 ?_
                        first | refine nv_icmp_gt hX 172 (by omega) (by omega) dX4_setUp_117 (by decide) (fun c_117 => ?_) (fun c_117 => ?_) | refine rv_icmp_gt hX 172 dX4_setUp_117 (by decide) (fun c_117 => ?_) (fun c_117 => ?_)
                        · skip
                          first | refine nv_iinc hX (m := 1) dX4_setUp_172 rfl (by decide) (rv_st_7 rfl) ?_ | refine rv_iinc hX dX4_setUp_172 rfl rfl (rv_st_7 rfl) ?_
                          refine rv_goto hX 53 dX4_setUp_175 (by decide) ?_
                          first
                            | (refine done _ h5 ?_
                               rw [he, ← hPQ, List.map_append, List.foldl_append, sp_ag_full c_117]
                               exact h6)
                            | (have hQ0 : Q = [] := by
                                 cases Q with
                                 | nil => rfl
                                 | cons q T =>
                                   have := (n2 q.1 q.2 T rfl).1
                                   rw [c_124] at this
                                   cases this
                               subst hQ0
                               rw [List.append_nil] at hPQ
                               refine done _ (h5.tr (n1.mn (by decide) (by decide))) ?_
                               rw [he, ← hPQ]
                               exact h6.same n1 (by decide) (by decide))
                        · skip
                          refine rv_aload_n hX dX4_setUp_120 rfl ?_
                          refine mv_callz hX iX4_218 rfl mdX4_nextMatch (m_nextMatch hG (d := d - 1) (by omega) hc hrun) (by omega) rfl rfl (Nat.le_of_ble_eq_true rfl) dX4_setUp_121 (fun r_121 τ_121 h_121 => ?_)
                          obtain ⟨n1, n2, n3⟩ := h_121
                          first | refine zv_if_eq hX 172 dX4_setUp_124 (by decide) (fun c_124 => ?_) (fun c_124 => ?_) | refine nv_if_eq hX 172 (by omega) dX4_setUp_124 (by decide) (fun c_124 => ?_) (fun c_124 => ?_) | refine rv_if_eq hX 172 dX4_setUp_124 (by decide) (fun c_124 => ?_) (fun c_124 => ?_)
                          · skip
                            first | refine nv_iinc hX (m := 1) dX4_setUp_172 rfl (by decide) (rv_st_7 rfl) ?_ | refine rv_iinc hX dX4_setUp_172 rfl rfl (rv_st_7 rfl) ?_
                            refine rv_goto hX 53 dX4_setUp_175 (by decide) ?_
                            first
                              | (refine done _ h5 ?_
                                 rw [he, ← hPQ, List.map_append, List.foldl_append, sp_ag_full c_117]
                                 exact h6)
                              | (have hQ0 : Q = [] := by
                                   cases Q with
                                   | nil => rfl
                                   | cons q T =>
                                     have := (n2 q.1 q.2 T rfl).1
                                     rw [c_124] at this
                                     cases this
                                 subst hQ0
                                 rw [List.append_nil] at hPQ
                                 refine done _ (h5.tr (n1.mn (by decide) (by decide))) ?_
                                 rw [he, ← hPQ]
                                 exact h6.same n1 (by decide) (by decide))
                          · skip
                            obtain ⟨q, T9, hR9⟩ : ∃ q T, Q = q :: T := by
                              cases Q with
                              | nil => have := n3 rfl; rw [c_124] at this; cases this
                              | cons q T => exact ⟨q, T, rfl⟩
                            subst hR9
                            have hm := (n2 q.1 q.2 T9 rfl).2
                            have h52 := h5.tr (n1.mn (fs' := [31, 32, 33, 34, 50]) (js' := [26, 27, 28, 29, 38]) (by decide) (by decide))
                            have hB5 := hBw _ h52
                            have hI5 := hB5.2.2.1.its i it hit
                            have hw8 := (List.getElem?_eq_some_iff.mp (hwI.2.1 (by omega))).1
                            have hS8 := hRu.1.2.1
                            have hgl : sp_goal it.2.1 (sp_open q.2 it.2.2) < 10000000 := by
                              have q0 := sp_gx_lt (x := sp_open q.2 it.2.2 0) (fun a => sp_open_lt hm.val.2)
                              have q1 := sp_gx_lt (x := sp_open q.2 it.2.2 1) (fun a => sp_open_lt hm.val.2)
                              have q2 := sp_gx_lt (x := sp_open q.2 it.2.2 2) (fun a => sp_open_lt hm.val.2)
                              unfold sp_goal
                              omega
                            refine rv_aload_n hX dX4_setUp_127 rfl ?_
                            refine rv_aload_n hX dX4_setUp_128 rfl ?_
                            refine rv_iload hX dX4_setUp_129 rfl ?_
                            refine rv_iload hX dX4_setUp_131 rfl ?_
                            refine mv_calli hX iX4_152 rfl mdX4_whatOf (m_whatOf hG (d := d - 1) (by omega)) (by omega) rfl rfl (Nat.le_of_ble_eq_true rfl) dX4_setUp_133 (fun r_133 τ_133 h_133 => ?_)
                            obtain ⟨rfl, rfl⟩ := h_133
                            rw [hI5.2.1]
                            refine rv_aload_n hX dX4_setUp_136 rfl ?_
                            refine rv_iload hX dX4_setUp_137 rfl ?_
                            refine rv_iload hX dX4_setUp_139 rfl ?_
                            refine nv_iconst hX (m := 0) (by decide) dX4_setUp_141 ?_
                            refine mv_calli hX iX4_371 rfl mdX4_openValue (m_openValue hG (d := d - 1) (s := 0) (by omega) hB5.1 hI5 hwI (by omega) (by omega) (by omega) (by decide) hm.val) (by omega) rfl rfl (Nat.le_of_ble_eq_true rfl) dX4_setUp_142 (fun r_142 τ_142 h_142 => ?_)
                            obtain ⟨rfl, rfl⟩ := h_142
                            refine rv_aload_n hX dX4_setUp_145 rfl ?_
                            refine rv_iload hX dX4_setUp_146 rfl ?_
                            refine rv_iload hX dX4_setUp_148 rfl ?_
                            refine nv_iconst hX (m := 1) (by decide) dX4_setUp_150 ?_
                            refine mv_calli hX iX4_371 rfl mdX4_openValue (m_openValue hG (d := d - 1) (s := 1) (by omega) hB5.1 hI5 hwI (by omega) (by omega) (by omega) (by decide) hm.val) (by omega) rfl rfl (Nat.le_of_ble_eq_true rfl) dX4_setUp_151 (fun r_151 τ_151 h_151 => ?_)
                            obtain ⟨rfl, rfl⟩ := h_151
                            refine rv_aload_n hX dX4_setUp_154 rfl ?_
                            refine rv_iload hX dX4_setUp_155 rfl ?_
                            refine rv_iload hX dX4_setUp_157 rfl ?_
                            refine nv_iconst hX (m := 2) (by decide) dX4_setUp_159 ?_
                            refine mv_calli hX iX4_371 rfl mdX4_openValue (m_openValue hG (d := d - 1) (s := 2) (by omega) hB5.1 hI5 hwI (by omega) (by omega) (by omega) (by decide) hm.val) (by omega) rfl rfl (Nat.le_of_ble_eq_true rfl) dX4_setUp_160 (fun r_160 τ_160 h_160 => ?_)
                            obtain ⟨rfl, rfl⟩ := h_160
                            refine sv_calli hX iX4_374 mdX4_goalOf (m_goalOf hG (d := d - 1) (rel := it.2.1) (g := sp_open q.2 it.2.2)) (by omega) rfl rfl (Nat.le_of_ble_eq_true rfl) dX4_setUp_163 (fun r_163 h_163 => ?_)
                            obtain rfl := h_163
                            refine mv_callv hX iX4_378 rfl mdX4_addGoal (m_addGoal hG (d := d - 1) (h6.same n1 (by decide) (by decide)) hgl) (by omega) rfl rfl (Nat.le_of_ble_eq_true rfl) dX4_setUp_166 (fun τ_166 h_166 => ?_)
                            obtain ⟨a1, a2⟩ := h_166
                            refine rv_goto hX 110 dX4_setUp_169 (by decide) ?_
                            refine ihw (P ++ [q]) T9 _ (by have : T9.length + 1 < w + 1 := hw1; omega) (by rw [List.append_assoc]; exact hPQ) (Or.inr ⟨q.1, q.2, hm.same a2 (by decide) (by decide)⟩) (h52.tr (a2.mn (by decide) (by decide))) ((hc.same n1 (by decide) (by decide)).same a2 (by decide) (by decide)) ?_
                            rw [List.map_append, List.foldl_append]
                            exact a1
                    have hokA : sp_okA F (C.its.take i) v := sp_okA_take (sp_snd.okA hw.its (sp_has_none v) hw.snd)
                    exact mats _ [] _ _ (Nat.lt_succ_self _) rfl (Or.inl ⟨v, ⟨v1.same g6 (by decide), v2.same g6 (by decide), g3, g4, hokA⟩, rfl⟩) hS3 ((hBw _ hS3).cfg (by omega) g1 g2 g5) ((i4.same l1 (by decide) (by decide)).same g6 (by decide) (by decide))
        exact items _ 0 τ (Nat.zero_le _) (Nat.lt_succ_self _) h3 (Or.inr rfl) h4
  refine rv_iload_n hX dX4_setUp_0 rfl ?_
  refine rv_ldc_w hX q2641 dX4_setUp_1 ?_
  rw [show (1030301 : Int32) = nI 1030301 from by decide]
  first | refine nv_idiv hX (by omega) (by omega) (by omega) dX4_setUp_4 ?_ | refine rv_idiv hX dX4_setUp_4 (by decide) ?_
  refine rv_istore_n hX dX4_setUp_5 (rv_st_2 rfl) ?_
  refine rv_iload_n hX dX4_setUp_6 rfl ?_
  refine nv_sipush hX (m := 10201) (by decide) dX4_setUp_7 ?_
  first | refine nv_idiv hX (by omega) (by omega) (by omega) dX4_setUp_10 ?_ | refine rv_idiv hX dX4_setUp_10 (by decide) ?_
  refine nv_bipush hX (m := 101) (by decide) dX4_setUp_11 ?_
  first | refine nv_irem hX (by omega) (by omega) (by omega) dX4_setUp_13 ?_ | refine rv_irem hX dX4_setUp_13 (by decide) ?_
  refine nv_iconst hX (m := 1) (by decide) dX4_setUp_14 ?_
  refine rv_isub hX dX4_setUp_15 ?_
  rw [sp_gof_sub (by omega), ← e0]
  refine rv_istore_n hX dX4_setUp_16 (rv_st_3 rfl) ?_
  refine rv_iload_n hX dX4_setUp_17 rfl ?_
  refine nv_bipush hX (m := 101) (by decide) dX4_setUp_18 ?_
  first | refine nv_idiv hX (by omega) (by omega) (by omega) dX4_setUp_20 ?_ | refine rv_idiv hX dX4_setUp_20 (by decide) ?_
  refine nv_bipush hX (m := 101) (by decide) dX4_setUp_21 ?_
  first | refine nv_irem hX (by omega) (by omega) (by omega) dX4_setUp_23 ?_ | refine rv_irem hX dX4_setUp_23 (by decide) ?_
  refine nv_iconst hX (m := 1) (by decide) dX4_setUp_24 ?_
  refine rv_isub hX dX4_setUp_25 ?_
  rw [sp_gof_sub (by omega), ← e1]
  refine rv_istore hX dX4_setUp_26 (rv_st_4 rfl) ?_
  refine rv_iload_n hX dX4_setUp_28 rfl ?_
  refine nv_bipush hX (m := 101) (by decide) dX4_setUp_29 ?_
  first | refine nv_irem hX (by omega) (by omega) (by omega) dX4_setUp_31 ?_ | refine rv_irem hX dX4_setUp_31 (by decide) ?_
  refine nv_iconst hX (m := 1) (by decide) dX4_setUp_32 ?_
  refine rv_isub hX dX4_setUp_33 ?_
  rw [sp_gof_sub (by omega), ← e2]
  refine rv_istore hX dX4_setUp_34 (rv_st_5 rfl) ?_
  refine nv_iconst hX (m := 0) (by decide) dX4_setUp_36 ?_
  refine rv_istore hX dX4_setUp_37 (rv_st_6 rfl) ?_
  exact rules _ 0 σ none (Nat.zero_le _) (Nat.lt_succ_self _) .rf hg0
