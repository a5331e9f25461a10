/-! THE REFERENCE: the best activation of a module -/
set_option maxRecDepth 100000
def sp_aheadB (C E : sp_C) (tag tagE : Nat) : Bool := decide (E.sal < C.sal) || (decide (C.sal = E.sal) && (decide (tagE < tag) || (decide (tag = tagE) && decide (E.its.length < C.its.length))))
theorem sp_aheadB_iff {C E : sp_C} {tag tagE : Nat} : sp_aheadB C E tag tagE = true ↔ sp_ahead C E tag tagE := by
  unfold sp_aheadB sp_ahead
  simp only [Bool.or_eq_true, Bool.and_eq_true, decide_eq_true_eq]
/-- the better of what was best and an activation -/
def sp_pick (Cs : List sp_C) (C : sp_C) (B : Option sp_Act) (a : sp_Act) : Option sp_Act := match B with
  | none => some a
  | some e => match Cs[e.1]? with
    | none => some e
    | some E => if sp_aheadB C E a.2.1 e.2.1 = true then some a else some e
/-- the activations of a deed that can fire -/
def sp_acts (F : List Nat) (tv : Nat → Nat) (D : List (Nat × Nat × Nat × Nat)) (i : Nat) (C : sp_C) (M : List sp_Q) : List sp_Act := (M.map (sp_act tv i C)).filter (fun a => decide ((C.num, a.2.2.2.1, a.2.2.2.2.1, a.2.2.2.2.2) ∉ D))
theorem sp_acts_snoc {F : List Nat} {tv : Nat → Nat} {D : List (Nat × Nat × Nat × Nat)} {i : Nat} {C : sp_C} {M : List sp_Q} {q : sp_Q} : sp_acts F tv D i C (M ++ [q]) = sp_acts F tv D i C M ++ (if (C.num, (sp_act tv i C q).2.2.2.1, (sp_act tv i C q).2.2.2.2.1, (sp_act tv i C q).2.2.2.2.2) ∉ D then [sp_act tv i C q] else []) := by
  unfold sp_acts
  rw [List.map_append, List.filter_append]
  congr 1
  by_cases h : (C.num, (sp_act tv i C q).2.2.2.1, (sp_act tv i C q).2.2.2.2.1, (sp_act tv i C q).2.2.2.2.2) ∉ D
  · rw [if_pos h]
    show List.filter _ [sp_act tv i C q] = _
    rw [List.filter_cons_of_pos (by simpa using h)]
    rfl
  · rw [if_neg h]
    show List.filter _ [sp_act tv i C q] = _
    rw [List.filter_cons_of_neg (by simpa using h)]
    rfl
def sp_bst (F : List Nat) (tv : Nat → Nat) (D : List (Nat × Nat × Nat × Nat)) (Ds : List sp_C) (m : Nat) : Nat → Option sp_Act × Nat
  | 0 => (none, 0)
  | k + 1 => match Ds[k]? with
    | none => sp_bst F tv D Ds m k
    | some C => if C.mod = m then ((sp_acts F tv D k C (sp_m F C.its (fun _ => none))).foldl (sp_pick Ds C) (sp_bst F tv D Ds m k).1, (sp_bst F tv D Ds m k).2 + (sp_acts F tv D k C (sp_m F C.its (fun _ => none))).length) else sp_bst F tv D Ds m k
def mDeeds (σ : rv_S) (S : List Nat) (R : List sp_C) : Prop := mRel σ S ∧ σ.2.1 1 2 = nI R.length ∧ R.length ≤ 6 ∧ ∀ (i : Nat) (C : sp_C), R[i]? = some C → mBody σ (10 + i) C ∧ sp_wfC S C
theorem mDeeds.same {fs js : List Nat} {σ τ : rv_S} {S : List Nat} {R : List sp_C} (h : mDeeds σ S R) (hs : rv_same fs js σ τ) (h1 : ∀ j, j ∈ [1, 2, 3, 4, 5, 6, 7, 8, 9, 10, 11, 12] → j ∉ js) : mDeeds τ S R := ⟨h.1.same hs (h1 1 (by decide)) (h1 2 (by decide)), by rw [hs.2.1 1 (h1 1 (by decide))]; exact h.2.1, h.2.2.1, fun i C e => ⟨(h.2.2.2 i C e).1.same hs (fun j hj => h1 j (by revert j; decide)), (h.2.2.2 i C e).2⟩⟩
def sp_okB (Ds : List sp_C) (B : Option sp_Act) : Prop := ∀ a, B = some a → a.1 < Ds.length ∧ a.2.1 < 2000000
theorem mBest.same {fs js : List Nat} {σ τ : rv_S} {B : Option sp_Act} (h : mBest σ B) (hs : rv_same fs js σ τ) (h1 : 52 ∉ fs ∧ 53 ∉ fs ∧ 54 ∉ fs) (h2 : 40 ∉ js) : mBest τ B := by
  cases B with
  | none => exact (hs.1 52 h1.1).trans h
  | some a =>
    obtain ⟨b1, b2, b3, b4, b5, b6⟩ := h
    exact ⟨(hs.1 52 h1.1).trans b1, (hs.1 53 h1.2.1).trans b2, (hs.1 54 h1.2.2).trans b3, by rw [hs.2.1 40 h2]; exact b4, by rw [hs.2.1 40 h2]; exact b5, by rw [hs.2.1 40 h2]; exact b6⟩
theorem m_findBest {G : rv_G} (hG : rv_GK G) {d : Nat} (hd : 6 ≤ d) {σ : rv_S} {S F : List Nat} {Ds : List sp_C} {m : Nat} {tv : Nat → Nat} {D : List (Nat × Nat × Nat × Nat)} (hDs : mDeeds σ S Ds) (hF : mFacts σ F) (hm : m < 4) (htv : ∀ k, k < F.length → σ.2.1 16 k = nI (tv k)) (htl : ∀ k, tv k < 2000000) (hD : mFd σ D) : mC G d yX4_findBest wX4_findBest [.int (nI m)] σ (mPi (fun r τ => rv_same [31, 32, 33, 34, 52, 53, 54] [26, 27, 28, 29, 40] σ τ ∧ mBest τ (sp_bst F tv D Ds m Ds.length).1 ∧ sp_okB Ds (sp_bst F tv D Ds m Ds.length).1 ∧ r = nI (sp_bst F tv D Ds m Ds.length).2)) := by
  refine mv_start hG (by decide +kernel) (Nat.le_of_ble_eq_true rfl) (fun X Hb o hX1 hX hE => ?_)
  subst hX1
  show rv_V X (rv_mh Hb o _) 0 [some (.ref o), some (.int (nI m)), none, none] []
  have hD6 := hDs.2.2.1
  have deeds : ∀ (n k : Nat) (τ : rv_S), k ≤ Ds.length → Ds.length - k < n → rv_same [31, 32, 33, 34, 52, 53, 54] [26, 27, 28, 29, 40] σ τ → mBest τ (sp_bst F tv D Ds m k).1 → sp_okB Ds (sp_bst F tv D Ds m k).1 → rv_V X (rv_mh Hb o τ) 10 [some (.ref o), some (.int (nI m)), some (.int (nI (sp_bst F tv D Ds m k).2)), some (.int (nI (10 + k)))] [] := by
    intro n
    induction n with
    | zero => intro k τ h1 h2; omega
    | succ n ih =>
      intro k τ h1 h2 h3 h4 h5
      have hDv := hDs.same h3 (by decide)
      refine rv_iload_n hX dX4_findBest_10 rfl ?_
      refine nv_bipush hX (m := 10) (by decide) dX4_findBest_11 ?_
      refine rv_aload_n hX dX4_findBest_13 rfl ?_
      refine mv_ga hX (k := 1) (j := 1) gX4_7_X4 (by decide) rfl (by decide) dX4_findBest_14 ?_
      refine nv_iconst hX (m := 2) (by decide) dX4_findBest_17 ?_
      skip
      refine mv_ld hX (j := 1) (by decide) (by decide) rfl (by decide) (show _ < 11 by omega) dX4_findBest_18 ?_
      rw [hDv.2.1]
      first | refine nv_iadd hX dX4_findBest_19 ?_ | refine rv_iadd hX dX4_findBest_19 ?_
      first | refine nv_icmp_ge hX 93 (by omega) (by omega) dX4_findBest_20 (by decide) (fun c_20 => ?_) (fun c_20 => ?_) | refine rv_icmp_ge hX 93 dX4_findBest_20 (by decide) (fun c_20 => ?_) (fun c_20 => ?_)
      · skip
        refine rv_iload_n hX dX4_findBest_93 rfl ?_
        refine mv_reti hX hE dX4_findBest_94 ?_
        have hk : k = Ds.length := by omega
        rw [hk] at h4 h5
        exact ⟨h3, h4, h5, by rw [hk]⟩
      · skip
        obtain ⟨C, hC⟩ : ∃ C, Ds[k]? = some C := ⟨Ds[k]'(by omega), List.getElem?_eq_getElem (by omega)⟩
        obtain ⟨hB, hw⟩ := hDv.2.2.2 k C hC
        have hmod := hw.mod
        have hnx : sp_bst F tv D Ds m (k + 1) = if C.mod = m then ((sp_acts F tv D k C (sp_m F C.its (fun _ => none))).foldl (sp_pick Ds C) (sp_bst F tv D Ds m k).1, (sp_bst F tv D Ds m k).2 + (sp_acts F tv D k C (sp_m F C.its (fun _ => none))).length) else sp_bst F tv D Ds m k := by
          show (match Ds[k]? with
            | none => sp_bst F tv D Ds m k
            | some C => if C.mod = m then ((sp_acts F tv D k C (sp_m F C.its (fun _ => none))).foldl (sp_pick Ds C) (sp_bst F tv D Ds m k).1, (sp_bst F tv D Ds m k).2 + (sp_acts F tv D k C (sp_m F C.its (fun _ => none))).length) else sp_bst F tv D Ds m k) = _
          rw [hC]
        refine rv_aload_n hX dX4_findBest_23 rfl ?_
        refine mv_callv hX iX4_211 rfl mdX4_forget (m_forget hG (d := d - 1)) (by omega) rfl rfl (Nat.le_of_ble_eq_true rfl) dX4_findBest_24 (fun τ_24 h_24 => ?_)
        obtain ⟨f1, f2, f3⟩ := h_24
        refine rv_aload_n hX dX4_findBest_27 rfl ?_
        refine rv_iload_n hX dX4_findBest_28 rfl ?_
        refine rv_aload_n hX dX4_findBest_29 rfl ?_
        refine mv_ga hX (k := 10) (j := 10) gX4_37_X4 (by decide) rfl (by decide) dX4_findBest_30 ?_
        refine rv_iload_n hX dX4_findBest_33 rfl ?_
        refine mv_ld hX (j := 10) (by decide) (by decide) rfl (by decide) (show _ < 17 by omega) dX4_findBest_34 ?_
        rw [f3.2.1 10 (by decide), hB.mod]
        refine rv_iload_n hX dX4_findBest_35 rfl ?_
        first | refine nv_icmp_ne hX 48 (by omega) (by omega) dX4_findBest_36 (by decide) (fun c_36 => ?_) (fun c_36 => ?_) | refine rv_icmp_ne hX 48 dX4_findBest_36 (by decide) (fun c_36 => ?_) (fun c_36 => ?_)
        · skip
          refine nv_iconst hX (m := 0) (by decide) dX4_findBest_48 ?_
          refine mv_callv hX iX4_214 rfl mdX4_beginMatches (m_beginMatches hG (d := d - 1)) (by omega) rfl rfl (Nat.le_of_ble_eq_true rfl) dX4_findBest_49 (fun τ_49 h_49 => ?_)
          obtain ⟨g1, g2, g3, g4, g5, g6⟩ := h_49
          have hS2 := (h3.tr (f3.mn (fs' := [31, 32, 33, 34, 52, 53, 54]) (js' := [26, 27, 28, 29, 40]) (by decide) (by decide))).tr (g6.mn (fs' := [31, 32, 33, 34, 52, 53, 54]) (js' := [26, 27, 28, 29, 40]) (by decide) (by decide))
          have hb2 := (h4.same f3 (by decide) (by decide)).same g6 (by decide) (by decide)
          have hDw := hDs.same hS2 (by decide)
          have hBw := (hDw.2.2.2 k C hC).1
          have hBF : ∀ υ, rv_same [31, 32, 33, 34, 52, 53, 54] [26, 27, 28, 29, 40] σ υ → mBF υ S F (10 + k) C := fun υ h => by
            have hDu := hDs.same h (by decide)
            exact ⟨hDu.1, hF.same h (by decide) (by decide), (hDu.2.2.2 k C hC).1, hw, by omega⟩
          have back : C.mod ≠ m → rv_V X (rv_mh Hb o τ_49) 52 [some (.ref o), some (.int (nI m)), some (.int (nI (sp_bst F tv D Ds m k).2)), some (.int (nI (10 + k)))] [] := by
            intro hmm
            refine rv_aload_n hX dX4_findBest_52 rfl ?_
            refine mv_ga hX (k := 10) (j := 10) gX4_37_X4 (by decide) rfl (by decide) dX4_findBest_53 ?_
            refine rv_iload_n hX dX4_findBest_56 rfl ?_
            refine mv_ld hX (j := 10) (by decide) (by decide) rfl (by decide) (show _ < 17 by omega) dX4_findBest_57 ?_
            rw [hBw.mod]
            refine rv_iload_n hX dX4_findBest_58 rfl ?_
            first | refine nv_icmp_ne hX 87 (by omega) (by omega) dX4_findBest_59 (by decide) (fun c_59 => ?_) (fun c_59 => ?_) | refine rv_icmp_ne hX 87 dX4_findBest_59 (by decide) (fun c_59 => ?_) (fun c_59 => ?_)
            · skip
              first | refine nv_iinc hX (m := 1) dX4_findBest_87 rfl (by decide) (rv_st_3 rfl) ?_ | refine rv_iinc hX dX4_findBest_87 rfl rfl (rv_st_3 rfl) ?_
              refine rv_goto hX 10 dX4_findBest_90 (by decide) ?_
              have h9 := ih (k + 1) _ (by omega) (by omega) hS2
              rw [hnx, if_neg hmm] at h9
              exact h9 hb2 h5
            · skip
              exact absurd c_59 hmm
              --done
          have mats : C.mod = m → ∀ (w : Nat) (P Q : List sp_Q) (υ : rv_S), Q.length < w → P ++ Q = sp_m F C.its (fun _ => none) → mRun υ F C.its Q → rv_same [31, 32, 33, 34, 52, 53, 54] [26, 27, 28, 29, 40] σ υ → mCfg υ S F (10 + k) (fun p => p) C.its → mBest υ ((sp_acts F tv D k C P).foldl (sp_pick Ds C) (sp_bst F tv D Ds m k).1) → sp_okB Ds ((sp_acts F tv D k C P).foldl (sp_pick Ds C) (sp_bst F tv D Ds m k).1) → rv_V X (rv_mh Hb o υ) 52 [some (.ref o), some (.int (nI m)), some (.int (nI ((sp_bst F tv D Ds m k).2 + (sp_acts F tv D k C P).length))), some (.int (nI (10 + k)))] [] := by
            intro hmm w
            induction w with
            | zero => intro P Q υ h; omega
            | succ w ihw =>
              intro P Q υ hn hPQ hr hsm hc hbs hok
              have hBu := hBF υ hsm
              refine rv_aload_n hX dX4_findBest_52 rfl ?_
              refine mv_ga hX (k := 10) (j := 10) gX4_37_X4 (by decide) rfl (by decide) dX4_findBest_53 ?_
              refine rv_iload_n hX dX4_findBest_56 rfl ?_
              refine mv_ld hX (j := 10) (by decide) (by decide) rfl (by decide) (show _ < 17 by omega) dX4_findBest_57 ?_
              rw [hBu.2.2.1.mod]
              refine rv_iload_n hX dX4_findBest_58 rfl ?_
              first | refine nv_icmp_ne hX 87 (by omega) (by omega) dX4_findBest_59 (by decide) (fun c_59 => ?_) (fun c_59 => ?_) | refine rv_icmp_ne hX 87 dX4_findBest_59 (by decide) (fun c_59 => ?_) (fun c_59 => ?_)
              · skip
                exact absurd hmm c_59
                --done
              · skip
                refine rv_aload_n hX dX4_findBest_62 rfl ?_
                refine mv_callz hX iX4_218 rfl mdX4_nextMatch (m_nextMatch hG (d := d - 1) (by omega) hc hr) (by omega) rfl rfl (Nat.le_of_ble_eq_true rfl) dX4_findBest_63 (fun r_63 τ_63 h_63 => ?_)
                obtain ⟨n1, n2, n3⟩ := h_63
                first | refine zv_if_eq hX 87 dX4_findBest_66 (by decide) (fun c_66 => ?_) (fun c_66 => ?_) | refine nv_if_eq hX 87 (by omega) dX4_findBest_66 (by decide) (fun c_66 => ?_) (fun c_66 => ?_) | refine rv_if_eq hX 87 dX4_findBest_66 (by decide) (fun c_66 => ?_) (fun c_66 => ?_)
                · skip
                  first | refine nv_iinc hX (m := 1) dX4_findBest_87 rfl (by decide) (rv_st_3 rfl) ?_ | refine rv_iinc hX dX4_findBest_87 rfl rfl (rv_st_3 rfl) ?_
                  refine rv_goto hX 10 dX4_findBest_90 (by decide) ?_
                  have hQ0 : Q = [] := by
                    cases Q with
                    | nil => rfl
                    | cons q T =>
                      have := (n2 q.1 q.2 T rfl).1
                      rw [c_66] at this
                      cases this
                  subst hQ0
                  rw [List.append_nil] at hPQ
                  have h9 := ih (k + 1) _ (by omega) (by omega) (hsm.tr (n1.mn (by decide) (by decide)))
                  rw [hnx, if_pos hmm, ← hPQ] at h9
                  exact h9 (hbs.same n1 (by decide) (by decide)) hok
                · skip
                  obtain ⟨q, T9, hR9⟩ : ∃ q T, Q = q :: T := by
                    cases Q with
                    | nil => have := n3 rfl; rw [c_66] at this; cases this
                    | cons q T => exact ⟨q, T, rfl⟩
                  subst hR9
                  have hmq := (n2 q.1 q.2 T9 rfl).2
                  have hqm : q ∈ sp_m F C.its (fun _ => none) := by rw [← hPQ]; exact List.mem_append_right _ List.mem_cons_self
                  obtain ⟨kn1, kn2⟩ := hw.known hqm
                  have hsm2 := hsm.tr (n1.mn (fs' := [31, 32, 33, 34, 52, 53, 54]) (js' := [26, 27, 28, 29, 40]) (by decide) (by decide))
                  have hB2 := hBF _ hsm2
                  have hc2 := hc.same n1 (by decide) (by decide)
                  have hbs2 := hbs.same n1 (by decide) (by decide)
                  have htv2 : ∀ k', k' ∈ sp_atk C.its q.1 → τ_63.2.1 16 k' = nI (tv k') := fun k' e => by rw [hsm2.2.1 16 (by decide)]; exact htv k' (sp_m_ks hqm k' e)
                  have hD2 : mFd τ_63 D := ⟨by rw [hsm2.2.1 1 (by decide)]; exact hD.1, hD.2.1, fun j e h => by rw [hsm2.2.1 18 (by decide)]; exact hD.2.2 j e h⟩
                  have hsn := sp_acts_snoc (F := F) (tv := tv) (D := D) (i := k) (C := C) (M := P) (q := q)
                  have hDw2 := hDs.same hsm2 (by decide)
                  have hnumC := hw.num
                  refine rv_aload_n hX dX4_findBest_69 rfl ?_
                  refine mv_callz hX iX4_414 rfl mdX4_canFire (m_canFire hG (d := d - 1) (by omega) hc2 hmq.tri htv2 htl hD2 hB2.2.2.1.num (by omega)) (by omega) rfl rfl (Nat.le_of_ble_eq_true rfl) dX4_findBest_70 (fun r_70 τ_70 h_70 => ?_)
                  obtain ⟨rfl, hcf⟩ := h_70
                  first | refine zv_if_eq hX 52 dX4_findBest_73 (by decide) (fun c_73 => ?_) (fun c_73 => ?_) | refine nv_if_eq hX 52 (by omega) dX4_findBest_73 (by decide) (fun c_73 => ?_) (fun c_73 => ?_) | refine rv_if_eq hX 52 dX4_findBest_73 (by decide) (fun c_73 => ?_) (fun c_73 => ?_)
                  · skip
                    first
                      | (have hin : ¬ (C.num, (sp_act tv k C q).2.2.2.1, (sp_act tv k C q).2.2.2.2.1, (sp_act tv k C q).2.2.2.2.2) ∉ D := fun h => by
                           have := hcf.mpr h
                           rw [c_73] at this
                           cases this
                         rw [if_neg hin, List.append_nil] at hsn
                         have h9 := ihw (P ++ [q]) T9 _ (by have : T9.length + 1 < w + 1 := hn; omega) (by rw [List.append_assoc]; exact hPQ) (Or.inr ⟨q.1, q.2, hmq⟩) hsm2 hc2
                         rw [hsn] at h9
                         exact h9 hbs2 hok)
                      | (have hni : (C.num, (sp_act tv k C q).2.2.2.1, (sp_act tv k C q).2.2.2.2.1, (sp_act tv k C q).2.2.2.2.2) ∉ D := hcf.mp c_73
                         rw [if_pos hni] at hsn
                         have hfold : (sp_acts F tv D k C (P ++ [q])).foldl (sp_pick Ds C) (sp_bst F tv D Ds m k).1 = sp_pick Ds C ((sp_acts F tv D k C P).foldl (sp_pick Ds C) (sp_bst F tv D Ds m k).1) (sp_act tv k C q) := by
                           rw [hsn, List.foldl_append]
                           rfl
                         have h9 := ihw (P ++ [q]) T9 τ_81 (by have : T9.length + 1 < w + 1 := hn; omega) (by rw [List.append_assoc]; exact hPQ) (Or.inr ⟨q.1, q.2, hmq.same p1 (by decide) (by decide)⟩) (hsm2.tr (p1.mn (by decide) (by decide))) (hc2.same p1 (by decide) (by decide))
                         rw [hfold, hsn, List.length_append] at h9
                         have hkl : k < Ds.length := (List.getElem?_eq_some_iff.mp hC).1
                         have hpk : mBest τ_81 (sp_pick Ds C ((sp_acts F tv D k C P).foldl (sp_pick Ds C) (sp_bst F tv D Ds m k).1) (sp_act tv k C q)) ∧ sp_okB Ds (sp_pick Ds C ((sp_acts F tv D k C P).foldl (sp_pick Ds C) (sp_bst F tv D Ds m k).1) (sp_act tv k C q)) := by
                           rcases p2 with ⟨b1, b2⟩ | ⟨b1, a, E, b2, b3, b4⟩
                           · have e : sp_pick Ds C ((sp_acts F tv D k C P).foldl (sp_pick Ds C) (sp_bst F tv D Ds m k).1) (sp_act tv k C q) = some (sp_act tv k C q) := by
                               rcases b2 with b2 | ⟨a, E, b2, b3, b4⟩
                               · rw [b2]; rfl
                               · rw [b2]
                                 show (match Ds[a.1]? with
                                   | none => some a
                                   | some E => if sp_aheadB C E (sp_act tv k C q).2.1 a.2.1 = true then some (sp_act tv k C q) else some a) = _
                                 rw [b3]
                                 show (if sp_aheadB C E (sp_act tv k C q).2.1 a.2.1 = true then some (sp_act tv k C q) else some a) = _
                                 exact if_pos (sp_aheadB_iff.mpr b4)
                             rw [e]
                             refine ⟨b1, fun a' e' => ?_⟩
                             cases e'
                             refine ⟨hkl, ?_⟩
                             have t0 := sp_tagk_lt (l := sp_atk C.its q.1) (a := 0) htl (by decide)
                             have t1 := sp_tagk_lt (l := sp_atk C.its q.1) (a := 1) htl (by decide)
                             have t2 := sp_tagk_lt (l := sp_atk C.its q.1) (a := 2) htl (by decide)
                             have em : ∀ a b : Nat, Nat.max a b = max a b := fun _ _ => rfl
                             show sp_gtag tv (sp_atk C.its q.1) < 2000000
                             unfold sp_gtag
                             simp only [em]
                             omega
                           · have e : sp_pick Ds C ((sp_acts F tv D k C P).foldl (sp_pick Ds C) (sp_bst F tv D Ds m k).1) (sp_act tv k C q) = (sp_acts F tv D k C P).foldl (sp_pick Ds C) (sp_bst F tv D Ds m k).1 := by
                               rw [b2]
                               show (match Ds[a.1]? with
                                 | none => some a
                                 | some E => if sp_aheadB C E (sp_act tv k C q).2.1 a.2.1 = true then some (sp_act tv k C q) else some a) = _
                               rw [b3]
                               show (if sp_aheadB C E (sp_act tv k C q).2.1 a.2.1 = true then some (sp_act tv k C q) else some a) = _
                               exact if_neg (fun h => b4 (sp_aheadB_iff.mp h))
                             rw [e, b1]
                             exact ⟨hbs2, hok⟩
                         exact h9 hpk.1 hpk.2)
                  · skip
                    first | refine nv_iinc hX (m := 1) dX4_findBest_76 rfl (by decide) (rv_st_2 rfl) ?_ | refine rv_iinc hX dX4_findBest_76 rfl rfl (rv_st_2 rfl) ?_
                    refine rv_aload_n hX dX4_findBest_79 rfl ?_
                    refine rv_iload_n hX dX4_findBest_80 rfl ?_
                    refine mv_callv hX iX4_417 rfl mdX4_compare (m_compare hG (d := d - 1) (Cs := Ds) (q := q) (by omega) hB2 hc2 hmq.tri hmq.val kn1 htv2 htl hbs2 (fun a e => by
                    obtain ⟨q1, q2⟩ := hok a e
                    refine ⟨Ds[a.1], List.getElem?_eq_getElem q1, (hDw2.2.2.2 _ _ (List.getElem?_eq_getElem q1)).1, (hDw2.2.2.2 _ _ (List.getElem?_eq_getElem q1)).2.len.2, by omega, q2⟩)) (by omega) rfl rfl (Nat.le_of_ble_eq_true rfl) dX4_findBest_81 (fun τ_81 h_81 => ?_)
                    obtain ⟨p1, p2⟩ := h_81
                    refine rv_goto hX 52 dX4_findBest_84 (by decide) ?_
                    first
                      | (have hin : ¬ (C.num, (sp_act tv k C q).2.2.2.1, (sp_act tv k C q).2.2.2.2.1, (sp_act tv k C q).2.2.2.2.2) ∉ D := fun h => by
                           have := hcf.mpr h
                           rw [c_73] at this
                           cases this
                         rw [if_neg hin, List.append_nil] at hsn
                         have h9 := ihw (P ++ [q]) T9 _ (by have : T9.length + 1 < w + 1 := hn; omega) (by rw [List.append_assoc]; exact hPQ) (Or.inr ⟨q.1, q.2, hmq⟩) hsm2 hc2
                         rw [hsn] at h9
                         exact h9 hbs2 hok)
                      | (have hni : (C.num, (sp_act tv k C q).2.2.2.1, (sp_act tv k C q).2.2.2.2.1, (sp_act tv k C q).2.2.2.2.2) ∉ D := hcf.mp c_73
                         rw [if_pos hni] at hsn
                         have hfold : (sp_acts F tv D k C (P ++ [q])).foldl (sp_pick Ds C) (sp_bst F tv D Ds m k).1 = sp_pick Ds C ((sp_acts F tv D k C P).foldl (sp_pick Ds C) (sp_bst F tv D Ds m k).1) (sp_act tv k C q) := by
                           rw [hsn, List.foldl_append]
                           rfl
                         have h9 := ihw (P ++ [q]) T9 τ_81 (by have : T9.length + 1 < w + 1 := hn; omega) (by rw [List.append_assoc]; exact hPQ) (Or.inr ⟨q.1, q.2, hmq.same p1 (by decide) (by decide)⟩) (hsm2.tr (p1.mn (by decide) (by decide))) (hc2.same p1 (by decide) (by decide))
                         rw [hfold, hsn, List.length_append] at h9
                         have hkl : k < Ds.length := (List.getElem?_eq_some_iff.mp hC).1
                         have hpk : mBest τ_81 (sp_pick Ds C ((sp_acts F tv D k C P).foldl (sp_pick Ds C) (sp_bst F tv D Ds m k).1) (sp_act tv k C q)) ∧ sp_okB Ds (sp_pick Ds C ((sp_acts F tv D k C P).foldl (sp_pick Ds C) (sp_bst F tv D Ds m k).1) (sp_act tv k C q)) := by
                           rcases p2 with ⟨b1, b2⟩ | ⟨b1, a, E, b2, b3, b4⟩
                           · have e : sp_pick Ds C ((sp_acts F tv D k C P).foldl (sp_pick Ds C) (sp_bst F tv D Ds m k).1) (sp_act tv k C q) = some (sp_act tv k C q) := by
                               rcases b2 with b2 | ⟨a, E, b2, b3, b4⟩
                               · rw [b2]; rfl
                               · rw [b2]
                                 show (match Ds[a.1]? with
                                   | none => some a
                                   | some E => if sp_aheadB C E (sp_act tv k C q).2.1 a.2.1 = true then some (sp_act tv k C q) else some a) = _
                                 rw [b3]
                                 show (if sp_aheadB C E (sp_act tv k C q).2.1 a.2.1 = true then some (sp_act tv k C q) else some a) = _
                                 exact if_pos (sp_aheadB_iff.mpr b4)
                             rw [e]
                             refine ⟨b1, fun a' e' => ?_⟩
                             cases e'
                             refine ⟨hkl, ?_⟩
                             have t0 := sp_tagk_lt (l := sp_atk C.its q.1) (a := 0) htl (by decide)
                             have t1 := sp_tagk_lt (l := sp_atk C.its q.1) (a := 1) htl (by decide)
                             have t2 := sp_tagk_lt (l := sp_atk C.its q.1) (a := 2) htl (by decide)
                             have em : ∀ a b : Nat, Nat.max a b = max a b := fun _ _ => rfl
                             show sp_gtag tv (sp_atk C.its q.1) < 2000000
                             unfold sp_gtag
                             simp only [em]
                             omega
                           · have e : sp_pick Ds C ((sp_acts F tv D k C P).foldl (sp_pick Ds C) (sp_bst F tv D Ds m k).1) (sp_act tv k C q) = (sp_acts F tv D k C P).foldl (sp_pick Ds C) (sp_bst F tv D Ds m k).1 := by
                               rw [b2]
                               show (match Ds[a.1]? with
                                 | none => some a
                                 | some E => if sp_aheadB C E (sp_act tv k C q).2.1 a.2.1 = true then some (sp_act tv k C q) else some a) = _
                               rw [b3]
                               show (if sp_aheadB C E (sp_act tv k C q).2.1 a.2.1 = true then some (sp_act tv k C q) else some a) = _
                               exact if_neg (fun h => b4 (sp_aheadB_iff.mp h))
                             rw [e, b1]
                             exact ⟨hbs2, hok⟩
                         exact h9 hpk.1 hpk.2)
          first
            | exact back c_36
            | exact mats c_36 _ [] _ _ (Nat.lt_succ_self _) rfl (Or.inl ⟨fun _ => none, ⟨f1.same g6 (by decide), f2.same g6 (by decide), g3, g4, sp_snd.okA hw.its (sp_has_none _) hw.snd⟩, rfl⟩) hS2 ((hBF _ hS2).cfg' g1 g2 g5) hb2 h5
        · skip
          refine rv_aload_n hX dX4_findBest_39 rfl ?_
          refine mv_ga hX (k := 6) (j := 6) gX4_25_X4 (by decide) rfl (by decide) dX4_findBest_40 ?_
          refine rv_iload_n hX dX4_findBest_43 rfl ?_
          refine mv_ld hX (j := 6) (by decide) (by decide) rfl (by decide) (show _ < 17 by omega) dX4_findBest_44 ?_
          rw [f3.2.1 6 (by decide), hB.len]
          refine rv_goto hX 49 dX4_findBest_45 (by decide) ?_
          refine mv_callv hX iX4_214 rfl mdX4_beginMatches (m_beginMatches hG (d := d - 1)) (by omega) rfl rfl (Nat.le_of_ble_eq_true rfl) dX4_findBest_49 (fun τ_49 h_49 => ?_)
          obtain ⟨g1, g2, g3, g4, g5, g6⟩ := h_49
          have hS2 := (h3.tr (f3.mn (fs' := [31, 32, 33, 34, 52, 53, 54]) (js' := [26, 27, 28, 29, 40]) (by decide) (by decide))).tr (g6.mn (fs' := [31, 32, 33, 34, 52, 53, 54]) (js' := [26, 27, 28, 29, 40]) (by decide) (by decide))
          have hb2 := (h4.same f3 (by decide) (by decide)).same g6 (by decide) (by decide)
          have hDw := hDs.same hS2 (by decide)
          have hBw := (hDw.2.2.2 k C hC).1
          have hBF : ∀ υ, rv_same [31, 32, 33, 34, 52, 53, 54] [26, 27, 28, 29, 40] σ υ → mBF υ S F (10 + k) C := fun υ h => by
            have hDu := hDs.same h (by decide)
            exact ⟨hDu.1, hF.same h (by decide) (by decide), (hDu.2.2.2 k C hC).1, hw, by omega⟩
          have back : C.mod ≠ m → rv_V X (rv_mh Hb o τ_49) 52 [some (.ref o), some (.int (nI m)), some (.int (nI (sp_bst F tv D Ds m k).2)), some (.int (nI (10 + k)))] [] := by
            intro hmm
            refine rv_aload_n hX dX4_findBest_52 rfl ?_
            refine mv_ga hX (k := 10) (j := 10) gX4_37_X4 (by decide) rfl (by decide) dX4_findBest_53 ?_
            refine rv_iload_n hX dX4_findBest_56 rfl ?_
            refine mv_ld hX (j := 10) (by decide) (by decide) rfl (by decide) (show _ < 17 by omega) dX4_findBest_57 ?_
            rw [hBw.mod]
            refine rv_iload_n hX dX4_findBest_58 rfl ?_
            first | refine nv_icmp_ne hX 87 (by omega) (by omega) dX4_findBest_59 (by decide) (fun c_59 => ?_) (fun c_59 => ?_) | refine rv_icmp_ne hX 87 dX4_findBest_59 (by decide) (fun c_59 => ?_) (fun c_59 => ?_)
            · skip
              first | refine nv_iinc hX (m := 1) dX4_findBest_87 rfl (by decide) (rv_st_3 rfl) ?_ | refine rv_iinc hX dX4_findBest_87 rfl rfl (rv_st_3 rfl) ?_
              refine rv_goto hX 10 dX4_findBest_90 (by decide) ?_
              have h9 := ih (k + 1) _ (by omega) (by omega) hS2
              rw [hnx, if_neg hmm] at h9
              exact h9 hb2 h5
            · skip
              exact absurd c_59 hmm
              --done
          have mats : C.mod = m → ∀ (w : Nat) (P Q : List sp_Q) (υ : rv_S), Q.length < w → P ++ Q = sp_m F C.its (fun _ => none) → mRun υ F C.its Q → rv_same [31, 32, 33, 34, 52, 53, 54] [26, 27, 28, 29, 40] σ υ → mCfg υ S F (10 + k) (fun p => p) C.its → mBest υ ((sp_acts F tv D k C P).foldl (sp_pick Ds C) (sp_bst F tv D Ds m k).1) → sp_okB Ds ((sp_acts F tv D k C P).foldl (sp_pick Ds C) (sp_bst F tv D Ds m k).1) → rv_V X (rv_mh Hb o υ) 52 [some (.ref o), some (.int (nI m)), some (.int (nI ((sp_bst F tv D Ds m k).2 + (sp_acts F tv D k C P).length))), some (.int (nI (10 + k)))] [] := by
            intro hmm w
            induction w with
            | zero => intro P Q υ h; omega
            | succ w ihw =>
              intro P Q υ hn hPQ hr hsm hc hbs hok
              have hBu := hBF υ hsm
              refine rv_aload_n hX dX4_findBest_52 rfl ?_
              refine mv_ga hX (k := 10) (j := 10) gX4_37_X4 (by decide) rfl (by decide) dX4_findBest_53 ?_
              refine rv_iload_n hX dX4_findBest_56 rfl ?_
              refine mv_ld hX (j := 10) (by decide) (by decide) rfl (by decide) (show _ < 17 by omega) dX4_findBest_57 ?_
              rw [hBu.2.2.1.mod]
              refine rv_iload_n hX dX4_findBest_58 rfl ?_
              first | refine nv_icmp_ne hX 87 (by omega) (by omega) dX4_findBest_59 (by decide) (fun c_59 => ?_) (fun c_59 => ?_) | refine rv_icmp_ne hX 87 dX4_findBest_59 (by decide) (fun c_59 => ?_) (fun c_59 => ?_)
              · skip
                exact absurd hmm c_59
                --done
              · skip
                refine rv_aload_n hX dX4_findBest_62 rfl ?_
                refine mv_callz hX iX4_218 rfl mdX4_nextMatch (m_nextMatch hG (d := d - 1) (by omega) hc hr) (by omega) rfl rfl (Nat.le_of_ble_eq_true rfl) dX4_findBest_63 (fun r_63 τ_63 h_63 => ?_)
                obtain ⟨n1, n2, n3⟩ := h_63
                first | refine zv_if_eq hX 87 dX4_findBest_66 (by decide) (fun c_66 => ?_) (fun c_66 => ?_) | refine nv_if_eq hX 87 (by omega) dX4_findBest_66 (by decide) (fun c_66 => ?_) (fun c_66 => ?_) | refine rv_if_eq hX 87 dX4_findBest_66 (by decide) (fun c_66 => ?_) (fun c_66 => ?_)
                · skip
                  first | refine nv_iinc hX (m := 1) dX4_findBest_87 rfl (by decide) (rv_st_3 rfl) ?_ | refine rv_iinc hX dX4_findBest_87 rfl rfl (rv_st_3 rfl) ?_
                  refine rv_goto hX 10 dX4_findBest_90 (by decide) ?_
                  have hQ0 : Q = [] := by
                    cases Q with
                    | nil => rfl
                    | cons q T =>
                      have := (n2 q.1 q.2 T rfl).1
                      rw [c_66] at this
                      cases this
                  subst hQ0
                  rw [List.append_nil] at hPQ
                  have h9 := ih (k + 1) _ (by omega) (by omega) (hsm.tr (n1.mn (by decide) (by decide)))
                  rw [hnx, if_pos hmm, ← hPQ] at h9
                  exact h9 (hbs.same n1 (by decide) (by decide)) hok
                · skip
                  obtain ⟨q, T9, hR9⟩ : ∃ q T, Q = q :: T := by
                    cases Q with
                    | nil => have := n3 rfl; rw [c_66] at this; cases this
                    | cons q T => exact ⟨q, T, rfl⟩
                  subst hR9
                  have hmq := (n2 q.1 q.2 T9 rfl).2
                  have hqm : q ∈ sp_m F C.its (fun _ => none) := by rw [← hPQ]; exact List.mem_append_right _ List.mem_cons_self
                  obtain ⟨kn1, kn2⟩ := hw.known hqm
                  have hsm2 := hsm.tr (n1.mn (fs' := [31, 32, 33, 34, 52, 53, 54]) (js' := [26, 27, 28, 29, 40]) (by decide) (by decide))
                  have hB2 := hBF _ hsm2
                  have hc2 := hc.same n1 (by decide) (by decide)
                  have hbs2 := hbs.same n1 (by decide) (by decide)
                  have htv2 : ∀ k', k' ∈ sp_atk C.its q.1 → τ_63.2.1 16 k' = nI (tv k') := fun k' e => by rw [hsm2.2.1 16 (by decide)]; exact htv k' (sp_m_ks hqm k' e)
                  have hD2 : mFd τ_63 D := ⟨by rw [hsm2.2.1 1 (by decide)]; exact hD.1, hD.2.1, fun j e h => by rw [hsm2.2.1 18 (by decide)]; exact hD.2.2 j e h⟩
                  have hsn := sp_acts_snoc (F := F) (tv := tv) (D := D) (i := k) (C := C) (M := P) (q := q)
                  have hDw2 := hDs.same hsm2 (by decide)
                  have hnumC := hw.num
                  refine rv_aload_n hX dX4_findBest_69 rfl ?_
                  refine mv_callz hX iX4_414 rfl mdX4_canFire (m_canFire hG (d := d - 1) (by omega) hc2 hmq.tri htv2 htl hD2 hB2.2.2.1.num (by omega)) (by omega) rfl rfl (Nat.le_of_ble_eq_true rfl) dX4_findBest_70 (fun r_70 τ_70 h_70 => ?_)
                  obtain ⟨rfl, hcf⟩ := h_70
                  first | refine zv_if_eq hX 52 dX4_findBest_73 (by decide) (fun c_73 => ?_) (fun c_73 => ?_) | refine nv_if_eq hX 52 (by omega) dX4_findBest_73 (by decide) (fun c_73 => ?_) (fun c_73 => ?_) | refine rv_if_eq hX 52 dX4_findBest_73 (by decide) (fun c_73 => ?_) (fun c_73 => ?_)
                  · skip
                    first
                      | (have hin : ¬ (C.num, (sp_act tv k C q).2.2.2.1, (sp_act tv k C q).2.2.2.2.1, (sp_act tv k C q).2.2.2.2.2) ∉ D := fun h => by
                           have := hcf.mpr h
                           rw [c_73] at this
                           cases this
                         rw [if_neg hin, List.append_nil] at hsn
                         have h9 := ihw (P ++ [q]) T9 _ (by have : T9.length + 1 < w + 1 := hn; omega) (by rw [List.append_assoc]; exact hPQ) (Or.inr ⟨q.1, q.2, hmq⟩) hsm2 hc2
                         rw [hsn] at h9
                         exact h9 hbs2 hok)
                      | (have hni : (C.num, (sp_act tv k C q).2.2.2.1, (sp_act tv k C q).2.2.2.2.1, (sp_act tv k C q).2.2.2.2.2) ∉ D := hcf.mp c_73
                         rw [if_pos hni] at hsn
                         have hfold : (sp_acts F tv D k C (P ++ [q])).foldl (sp_pick Ds C) (sp_bst F tv D Ds m k).1 = sp_pick Ds C ((sp_acts F tv D k C P).foldl (sp_pick Ds C) (sp_bst F tv D Ds m k).1) (sp_act tv k C q) := by
                           rw [hsn, List.foldl_append]
                           rfl
                         have h9 := ihw (P ++ [q]) T9 τ_81 (by have : T9.length + 1 < w + 1 := hn; omega) (by rw [List.append_assoc]; exact hPQ) (Or.inr ⟨q.1, q.2, hmq.same p1 (by decide) (by decide)⟩) (hsm2.tr (p1.mn (by decide) (by decide))) (hc2.same p1 (by decide) (by decide))
                         rw [hfold, hsn, List.length_append] at h9
                         have hkl : k < Ds.length := (List.getElem?_eq_some_iff.mp hC).1
                         have hpk : mBest τ_81 (sp_pick Ds C ((sp_acts F tv D k C P).foldl (sp_pick Ds C) (sp_bst F tv D Ds m k).1) (sp_act tv k C q)) ∧ sp_okB Ds (sp_pick Ds C ((sp_acts F tv D k C P).foldl (sp_pick Ds C) (sp_bst F tv D Ds m k).1) (sp_act tv k C q)) := by
                           rcases p2 with ⟨b1, b2⟩ | ⟨b1, a, E, b2, b3, b4⟩
                           · have e : sp_pick Ds C ((sp_acts F tv D k C P).foldl (sp_pick Ds C) (sp_bst F tv D Ds m k).1) (sp_act tv k C q) = some (sp_act tv k C q) := by
                               rcases b2 with b2 | ⟨a, E, b2, b3, b4⟩
                               · rw [b2]; rfl
                               · rw [b2]
                                 show (match Ds[a.1]? with
                                   | none => some a
                                   | some E => if sp_aheadB C E (sp_act tv k C q).2.1 a.2.1 = true then some (sp_act tv k C q) else some a) = _
                                 rw [b3]
                                 show (if sp_aheadB C E (sp_act tv k C q).2.1 a.2.1 = true then some (sp_act tv k C q) else some a) = _
                                 exact if_pos (sp_aheadB_iff.mpr b4)
                             rw [e]
                             refine ⟨b1, fun a' e' => ?_⟩
                             cases e'
                             refine ⟨hkl, ?_⟩
                             have t0 := sp_tagk_lt (l := sp_atk C.its q.1) (a := 0) htl (by decide)
                             have t1 := sp_tagk_lt (l := sp_atk C.its q.1) (a := 1) htl (by decide)
                             have t2 := sp_tagk_lt (l := sp_atk C.its q.1) (a := 2) htl (by decide)
                             have em : ∀ a b : Nat, Nat.max a b = max a b := fun _ _ => rfl
                             show sp_gtag tv (sp_atk C.its q.1) < 2000000
                             unfold sp_gtag
                             simp only [em]
                             omega
                           · have e : sp_pick Ds C ((sp_acts F tv D k C P).foldl (sp_pick Ds C) (sp_bst F tv D Ds m k).1) (sp_act tv k C q) = (sp_acts F tv D k C P).foldl (sp_pick Ds C) (sp_bst F tv D Ds m k).1 := by
                               rw [b2]
                               show (match Ds[a.1]? with
                                 | none => some a
                                 | some E => if sp_aheadB C E (sp_act tv k C q).2.1 a.2.1 = true then some (sp_act tv k C q) else some a) = _
                               rw [b3]
                               show (if sp_aheadB C E (sp_act tv k C q).2.1 a.2.1 = true then some (sp_act tv k C q) else some a) = _
                               exact if_neg (fun h => b4 (sp_aheadB_iff.mp h))
                             rw [e, b1]
                             exact ⟨hbs2, hok⟩
                         exact h9 hpk.1 hpk.2)
                  · skip
                    first | refine nv_iinc hX (m := 1) dX4_findBest_76 rfl (by decide) (rv_st_2 rfl) ?_ | refine rv_iinc hX dX4_findBest_76 rfl rfl (rv_st_2 rfl) ?_
                    refine rv_aload_n hX dX4_findBest_79 rfl ?_
                    refine rv_iload_n hX dX4_findBest_80 rfl ?_
                    refine mv_callv hX iX4_417 rfl mdX4_compare (m_compare hG (d := d - 1) (Cs := Ds) (q := q) (by omega) hB2 hc2 hmq.tri hmq.val kn1 htv2 htl hbs2 (fun a e => by
                    obtain ⟨q1, q2⟩ := hok a e
                    refine ⟨Ds[a.1], List.getElem?_eq_getElem q1, (hDw2.2.2.2 _ _ (List.getElem?_eq_getElem q1)).1, (hDw2.2.2.2 _ _ (List.getElem?_eq_getElem q1)).2.len.2, by omega, q2⟩)) (by omega) rfl rfl (Nat.le_of_ble_eq_true rfl) dX4_findBest_81 (fun τ_81 h_81 => ?_)
                    obtain ⟨p1, p2⟩ := h_81
                    refine rv_goto hX 52 dX4_findBest_84 (by decide) ?_
                    first
                      | (have hin : ¬ (C.num, (sp_act tv k C q).2.2.2.1, (sp_act tv k C q).2.2.2.2.1, (sp_act tv k C q).2.2.2.2.2) ∉ D := fun h => by
                           have := hcf.mpr h
                           rw [c_73] at this
                           cases this
                         rw [if_neg hin, List.append_nil] at hsn
                         have h9 := ihw (P ++ [q]) T9 _ (by have : T9.length + 1 < w + 1 := hn; omega) (by rw [List.append_assoc]; exact hPQ) (Or.inr ⟨q.1, q.2, hmq⟩) hsm2 hc2
                         rw [hsn] at h9
                         exact h9 hbs2 hok)
                      | (have hni : (C.num, (sp_act tv k C q).2.2.2.1, (sp_act tv k C q).2.2.2.2.1, (sp_act tv k C q).2.2.2.2.2) ∉ D := hcf.mp c_73
                         rw [if_pos hni] at hsn
                         have hfold : (sp_acts F tv D k C (P ++ [q])).foldl (sp_pick Ds C) (sp_bst F tv D Ds m k).1 = sp_pick Ds C ((sp_acts F tv D k C P).foldl (sp_pick Ds C) (sp_bst F tv D Ds m k).1) (sp_act tv k C q) := by
                           rw [hsn, List.foldl_append]
                           rfl
                         have h9 := ihw (P ++ [q]) T9 τ_81 (by have : T9.length + 1 < w + 1 := hn; omega) (by rw [List.append_assoc]; exact hPQ) (Or.inr ⟨q.1, q.2, hmq.same p1 (by decide) (by decide)⟩) (hsm2.tr (p1.mn (by decide) (by decide))) (hc2.same p1 (by decide) (by decide))
                         rw [hfold, hsn, List.length_append] at h9
                         have hkl : k < Ds.length := (List.getElem?_eq_some_iff.mp hC).1
                         have hpk : mBest τ_81 (sp_pick Ds C ((sp_acts F tv D k C P).foldl (sp_pick Ds C) (sp_bst F tv D Ds m k).1) (sp_act tv k C q)) ∧ sp_okB Ds (sp_pick Ds C ((sp_acts F tv D k C P).foldl (sp_pick Ds C) (sp_bst F tv D Ds m k).1) (sp_act tv k C q)) := by
                           rcases p2 with ⟨b1, b2⟩ | ⟨b1, a, E, b2, b3, b4⟩
                           · have e : sp_pick Ds C ((sp_acts F tv D k C P).foldl (sp_pick Ds C) (sp_bst F tv D Ds m k).1) (sp_act tv k C q) = some (sp_act tv k C q) := by
                               rcases b2 with b2 | ⟨a, E, b2, b3, b4⟩
                               · rw [b2]; rfl
                               · rw [b2]
                                 show (match Ds[a.1]? with
                                   | none => some a
                                   | some E => if sp_aheadB C E (sp_act tv k C q).2.1 a.2.1 = true then some (sp_act tv k C q) else some a) = _
                                 rw [b3]
                                 show (if sp_aheadB C E (sp_act tv k C q).2.1 a.2.1 = true then some (sp_act tv k C q) else some a) = _
                                 exact if_pos (sp_aheadB_iff.mpr b4)
                             rw [e]
                             refine ⟨b1, fun a' e' => ?_⟩
                             cases e'
                             refine ⟨hkl, ?_⟩
                             have t0 := sp_tagk_lt (l := sp_atk C.its q.1) (a := 0) htl (by decide)
                             have t1 := sp_tagk_lt (l := sp_atk C.its q.1) (a := 1) htl (by decide)
                             have t2 := sp_tagk_lt (l := sp_atk C.its q.1) (a := 2) htl (by decide)
                             have em : ∀ a b : Nat, Nat.max a b = max a b := fun _ _ => rfl
                             show sp_gtag tv (sp_atk C.its q.1) < 2000000
                             unfold sp_gtag
                             simp only [em]
                             omega
                           · have e : sp_pick Ds C ((sp_acts F tv D k C P).foldl (sp_pick Ds C) (sp_bst F tv D Ds m k).1) (sp_act tv k C q) = (sp_acts F tv D k C P).foldl (sp_pick Ds C) (sp_bst F tv D Ds m k).1 := by
                               rw [b2]
                               show (match Ds[a.1]? with
                                 | none => some a
                                 | some E => if sp_aheadB C E (sp_act tv k C q).2.1 a.2.1 = true then some (sp_act tv k C q) else some a) = _
                               rw [b3]
                               show (if sp_aheadB C E (sp_act tv k C q).2.1 a.2.1 = true then some (sp_act tv k C q) else some a) = _
                               exact if_neg (fun h => b4 (sp_aheadB_iff.mp h))
                             rw [e, b1]
                             exact ⟨hbs2, hok⟩
                         exact h9 hpk.1 hpk.2)
          first
            | exact back c_36
            | exact mats c_36 _ [] _ _ (Nat.lt_succ_self _) rfl (Or.inl ⟨fun _ => none, ⟨f1.same g6 (by decide), f2.same g6 (by decide), g3, g4, sp_snd.okA hw.its (sp_has_none _) hw.snd⟩, rfl⟩) hS2 ((hBF _ hS2).cfg' g1 g2 g5) hb2 h5
  refine nv_iconst hX (m := 0) (by decide) dX4_findBest_0 ?_
  refine rv_istore_n hX dX4_findBest_1 (rv_st_2 rfl) ?_
  refine rv_aload_n hX dX4_findBest_2 rfl ?_
  refine rv_iconst hX (v := -1) dX4_findBest_3 (by decide) ?_
  refine mv_pi hX (k := 52) pX4_411_X4 (by decide) rfl rfl rfl dX4_findBest_4 ?_
  refine nv_bipush hX (m := 10) (by decide) dX4_findBest_7 ?_
  refine rv_istore_n hX dX4_findBest_9 (rv_st_3 rfl) ?_
  exact deeds _ 0 _ (Nat.zero_le _) (Nat.lt_succ_self _) (.f (by decide)) (by show (rv_sF σ 52 (-1)).1 52 = -1; rw [rv_sF_1, if_pos rfl]) (fun a e => by cases e)
