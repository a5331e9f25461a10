/-! THE REFERENCE: going on to the next match -/
set_option maxRecDepth 100000
theorem sp_getI {its : List sp_I} {p : Nat} {it : sp_I} (h : its[p]? = some it) : its.getD p (0, 0, []) = it := by rw [List.getD_eq_getElem?_getD, h]; rfl
theorem sp_getI' {its : List sp_I} {p : Nat} (h : p < its.length) : its[p]? = some (its.getD p (0, 0, [])) := by rw [List.getD_eq_getElem?_getD, List.getElem?_eq_getElem h]; rfl
theorem m_advance {G : rv_G} (hG : rv_GK G) {d : Nat} (hd : 4 ≤ d) {σ : rv_S} {S F : List Nat} {b p : Nat} {ord : Nat → Nat} {its : List sp_I} {it : sp_I} {v : sp_V} {kb : Nat → Option Nat} {t : Option Nat} (hc : mCfg σ S F b ord its) (hit : its[p]? = some it) (hv : mVal σ v) (hk : mKb σ kb) (hkp : ∀ x, kb x ≠ some p) (hkn : ∀ x, v x = none → kb x = none) (ht : σ.2.1 27 p = rv_oi t) (ht2 : ∀ k, t = some k → k < 62) (hok : it.1 ≠ 0 → sp_ok v it) : mC G d yX4_advance wX4_advance [.int (nI p)] σ (mPz (fun r τ => mAdv σ v kb p (sp_left F it v t) r τ)) := by
  refine mv_start hG (by decide +kernel) (Nat.le_of_ble_eq_true rfl) (fun X Hb o hX1 hX hE => ?_)
  subst hX1
  show rv_V X (rv_mh Hb o _) 0 [some (.ref o), some (.int (nI p)), none] []
  have hp0 := (List.getElem?_eq_some_iff.mp hit).1
  have hp6 : p < 6 := Nat.lt_of_lt_of_le hp0 hc.2.2.2.2.2.1
  have hord := (hc.2.2.2.2.2.2.1 p hp0).2
  have hb17 := hc.2.2.2.2.1
  have hc0 := hc
  obtain ⟨hS8, hF', hmt, -, -, -, hor, hits⟩ := hc
  obtain ⟨hI, hwf⟩ := hits p it hit
  have hk3 := hwf.1
  have hsm : rv_same [] [27] σ (rv_sU σ 27 p (nI 0)) := .u (by decide)
  refine rv_aload_n hX dX4_advance_0 rfl ?_
  refine rv_aload_n hX dX4_advance_1 rfl ?_
  refine mv_gi hX (k := 31) gX4_155_X4 (by decide) rfl dX4_advance_2 ?_
  rw [hmt]
  refine rv_aload_n hX dX4_advance_5 rfl ?_
  refine mv_ga hX (k := 35) (j := 26) gX4_85_X4 (by decide) rfl (by decide) dX4_advance_6 ?_
  refine rv_iload_n hX dX4_advance_9 rfl ?_
  refine mv_ld hX (j := 26) (by decide) (by decide) rfl (by decide) (show _ < 6 by omega) dX4_advance_10 ?_
  rw [(hor p hp0).1]
  refine mv_calli hX iX4_148 rfl mdX4_kindOf (m_kindOf hG (d := d - 1) (by omega)) (by omega) rfl rfl (Nat.le_of_ble_eq_true rfl) dX4_advance_11 (fun r_11 τ_11 h_11 => ?_)
  obtain ⟨rfl, rfl⟩ := h_11
  rw [hI.1]
  first | refine zv_if_ne hX 23 dX4_advance_14 (by decide) (fun c_14 => ?_) (fun c_14 => ?_) | refine nv_if_ne hX 23 (by omega) dX4_advance_14 (by decide) (fun c_14 => ?_) (fun c_14 => ?_) | refine rv_if_ne hX 23 dX4_advance_14 (by decide) (fun c_14 => ?_) (fun c_14 => ?_)
  · skip
    refine rv_aload_n hX dX4_advance_23 rfl ?_
    refine mv_ga hX (k := 36) (j := 27) gX4_88_X4 (by decide) rfl (by decide) dX4_advance_24 ?_
    refine rv_iload_n hX dX4_advance_27 rfl ?_
    refine mv_ld hX (j := 27) (by decide) (by decide) rfl (by decide) (show _ < 6 by omega) dX4_advance_28 ?_
    rw [ht]
    refine rv_iconst hX (v := -1) dX4_advance_29 (by decide) ?_
    first | refine nv_icmp_ne hX 37 (by omega) (by omega) dX4_advance_30 (by decide) (fun c_30 => ?_) (fun c_30 => ?_) | refine rv_icmp_ne hX 37 dX4_advance_30 (by decide) (fun c_30 => ?_) (fun c_30 => ?_)
    · skip
      refine nv_iconst hX (m := 0) (by decide) dX4_advance_37 ?_
      refine rv_istore_n hX dX4_advance_38 (rv_st_2 rfl) ?_
      refine rv_aload_n hX dX4_advance_39 rfl ?_
      refine mv_ga hX (k := 36) (j := 27) gX4_88_X4 (by decide) rfl (by decide) dX4_advance_40 ?_
      refine rv_iload_n hX dX4_advance_43 rfl ?_
      refine nv_iconst hX (m := 0) (by decide) dX4_advance_44 ?_
      refine mv_st hX (j := 27) (by decide) (by decide) rfl (by decide) (show _ < 6 by omega) dX4_advance_45 ?_
      refine rv_iload_n hX dX4_advance_46 rfl ?_
      refine rv_if_eq hX 68 dX4_advance_47 (by decide) (fun _ => ?_) (fun q => absurd q (by decide))
      refine nv_iconst hX (m := 0) (by decide) dX4_advance_68 ?_
      refine mv_retz hX hE (b := false) rfl dX4_advance_69 ?_
      first
        | (have hne : t ≠ none := fun e => c_30 (by rw [e]; rfl)
           obtain ⟨k, rfl⟩ := Option.ne_none_iff_exists'.mp hne
           refine ⟨hsm.mn (by decide) (by decide), fun q hq => by rw [rv_sU_2, if_neg (by omega)], Or.inl ⟨?_, rfl, hv.same hsm (by decide), hk.same hsm (by decide)⟩⟩
           show sp_aft F it v k = []
           unfold sp_aft
           rw [if_neg (by omega)])
        | (have htn : t = none := by
             refine (rv_oi_m1 (fun a e => ?_)).mp c_30
             have := ht2 a e
             omega
           subst htn
           have hA : sp_left F it v none = sp_alt F (fun _ => true) it v := rfl
           rw [hA]
           refine ⟨(hsm.mn (by decide) (by decide)).tr (g1.mn (by decide) (by decide)), fun q hq => by rw [g1.2.1 27 (by decide), rv_sU_2, if_neg (by omega)], ?_⟩
           rcases g2 with ⟨a1, a2, a3, a4⟩ | ⟨w, a1, a2, a3, a4, a5⟩
           · first
               | exact Or.inl ⟨a1, rfl, a3, a4⟩
               | (rw [a2] at c_61; cases c_61)
           · first
               | exact Or.inr ⟨0, w, [], a1, rfl, by rw [g1.2.1 27 (by decide), rv_sU_2, if_pos ⟨rfl, rfl⟩], by decide, a3, a4, a5⟩
               | (rw [a2] at c_61; cases c_61))
    · skip
      refine nv_iconst hX (m := 1) (by decide) dX4_advance_33 ?_
      refine rv_goto hX 38 dX4_advance_34 (by decide) ?_
      refine rv_istore_n hX dX4_advance_38 (rv_st_2 rfl) ?_
      refine rv_aload_n hX dX4_advance_39 rfl ?_
      refine mv_ga hX (k := 36) (j := 27) gX4_88_X4 (by decide) rfl (by decide) dX4_advance_40 ?_
      refine rv_iload_n hX dX4_advance_43 rfl ?_
      refine nv_iconst hX (m := 0) (by decide) dX4_advance_44 ?_
      refine mv_st hX (j := 27) (by decide) (by decide) rfl (by decide) (show _ < 6 by omega) dX4_advance_45 ?_
      refine rv_iload_n hX dX4_advance_46 rfl ?_
      refine rv_if_eq hX 68 dX4_advance_47 (by decide) (fun q => absurd q (by decide)) (fun _ => ?_)
      refine rv_aload_n hX dX4_advance_50 rfl ?_
      refine rv_aload_n hX dX4_advance_51 rfl ?_
      refine mv_ga hX (k := 35) (j := 26) gX4_85_X4 (by decide) rfl (by decide) dX4_advance_52 ?_
      refine rv_iload_n hX dX4_advance_55 rfl ?_
      refine mv_ld hX (j := 26) (by decide) (by decide) rfl (by decide) (show _ < 6 by omega) dX4_advance_56 ?_
      rw [rv_sU_2, if_neg (by omega), (hor p hp0).1]
      refine rv_iload_n hX dX4_advance_57 rfl ?_
      refine mv_callz hX iX4_198 rfl mdX4_holds (m_holds hG (d := d - 1) (by omega) (hc0.same hsm (by decide) (by decide)) hit (by omega) (hv.same hsm (by decide)) (hk.same hsm (by decide)) (hok (by omega))) (by omega) rfl rfl (Nat.le_of_ble_eq_true rfl) dX4_advance_58 (fun r_58 τ_58 h_58 => ?_)
      obtain ⟨g1, g2⟩ := h_58
      first | refine zv_if_eq hX 68 dX4_advance_61 (by decide) (fun c_61 => ?_) (fun c_61 => ?_) | refine nv_if_eq hX 68 (by omega) dX4_advance_61 (by decide) (fun c_61 => ?_) (fun c_61 => ?_) | refine rv_if_eq hX 68 dX4_advance_61 (by decide) (fun c_61 => ?_) (fun c_61 => ?_)
      · skip
        refine nv_iconst hX (m := 0) (by decide) dX4_advance_68 ?_
        refine mv_retz hX hE (b := false) rfl dX4_advance_69 ?_
        first
          | (have hne : t ≠ none := fun e => c_30 (by rw [e]; rfl)
             obtain ⟨k, rfl⟩ := Option.ne_none_iff_exists'.mp hne
             refine ⟨hsm.mn (by decide) (by decide), fun q hq => by rw [rv_sU_2, if_neg (by omega)], Or.inl ⟨?_, rfl, hv.same hsm (by decide), hk.same hsm (by decide)⟩⟩
             show sp_aft F it v k = []
             unfold sp_aft
             rw [if_neg (by omega)])
          | (have htn : t = none := by
               refine (rv_oi_m1 (fun a e => ?_)).mp c_30
               have := ht2 a e
               omega
             subst htn
             have hA : sp_left F it v none = sp_alt F (fun _ => true) it v := rfl
             rw [hA]
             refine ⟨(hsm.mn (by decide) (by decide)).tr (g1.mn (by decide) (by decide)), fun q hq => by rw [g1.2.1 27 (by decide), rv_sU_2, if_neg (by omega)], ?_⟩
             rcases g2 with ⟨a1, a2, a3, a4⟩ | ⟨w, a1, a2, a3, a4, a5⟩
             · first
                 | exact Or.inl ⟨a1, rfl, a3, a4⟩
                 | (rw [a2] at c_61; cases c_61)
             · first
                 | exact Or.inr ⟨0, w, [], a1, rfl, by rw [g1.2.1 27 (by decide), rv_sU_2, if_pos ⟨rfl, rfl⟩], by decide, a3, a4, a5⟩
                 | (rw [a2] at c_61; cases c_61))
      · skip
        refine nv_iconst hX (m := 1) (by decide) dX4_advance_64 ?_
        refine rv_goto hX 69 dX4_advance_65 (by decide) ?_
        refine mv_retz hX hE (b := true) rfl dX4_advance_69 ?_
        first
          | (have hne : t ≠ none := fun e => c_30 (by rw [e]; rfl)
             obtain ⟨k, rfl⟩ := Option.ne_none_iff_exists'.mp hne
             refine ⟨hsm.mn (by decide) (by decide), fun q hq => by rw [rv_sU_2, if_neg (by omega)], Or.inl ⟨?_, rfl, hv.same hsm (by decide), hk.same hsm (by decide)⟩⟩
             show sp_aft F it v k = []
             unfold sp_aft
             rw [if_neg (by omega)])
          | (have htn : t = none := by
               refine (rv_oi_m1 (fun a e => ?_)).mp c_30
               have := ht2 a e
               omega
             subst htn
             have hA : sp_left F it v none = sp_alt F (fun _ => true) it v := rfl
             rw [hA]
             refine ⟨(hsm.mn (by decide) (by decide)).tr (g1.mn (by decide) (by decide)), fun q hq => by rw [g1.2.1 27 (by decide), rv_sU_2, if_neg (by omega)], ?_⟩
             rcases g2 with ⟨a1, a2, a3, a4⟩ | ⟨w, a1, a2, a3, a4, a5⟩
             · first
                 | exact Or.inl ⟨a1, rfl, a3, a4⟩
                 | (rw [a2] at c_61; cases c_61)
             · first
                 | exact Or.inr ⟨0, w, [], a1, rfl, by rw [g1.2.1 27 (by decide), rv_sU_2, if_pos ⟨rfl, rfl⟩], by decide, a3, a4, a5⟩
                 | (rw [a2] at c_61; cases c_61))
  · skip
    refine rv_aload_n hX dX4_advance_17 rfl ?_
    refine rv_iload_n hX dX4_advance_18 rfl ?_
    refine mv_callz hX iX4_195 rfl mdX4_advanceAtom (m_advanceAtom hG (d := d - 1) (by omega) hc0 hit (by omega) hv hk hkp hkn ht ht2) (by omega) rfl rfl (Nat.le_of_ble_eq_true rfl) dX4_advance_19 (fun r_19 τ_19 h_19 => ?_)
    have g := h_19
    refine mv_retz hX hE rfl dX4_advance_22 ?_
    exact g
/-- a match of the items has been found: which, and what comes behind it -/
def mAt (σ : rv_S) (F : List Nat) (its : List sp_I) (ks : List Nat) (w : sp_V) (todo : List (List Nat × sp_V)) : Prop :=
  ∃ (kb : Nat → Option Nat) (D : Nat), mVal σ w ∧ mKb σ kb ∧ σ.1 33 = 1 ∧ σ.1 34 = nI D ∧ D ≤ 6 ∧ ks.length = its.length ∧ (∀ x, w x = none → kb x = none) ∧ (∀ x l, kb x = some l → l < its.length) ∧ (∀ (i k : Nat), ks[i]? = some k → σ.2.1 27 i = nI k ∧ k < 62) ∧ (∀ i, i < its.length → sp_okA F (its.drop i) (sp_lev w kb i)) ∧ todo = sp_rest F its (sp_lev w kb) ks its.length
/-- matches have been begun, with values -/
def mFr (σ : rv_S) (F : List Nat) (its : List sp_I) (v : sp_V) : Prop := mVal σ v ∧ mKb σ (fun _ => none) ∧ σ.1 33 = 0 ∧ σ.1 34 = 0 ∧ sp_okA F its v
/-- matches that are still to come -/
def mRun (σ : rv_S) (F : List Nat) (its : List sp_I) (todo : List (List Nat × sp_V)) : Prop := (∃ v, mFr σ F its v ∧ todo = sp_m F its v) ∨ ∃ ks w, mAt σ F its ks w todo
theorem mAt.same {fs js : List Nat} {σ τ : rv_S} {F : List Nat} {its : List sp_I} {ks : List Nat} {w : sp_V} {todo : List (List Nat × sp_V)} (h : mAt σ F its ks w todo) (hs : rv_same fs js σ τ) (h1 : 27 ∉ js ∧ 28 ∉ js ∧ 29 ∉ js) (h2 : 33 ∉ fs ∧ 34 ∉ fs) : mAt τ F its ks w todo := by
  obtain ⟨kb, D, a1, a2, a3, a4, a5, a6, a7, a8, a9, a10, a11⟩ := h
  exact ⟨kb, D, a1.same hs h1.2.1, a2.same hs h1.2.2, by rw [hs.1 33 h2.1]; exact a3, by rw [hs.1 34 h2.2]; exact a4, a5, a6, a7, a8, fun i k e => by rw [hs.2.1 27 h1.1]; exact a9 i k e, a10, a11⟩
def mRunR (σ : rv_S) (F : List Nat) (its : List sp_I) (todo : List (List Nat × sp_V)) (fr : Bool) (R : Nat) : Prop := (∃ v, mFr σ F its v ∧ todo = sp_m F its v ∧ (fr = true → R = sp_reach F its v)) ∨ (fr = false ∧ ∃ ks w, mAt σ F its ks w todo)
theorem m_nextMatchR {G : rv_G} (hG : rv_GK G) {d : Nat} (hd : 5 ≤ d) {σ : rv_S} {S F : List Nat} {b : Nat} {ord : Nat → Nat} {its : List sp_I} {todo : List (List Nat × sp_V)} (hc : mCfg σ S F b ord its) {fr : Bool} {R : Nat} (hr : mRunR σ F its todo fr R) : mC G d yX4_nextMatch wX4_nextMatch [] σ (mPz (fun r τ => rv_same [33, 34] [27, 28, 29] σ τ ∧ (∀ ks w T, todo = (ks, w) :: T → r = true ∧ mAt τ F its ks w T) ∧ (todo = [] → r = false) ∧ (fr = true → r = false → τ.1 34 = nI R))) := by
  refine mv_start hG (by decide +kernel) (Nat.le_of_ble_eq_true rfl) (fun X Hb o hX1 hX hE => ?_)
  subst hX1
  show rv_V X (rv_mh Hb o _) 0 [some (.ref o), none] []
  have hl6 := hc.2.2.2.2.2.1
  have hlen := hc.2.2.2.1
  have fin : ∀ (τ : rv_S) (D : Nat), rv_same [33, 34] [27, 28, 29] σ τ → todo = [] → τ.1 34 = nI D → (fr = true → D = R) → rv_V X (rv_mh Hb o τ) 58 [some (.ref o), some (.int (-1))] [] := by
    intro τ D hs ht hD hR
    refine rv_iload_n hX dX4_nextMatch_58 rfl ?_
    refine rv_if_lt hX 134 dX4_nextMatch_59 (by decide) (fun c_59 => ?_) (fun c_59 => ?_)
    · skip
      refine nv_iconst hX (m := 0) (by decide) dX4_nextMatch_134 ?_
      refine mv_retz hX hE (b := false) rfl dX4_nextMatch_135 ?_
      exact ⟨hs, fun ks w T e => (by rw [ht] at e; cases e), fun _ => rfl, fun hv _ => by rw [hD, hR hv]⟩
    · skip
      exact absurd (show (-1 : Int32) < 0 by decide) c_59
      --done
  have loop : ∀ (n p : Nat) (t : Option Nat) (w : sp_V) (kb : Nat → Option Nat) (ks : List Nat) (D : Nat) (τ : rv_S), sp_hd F its todo fr R p t w kb ks D → sp_me F its p t w kb ks < n → mVal τ w → mKb τ kb → (∀ (i k : Nat), i < p → ks[i]? = some k → τ.2.1 27 i = nI k) → τ.2.1 27 p = rv_oi t → τ.1 33 = 1 → τ.1 34 = nI D → rv_same [33, 34] [27, 28, 29] σ τ → rv_V X (rv_mh Hb o τ) 58 [some (.ref o), some (.int (nI p))] [] := by
    intro n
    induction n with
    | zero => intro p t w kb ks D τ _ hn; omega
    | succ n ih =>
      intro p t w kb ks D τ hh hn hv hk hks ht h33 h34 hs
      have hp0 := hh.1
      have hit := sp_getI' hp0
      have hD6 := hh.2.2.2.2.2.2.2.1
      have hc' := hc.same hs (by decide) (by decide)
      have hlen' := hc'.2.2.2.1
      have hcut := sp_lev_cut (w := w) hh.2.2.1
      refine rv_iload_n hX dX4_nextMatch_58 rfl ?_
      refine rv_if_lt hX 134 dX4_nextMatch_59 (by decide) (fun c_59 => ?_) (fun c_59 => ?_)
      · skip
        exact absurd c_59 (nI_pos (by omega))
        --done
      · skip
        refine rv_aload_n hX dX4_nextMatch_62 rfl ?_
        refine rv_iload_n hX dX4_nextMatch_63 rfl ?_
        refine mv_callv hX iX4_185 rfl mdX4_unbind (m_unbind hG (d := d - 1) (show p < 6 by omega) hv hk) (by omega) rfl rfl (Nat.le_of_ble_eq_true rfl) dX4_nextMatch_64 (fun τ_64 h_64 => ?_)
        obtain ⟨u1, u2, u3⟩ := h_64
        rw [hcut] at u1
        have u2' : mKb τ_64 (sp_cut kb p) := u2
        refine rv_aload_n hX dX4_nextMatch_67 rfl ?_
        refine rv_iload_n hX dX4_nextMatch_68 rfl ?_
        refine mv_callz hX iX4_202 rfl mdX4_advance (m_advance hG (d := d - 1) (by omega) (hc'.same u3 (by decide) (by decide)) hit u1 u2' (fun x e => Nat.lt_irrefl _ (sp_cut_lt hh.2.2.1 x p e)) (sp_lev_none hh.2.1 hh.2.2.1) (by rw [u3.2.1 27 (by decide)]; exact ht) hh.2.2.2.2.2.1 (fun e => by have g := hh.2.2.2.2.2.2.1 p (Nat.le_refl _); rw [sp_drop_getD hp0] at g; exact g.1 e)) (by omega) rfl rfl (Nat.le_of_ble_eq_true rfl) dX4_nextMatch_69 (fun r_69 τ_69 h_69 => ?_)
        obtain ⟨g1, g2, g3⟩ := h_69
        first | refine zv_if_ne hX 81 dX4_nextMatch_72 (by decide) (fun c_72 => ?_) (fun c_72 => ?_) | refine nv_if_ne hX 81 (by omega) dX4_nextMatch_72 (by decide) (fun c_72 => ?_) (fun c_72 => ?_) | refine rv_if_ne hX 81 dX4_nextMatch_72 (by decide) (fun c_72 => ?_) (fun c_72 => ?_)
        · skip
          obtain ⟨k, u, B, a1, a3, a4, a5, a6, a7⟩ : ∃ (k : Nat) (u : sp_V) (B : List (Nat × sp_V)), sp_left F (its.getD p (0, 0, [])) (sp_lev w kb p) t = (k, u) :: B ∧ τ_69.2.1 27 p = nI k ∧ k < 62 ∧ mVal τ_69 u ∧ mKb τ_69 (sp_kb (sp_lev w kb p) u (sp_cut kb p) (some p)) ∧ sp_le (sp_lev w kb p) u := by
            rcases g3 with ⟨a1, a2, a3, a4⟩ | ⟨k, u, B, a1, a2, a3⟩
            · rw [a2] at c_72; cases c_72
            · exact ⟨k, u, B, a1, a3⟩
          have hs2 := (hs.tr (u3.mn (by decide) (by decide))).tr (g1.mn (fs' := [33, 34]) (js' := [27, 28, 29]) (by decide) (by decide))
          have hlen2 : τ_69.1 32 = nI its.length := by rw [hs2.1 32 (by decide)]; exact hlen
          have hD2 : τ_69.1 34 = nI D := by rw [g1.1 34 (by decide), u3.1 34 (by decide)]; exact h34
          have h332 : τ_69.1 33 = 1 := by rw [g1.1 33 (by decide), u3.1 33 (by decide)]; exact h33
          have e4 : ∀ (i k : Nat), i < p → ks[i]? = some k → τ_69.2.1 27 i = nI k := fun i k hi e => by rw [g2 i (by omega), u3.2.1 27 (by decide)]; exact hks i k hi e
          obtain ⟨s1, s2, s3, s4, s5⟩ := sp_take_snoc (k := k) hh.2.2.2.1
          obtain ⟨o1, o2, o3, o4⟩ := hh.okS a1 a7
          refine rv_iload_n hX dX4_nextMatch_81 rfl ?_
          refine rv_aload_n hX dX4_nextMatch_82 rfl ?_
          refine mv_gi hX (k := 32) gX4_158_X4 (by decide) rfl dX4_nextMatch_83 ?_
          rw [hlen2]
          refine nv_iconst hX (m := 1) (by decide) dX4_nextMatch_86 ?_
          first | refine nv_isub hX (by omega) dX4_nextMatch_87 ?_ | refine rv_isub hX dX4_nextMatch_87 ?_
          first | refine nv_icmp_ne hX 101 (by omega) (by omega) dX4_nextMatch_88 (by decide) (fun c_88 => ?_) (fun c_88 => ?_) | refine rv_icmp_ne hX 101 dX4_nextMatch_88 (by decide) (fun c_88 => ?_) (fun c_88 => ?_)
          · skip
            first | refine nv_iinc hX (m := 1) dX4_nextMatch_101 rfl (by decide) (rv_st_1 rfl) ?_ | refine rv_iinc hX dX4_nextMatch_101 rfl rfl (rv_st_1 rfl) ?_
            refine rv_aload_n hX dX4_nextMatch_104 rfl ?_
            refine rv_aload_n hX dX4_nextMatch_105 rfl ?_
            refine mv_gi hX (k := 34) gX4_165_X4 (by decide) rfl dX4_nextMatch_106 ?_
            rw [hD2]
            refine rv_iload_n hX dX4_nextMatch_109 rfl ?_
            first | refine nv_icmp_ge hX 117 (by omega) (by omega) dX4_nextMatch_110 (by decide) (fun c_110 => ?_) (fun c_110 => ?_) | refine rv_icmp_ge hX 117 dX4_nextMatch_110 (by decide) (fun c_110 => ?_) (fun c_110 => ?_)
            · skip
              refine rv_aload_n hX dX4_nextMatch_117 rfl ?_
              refine mv_gi hX (k := 34) gX4_165_X4 (by decide) rfl dX4_nextMatch_118 ?_
              first
                | rw [hD2]
                | skip
              refine mv_pi hX (k := 34) pX4_165_X4 (by decide) rfl rfl rfl dX4_nextMatch_121 ?_
              refine rv_aload_n hX dX4_nextMatch_124 rfl ?_
              refine mv_ga hX (k := 36) (j := 27) gX4_88_X4 (by decide) rfl (by decide) dX4_nextMatch_125 ?_
              refine rv_iload_n hX dX4_nextMatch_128 rfl ?_
              refine rv_iconst hX (v := -1) dX4_nextMatch_129 (by decide) ?_
              refine mv_st hX (j := 27) (by decide) (by decide) rfl (by decide) (show _ < 6 by omega) dX4_nextMatch_130 ?_
              refine rv_goto hX 58 dX4_nextMatch_131 (by decide) ?_
              have hs6 := hh.step a1 a7 a4 (show p + 1 < its.length by omega) hl6
              have hN : ∀ x, rv_same [34] [27] τ_69 (rv_sU (rv_sF τ_69 34 x) 27 (p + 1) (-1)) := fun x => (rv_same.f (by decide)).tr (.u (by decide))
              refine ih (p + 1) none u _ (ks.take p ++ [k]) (Nat.max D (p + 1)) _ hs6.1 (by omega) (a5.same (hN _) (by decide)) (a6.same (hN _) (by decide)) (fun i j hi e => ?_) ?_ ?_ ?_ (hs2.tr ((hN _).mn (by decide) (by decide)))
              · rw [rv_sU_2, if_neg (by omega), rv_sF_2]
                by_cases q : i = p
                · subst q
                  rw [s2] at e
                  cases e
                  exact a3
                · rw [s3 i (by omega)] at e
                  exact e4 i j (by omega) e
              · rw [rv_sU_2, if_pos ⟨rfl, rfl⟩]; rfl
              · rw [rv_sU_1, rv_sF_1, if_neg (by decide)]; exact h332
              · rw [rv_sU_1, rv_sF_1, if_pos rfl]
                have e : Nat.max D (p + 1) = max D (p + 1) := rfl
                rw [e]
                congr 1
                omega
            · skip
              refine rv_iload_n hX dX4_nextMatch_113 rfl ?_
              refine rv_goto hX 121 dX4_nextMatch_114 (by decide) ?_
              first
                | rw [hD2]
                | skip
              refine mv_pi hX (k := 34) pX4_165_X4 (by decide) rfl rfl rfl dX4_nextMatch_121 ?_
              refine rv_aload_n hX dX4_nextMatch_124 rfl ?_
              refine mv_ga hX (k := 36) (j := 27) gX4_88_X4 (by decide) rfl (by decide) dX4_nextMatch_125 ?_
              refine rv_iload_n hX dX4_nextMatch_128 rfl ?_
              refine rv_iconst hX (v := -1) dX4_nextMatch_129 (by decide) ?_
              refine mv_st hX (j := 27) (by decide) (by decide) rfl (by decide) (show _ < 6 by omega) dX4_nextMatch_130 ?_
              refine rv_goto hX 58 dX4_nextMatch_131 (by decide) ?_
              have hs6 := hh.step a1 a7 a4 (show p + 1 < its.length by omega) hl6
              have hN : ∀ x, rv_same [34] [27] τ_69 (rv_sU (rv_sF τ_69 34 x) 27 (p + 1) (-1)) := fun x => (rv_same.f (by decide)).tr (.u (by decide))
              refine ih (p + 1) none u _ (ks.take p ++ [k]) (Nat.max D (p + 1)) _ hs6.1 (by omega) (a5.same (hN _) (by decide)) (a6.same (hN _) (by decide)) (fun i j hi e => ?_) ?_ ?_ ?_ (hs2.tr ((hN _).mn (by decide) (by decide)))
              · rw [rv_sU_2, if_neg (by omega), rv_sF_2]
                by_cases q : i = p
                · subst q
                  rw [s2] at e
                  cases e
                  exact a3
                · rw [s3 i (by omega)] at e
                  exact e4 i j (by omega) e
              · rw [rv_sU_2, if_pos ⟨rfl, rfl⟩]; rfl
              · rw [rv_sU_1, rv_sF_1, if_neg (by decide)]; exact h332
              · rw [rv_sU_1, rv_sF_1, if_pos rfl]
                have e : Nat.max D (p + 1) = max D (p + 1) := rfl
                rw [e]
                congr 1
                omega
          · skip
            refine rv_aload_n hX dX4_nextMatch_91 rfl ?_
            refine rv_aload_n hX dX4_nextMatch_92 rfl ?_
            refine mv_gi hX (k := 32) gX4_158_X4 (by decide) rfl dX4_nextMatch_93 ?_
            rw [hlen2]
            refine mv_pi hX (k := 34) pX4_165_X4 (by decide) rfl rfl rfl dX4_nextMatch_96 ?_
            refine nv_iconst hX (m := 1) (by decide) dX4_nextMatch_99 ?_
            refine mv_retz hX hE (b := true) rfl dX4_nextMatch_100 ?_
            have hlp : its.length = p + 1 := by omega
            have hN : rv_same [34] [] τ_69 (rv_sF τ_69 34 (nI its.length)) := .f (by decide)
            have hT := hh.last a1 a7 hlp
            refine ⟨hs2.tr (hN.mn (by decide) (by decide)), fun ks' w' T e => ⟨rfl, ?_⟩, fun e => (by rw [hT] at e; cases e), fun _ e => (by cases e)⟩
            rw [hT] at e
            simp only [List.cons.injEq, Prod.mk.injEq] at e
            obtain ⟨⟨rfl, rfl⟩, rfl⟩ := e
            refine ⟨_, its.length, a5.same hN (by decide), a6.same hN (by decide), by rw [rv_sF_1, if_neg (by decide)]; exact h332, by rw [rv_sF_1, if_pos rfl], hl6, by rw [s1, hlp], o2, fun x l e => by rw [hlp]; exact o3 x l e, fun i j e => ?_, fun i hi => ?_, rfl⟩
            · by_cases q : i = p
              · subst q
                rw [s2] at e
                cases e
                exact ⟨a3, a4⟩
              · have hi : i < (ks.take p ++ [k]).length := (List.getElem?_eq_some_iff.mp e).1
                rw [s3 i (by omega)] at e
                exact ⟨e4 i j (by omega) e, hh.2.2.2.2.1 i j (by omega) e⟩
            · rw [o1 i (by omega)]
              exact hh.2.2.2.2.2.2.1 i (by omega)
        · skip
          refine rv_iinc hX dX4_nextMatch_75 rfl rfl (rv_st_1 rfl) ?_
          refine rv_goto hX 58 dX4_nextMatch_78 (by decide) ?_
          obtain ⟨a1, a3, a4⟩ : sp_left F (its.getD p (0, 0, [])) (sp_lev w kb p) t = [] ∧ mVal τ_69 (sp_lev w kb p) ∧ mKb τ_69 (sp_cut kb p) := by
            rcases g3 with ⟨a1, a2, a3, a4⟩ | ⟨k, u, B, a1, a2, _⟩
            · exact ⟨a1, a3, a4⟩
            · rw [a2] at c_72; cases c_72
          have hs2 := (hs.tr (u3.mn (by decide) (by decide))).tr (g1.mn (fs' := [33, 34]) (js' := [27, 28, 29]) (by decide) (by decide))
          have hD2 : τ_69.1 34 = nI D := by rw [g1.1 34 (by decide), u3.1 34 (by decide)]; exact h34
          have h332 : τ_69.1 33 = 1 := by rw [g1.1 33 (by decide), u3.1 33 (by decide)]; exact h33
          cases p with
          | zero =>
            obtain ⟨e1, e2⟩ := hh.fail0 a1
            exact fin τ_69 D hs2 e1 hD2 e2
          | succ q =>
            obtain ⟨e1, e2⟩ := hh.fail a1
            have e4 : ∀ (i k : Nat), i < q + 1 → ks[i]? = some k → τ_69.2.1 27 i = nI k := fun i k hi e => by rw [g2 i (by omega), u3.2.1 27 (by decide)]; exact hks i k hi e
            have e3 : nI (q + 1) + (-1) = nI q := by rw [show nI (q + 1) = nI q + 1 from (nI_add q 1).symm, Int32.add_assoc]; exact Int32.add_zero _
            rw [show (Int32.ofInt (-1)) = (-1 : Int32) from rfl, e3]
            refine ih q (some (ks.getD q 0)) _ _ ks D τ_69 e1 (by omega) a3 a4 (fun i k hi e => e4 i k (by omega) e) ?_ h332 hD2 hs2
            have hq : q < ks.length := by have := hh.2.2.2.1; omega
            have e5 : ks[q]? = some ks[q] := List.getElem?_eq_getElem hq
            rw [sp_getD e5]
            exact e4 q _ (by omega) e5
  have hb17 := hc.2.2.2.2.1
  rcases hr with ⟨v, ⟨f1, f2, f3, f4, f5⟩, f6, f7⟩ | ⟨f0, ks, w, kb, D, a1, a2, a3, a4, a5, a6, a7, a8, a9, a10, a11⟩
  · have hN : rv_same [33] [27] σ (rv_sF (rv_sU σ 27 0 (-1)) 33 (nI 1)) := (rv_same.u (by decide)).tr (.f (by decide))
    refine rv_aload_n hX dX4_nextMatch_0 rfl ?_
    refine mv_gi hX (k := 33) gX4_161_X4 (by decide) rfl dX4_nextMatch_1 ?_
    rw [f3]
    first | refine zv_if_eq hX 16 dX4_nextMatch_4 (by decide) (fun c_4 => ?_) (fun c_4 => ?_) | refine nv_if_eq hX 16 (by omega) dX4_nextMatch_4 (by decide) (fun c_4 => ?_) (fun c_4 => ?_) | refine rv_if_eq hX 16 dX4_nextMatch_4 (by decide) (fun c_4 => ?_) (fun c_4 => ?_)
    · skip
      refine nv_iconst hX (m := 0) (by decide) dX4_nextMatch_16 ?_
      refine rv_istore_n hX dX4_nextMatch_17 (rv_st_1 rfl) ?_
      refine rv_aload_n hX dX4_nextMatch_18 rfl ?_
      refine mv_gi hX (k := 33) gX4_161_X4 (by decide) rfl dX4_nextMatch_19 ?_
      rw [f3]
      first | refine zv_if_ne hX 35 dX4_nextMatch_22 (by decide) (fun c_22 => ?_) (fun c_22 => ?_) | refine nv_if_ne hX 35 (by omega) dX4_nextMatch_22 (by decide) (fun c_22 => ?_) (fun c_22 => ?_) | refine rv_if_ne hX 35 dX4_nextMatch_22 (by decide) (fun c_22 => ?_) (fun c_22 => ?_)
      · skip
        exact absurd rfl c_22
        --done
      · skip
        refine rv_aload_n hX dX4_nextMatch_25 rfl ?_
        refine mv_ga hX (k := 36) (j := 27) gX4_88_X4 (by decide) rfl (by decide) dX4_nextMatch_26 ?_
        refine nv_iconst hX (m := 0) (by decide) dX4_nextMatch_29 ?_
        refine rv_iconst hX (v := -1) dX4_nextMatch_30 (by decide) ?_
        refine mv_st hX (j := 27) (by decide) (by decide) rfl (by decide) (show _ < 6 by omega) dX4_nextMatch_31 ?_
        refine rv_goto hX 44 dX4_nextMatch_32 (by decide) ?_
        refine rv_aload_n hX dX4_nextMatch_44 rfl ?_
        refine nv_iconst hX (m := 1) (by decide) dX4_nextMatch_45 ?_
        refine mv_pi hX (k := 33) pX4_161_X4 (by decide) rfl rfl rfl dX4_nextMatch_46 ?_
        refine rv_aload_n hX dX4_nextMatch_49 rfl ?_
        refine mv_gi hX (k := 32) gX4_158_X4 (by decide) rfl dX4_nextMatch_50 ?_
        rw [hN.1 32 (by decide), hlen]
        first | refine zv_if_ne hX 58 dX4_nextMatch_53 (by decide) (fun c_53 => ?_) (fun c_53 => ?_) | refine nv_if_ne hX 58 (by omega) dX4_nextMatch_53 (by decide) (fun c_53 => ?_) (fun c_53 => ?_) | refine rv_if_ne hX 58 dX4_nextMatch_53 (by decide) (fun c_53 => ?_) (fun c_53 => ?_)
        · skip
          refine loop _ 0 none v (fun _ => none) [] 0 _ (sp_hd.fresh c_53 f5 f6 f7) (Nat.lt_succ_self _) (f1.same hN (by decide)) (f2.same hN (by decide)) (fun i k h => absurd h (by omega)) ?_ ?_ ?_ (hN.mn (by decide) (by decide))
          · rw [rv_sF_2, rv_sU_2, if_pos ⟨rfl, rfl⟩]; rfl
          · rw [rv_sF_1, if_pos rfl]; rfl
          · rw [rv_sF_1, if_neg (by decide), rv_sU_1, f4]; rfl
        · skip
          refine nv_iconst hX (m := 1) (by decide) dX4_nextMatch_56 ?_
          refine mv_retz hX hE (b := true) rfl dX4_nextMatch_57 ?_
          have h0 : its = [] := List.eq_nil_of_length_eq_zero c_53
          subst h0
          refine ⟨hN.mn (by decide) (by decide), fun ks w T e => ⟨rfl, ?_⟩, fun e => (by rw [f6] at e; cases e), fun _ e => (by cases e)⟩
          rw [f6] at e
          have e2 : (([] : List Nat), v) :: ([] : List (List Nat × sp_V)) = (ks, w) :: T := e
          simp only [List.cons.injEq, Prod.mk.injEq] at e2
          obtain ⟨⟨rfl, rfl⟩, rfl⟩ := e2
          exact ⟨fun _ => none, 0, f1.same hN (by decide), f2.same hN (by decide), by rw [rv_sF_1, if_pos rfl]; rfl, by rw [rv_sF_1, if_neg (by decide), rv_sU_1, f4]; rfl, by decide, rfl, fun _ _ => rfl, fun _ _ e => (by cases e), fun i k e => (by simp at e), fun i hi => absurd hi (by simp), rfl⟩
    · skip
      exact absurd rfl c_4
      --done
  · have hN : rv_same [33] [] σ (rv_sF σ 33 (nI 1)) := .f (by decide)
    have back0 : its.length = 0 → ∀ x, rv_V X (rv_mh Hb o σ) 18 [some (.ref o), some (.int x)] [] := by
      intro h0 x
      refine rv_aload_n hX dX4_nextMatch_18 rfl ?_
      refine mv_gi hX (k := 33) gX4_161_X4 (by decide) rfl dX4_nextMatch_19 ?_
      rw [a3]
      first | refine zv_if_ne hX 35 dX4_nextMatch_22 (by decide) (fun c_22 => ?_) (fun c_22 => ?_) | refine nv_if_ne hX 35 (by omega) dX4_nextMatch_22 (by decide) (fun c_22 => ?_) (fun c_22 => ?_) | refine rv_if_ne hX 35 dX4_nextMatch_22 (by decide) (fun c_22 => ?_) (fun c_22 => ?_)
      · skip
        refine rv_aload_n hX dX4_nextMatch_35 rfl ?_
        refine mv_gi hX (k := 32) gX4_158_X4 (by decide) rfl dX4_nextMatch_36 ?_
        rw [hlen]
        first | refine zv_if_ne hX 44 dX4_nextMatch_39 (by decide) (fun c_39 => ?_) (fun c_39 => ?_) | refine nv_if_ne hX 44 (by omega) dX4_nextMatch_39 (by decide) (fun c_39 => ?_) (fun c_39 => ?_) | refine rv_if_ne hX 44 dX4_nextMatch_39 (by decide) (fun c_39 => ?_) (fun c_39 => ?_)
        · skip
          exact absurd c_39 (by omega)
        · skip
          refine nv_iconst hX (m := 0) (by decide) dX4_nextMatch_42 ?_
          refine mv_retz hX hE (b := false) rfl dX4_nextMatch_43 ?_
          have h0 : its = [] := List.eq_nil_of_length_eq_zero h0
          subst h0
          have e0 : todo = [] := a11
          exact ⟨.rf, fun ks w T e => (by rw [e0] at e; cases e), fun _ => rfl, fun e => (by rw [f0] at e; cases e)⟩
      · skip
        exact absurd c_22 (by decide)
        --done
    have back : 0 < its.length → rv_V X (rv_mh Hb o σ) 18 [some (.ref o), some (.int (nI (its.length - 1)))] [] := by
      intro h0
      refine rv_aload_n hX dX4_nextMatch_18 rfl ?_
      refine mv_gi hX (k := 33) gX4_161_X4 (by decide) rfl dX4_nextMatch_19 ?_
      rw [a3]
      first | refine zv_if_ne hX 35 dX4_nextMatch_22 (by decide) (fun c_22 => ?_) (fun c_22 => ?_) | refine nv_if_ne hX 35 (by omega) dX4_nextMatch_22 (by decide) (fun c_22 => ?_) (fun c_22 => ?_) | refine rv_if_ne hX 35 dX4_nextMatch_22 (by decide) (fun c_22 => ?_) (fun c_22 => ?_)
      · skip
        refine rv_aload_n hX dX4_nextMatch_35 rfl ?_
        refine mv_gi hX (k := 32) gX4_158_X4 (by decide) rfl dX4_nextMatch_36 ?_
        rw [hlen]
        first | refine zv_if_ne hX 44 dX4_nextMatch_39 (by decide) (fun c_39 => ?_) (fun c_39 => ?_) | refine nv_if_ne hX 44 (by omega) dX4_nextMatch_39 (by decide) (fun c_39 => ?_) (fun c_39 => ?_) | refine rv_if_ne hX 44 dX4_nextMatch_39 (by decide) (fun c_39 => ?_) (fun c_39 => ?_)
        · skip
          refine rv_aload_n hX dX4_nextMatch_44 rfl ?_
          refine nv_iconst hX (m := 1) (by decide) dX4_nextMatch_45 ?_
          refine mv_pi hX (k := 33) pX4_161_X4 (by decide) rfl rfl rfl dX4_nextMatch_46 ?_
          refine rv_aload_n hX dX4_nextMatch_49 rfl ?_
          refine mv_gi hX (k := 32) gX4_158_X4 (by decide) rfl dX4_nextMatch_50 ?_
          rw [hN.1 32 (by decide), hlen]
          first | refine zv_if_ne hX 58 dX4_nextMatch_53 (by decide) (fun c_53 => ?_) (fun c_53 => ?_) | refine nv_if_ne hX 58 (by omega) dX4_nextMatch_53 (by decide) (fun c_53 => ?_) (fun c_53 => ?_) | refine rv_if_ne hX 58 dX4_nextMatch_53 (by decide) (fun c_53 => ?_) (fun c_53 => ?_)
          · skip
            have e5 : ks[its.length - 1]? = some (ks.getD (its.length - 1) 0) := by
              rw [List.getD_eq_getElem?_getD, List.getElem?_eq_getElem (show its.length - 1 < ks.length by omega)]; rfl
            refine loop _ (its.length - 1) (some (ks.getD (its.length - 1) 0)) w kb ks D _ ?_ (Nat.lt_succ_self _) (a1.same hN (by decide)) (a2.same hN (by decide)) (fun i k hi e => by rw [rv_sF_2]; exact (a9 i k e).1) (by rw [rv_sF_2]; exact (a9 _ _ e5).1) (by rw [rv_sF_1, if_pos rfl]; rfl) (by rw [rv_sF_1, if_neg (by decide)]; exact a4) (hN.mn (by decide) (by decide))
            refine ⟨by omega, a7, fun x l e => (by have := a8 x l e; omega), by omega, fun i k hi e => (a9 i k e).2, fun k e => (by cases e; exact (a9 _ _ e5).2), fun i hi => a10 i (by omega), a5, ?_, fun e => (by rw [f0] at e; cases e)⟩
            rw [a11]
            obtain ⟨q, hq⟩ : ∃ q, its.length = q + 1 := ⟨its.length - 1, by omega⟩
            rw [hq]
            rfl
          · skip
            exact absurd c_53 (by omega)
            --done
        · skip
          exact absurd c_39 (by omega)
          --done
      · skip
        exact absurd c_22 (by decide)
        --done
    refine rv_aload_n hX dX4_nextMatch_0 rfl ?_
    refine mv_gi hX (k := 33) gX4_161_X4 (by decide) rfl dX4_nextMatch_1 ?_
    rw [a3]
    first | refine zv_if_eq hX 16 dX4_nextMatch_4 (by decide) (fun c_4 => ?_) (fun c_4 => ?_) | refine nv_if_eq hX 16 (by omega) dX4_nextMatch_4 (by decide) (fun c_4 => ?_) (fun c_4 => ?_) | refine rv_if_eq hX 16 dX4_nextMatch_4 (by decide) (fun c_4 => ?_) (fun c_4 => ?_)
    · skip
      exact absurd c_4 (by decide)
      --done
    · skip
      refine rv_aload_n hX dX4_nextMatch_7 rfl ?_
      refine mv_gi hX (k := 32) gX4_158_X4 (by decide) rfl dX4_nextMatch_8 ?_
      rw [hlen]
      refine nv_iconst hX (m := 1) (by decide) dX4_nextMatch_11 ?_
      by_cases h0 : its.length = 0
      · refine rv_isub hX dX4_nextMatch_12 ?_
        refine rv_goto hX 17 dX4_nextMatch_13 (by decide) ?_
        refine rv_istore_n hX dX4_nextMatch_17 (rv_st_1 rfl) ?_
        exact back0 h0 _
      · refine nv_isub hX (by omega) dX4_nextMatch_12 ?_
        refine rv_goto hX 17 dX4_nextMatch_13 (by decide) ?_
        refine rv_istore_n hX dX4_nextMatch_17 (rv_st_1 rfl) ?_
        exact back (by omega)
theorem mC_mono {G : rv_G} {d : Nat} {y : MethodName} {cw : Cond} {as : List Value} {σ : rv_S} {P P' : Option Value → rv_S → Prop} (hC : mC G d y cw as σ P) (hq : ∀ v τ, P v τ → P' v τ) : mC G d y cw as σ P' := fun hb o => (hC hb o).mono (fun _ _ ⟨v, τ, e1, e2, e3⟩ => ⟨v, τ, e1, e2, hq v τ e3⟩)
theorem mPz_mono {P P' : Bool → rv_S → Prop} (h : ∀ r τ, P r τ → P' r τ) : ∀ v τ, mPz P v τ → mPz P' v τ := fun _ τ ⟨r, e, g⟩ => ⟨r, e, h r τ g⟩
theorem mPi_mono {P P' : Int32 → rv_S → Prop} (h : ∀ r τ, P r τ → P' r τ) : ∀ v τ, mPi P v τ → mPi P' v τ := fun _ τ ⟨r, e, g⟩ => ⟨r, e, h r τ g⟩
theorem m_nextMatch {G : rv_G} (hG : rv_GK G) {d : Nat} (hd : 5 ≤ d) {σ : rv_S} {S F : List Nat} {b : Nat} {ord : Nat → Nat} {its : List sp_I} {todo : List (List Nat × sp_V)} (hc : mCfg σ S F b ord its) (hr : mRun σ F its todo) : mC G d yX4_nextMatch wX4_nextMatch [] σ (mPz (fun r τ => rv_same [33, 34] [27, 28, 29] σ τ ∧ (∀ ks w T, todo = (ks, w) :: T → r = true ∧ mAt τ F its ks w T) ∧ (todo = [] → r = false))) := by
  have hr' : mRunR σ F its todo false 0 := by
    rcases hr with ⟨v, h1, h2⟩ | ⟨ks, w, h⟩
    · exact Or.inl ⟨v, h1, h2, fun e => (by cases e)⟩
    · exact Or.inr ⟨rfl, ks, w, h⟩
  exact mC_mono (m_nextMatchR hG hd hc hr') (mPz_mono (fun r τ h => ⟨h.1, h.2.1, h.2.2.1⟩))
