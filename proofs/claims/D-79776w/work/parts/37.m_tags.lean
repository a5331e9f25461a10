/-! THE REFERENCE: tags; strata that fit -/
set_option maxRecDepth 100000
theorem sp_own_lst {st : Nat → Nat} {C : sp_C} {it : sp_I} (h : it ∈ C.its) : sp_own st C it ≤ sp_lst st C := by
  unfold sp_lst
  generalize C.its = l at h
  have mono : ∀ (l : List sp_I) (a b : Nat), a ≤ b → a ≤ l.foldl (fun m it => if m < sp_own st C it then sp_own st C it else m) b := by
    intro l
    induction l with
    | nil => intro a b h; exact h
    | cons x l ih =>
      intro a b h
      rw [List.foldl_cons]
      refine ih _ _ ?_
      split <;> omega
  have : ∀ (l : List sp_I) (a : Nat), it ∈ l → sp_own st C it ≤ l.foldl (fun m it => if m < sp_own st C it then sp_own st C it else m) a := by
    intro l
    induction l with
    | nil => intro a h; cases h
    | cons x l ih =>
      intro a h
      rw [List.foldl_cons]
      rcases List.mem_cons.mp h with rfl | h
      · refine mono l _ _ ?_
        split <;> omega
      · exact ih _ h
  exact this l 0 h
theorem sp_strata_fit {R : List sp_C} {st : Nat → Nat} (h : sp_strata R = some st) : ∀ C, C ∈ R → sp_fit st C := by
  have r1 : ∀ (cs : List sp_C) (a b : Nat → Nat), sp_srnd cs a true ≠ some (b, false) := by
    intro cs
    induction cs with
    | nil => intro a b e; cases e
    | cons C cs ih =>
      intro a b e
      have e' : (if 8 ≤ sp_lst a C then none else if a C.rel < sp_lst a C then sp_srnd cs (sp_put a C.rel (sp_lst a C)) true else sp_srnd cs a true) = some (b, false) := e
      split at e'
      · cases e'
      · split at e'
        · exact ih _ _ e'
        · exact ih _ _ e'
  have r2 : ∀ (cs : List sp_C) (a b : Nat → Nat), sp_srnd cs a false = some (b, false) → b = a ∧ ∀ C, C ∈ cs → sp_lst a C ≤ a C.rel := by
    intro cs
    induction cs with
    | nil => intro a b e; cases e; exact ⟨rfl, fun C hC => by cases hC⟩
    | cons C cs ih =>
      intro a b e
      have e' : (if 8 ≤ sp_lst a C then none else if a C.rel < sp_lst a C then sp_srnd cs (sp_put a C.rel (sp_lst a C)) true else sp_srnd cs a false) = some (b, false) := e
      split at e'
      · cases e'
      · split at e'
        · exact absurd e' (r1 _ _ _)
        · rename_i q
          obtain ⟨i1, i2⟩ := ih a b e'
          refine ⟨i1, fun D hD => ?_⟩
          rcases List.mem_cons.mp hD with rfl | hD
          · omega
          · exact i2 D hD
  have r3 : ∀ (n : Nat) (a : Nat → Nat), sp_strt n R a = some st → ∀ C, C ∈ R → sp_lst st C ≤ st C.rel := by
    intro n
    induction n with
    | zero => intro a e; cases e
    | succ n ih =>
      intro a e
      have e' : (match sp_srnd R a false with
        | none => none
        | some (st', ch) => if ch = true then sp_strt n R st' else some st') = some st := e
      cases hq : sp_srnd R a false with
      | none => rw [hq] at e'; cases e'
      | some p =>
        obtain ⟨b, ch⟩ := p
        rw [hq] at e'
        have e2 : (if ch = true then sp_strt n R b else some b) = some st := e'
        cases ch with
        | true => rw [if_pos rfl] at e2; exact ih b e2
        | false =>
          rw [if_neg (by decide)] at e2
          cases e2
          obtain ⟨i1, i2⟩ := r2 R a st hq
          rw [i1]
          exact i2
  intro C hC it hit h1
  have h2 := r3 57 _ h C hC
  have h3 := sp_own_lst (st := st) hit
  unfold sp_own at h3
  rw [if_neg (by omega)] at h3
  omega
/-- the tag that a fact had, 0 for none -/
def sp_tgk (Fo To : List Nat) (f : Nat) : Nat → Nat
  | 0 => 0
  | j + 1 => if Fo.getD j 0 = f then To.getD j 0 else sp_tgk Fo To f j
def sp_tg (Fo To : List Nat) (f : Nat) : Nat := sp_tgk Fo To f Fo.length
def sp_gtags (Fo To : List Nat) : Nat → List Nat → List Nat
  | _, [] => []
  | g, f :: fs => if sp_tg Fo To f = 0 then (g + 1) :: sp_gtags Fo To (g + 1) fs else sp_tg Fo To f :: sp_gtags Fo To g fs
def sp_gnew (Fo To : List Nat) : Nat → List Nat → Nat
  | g, [] => g
  | g, f :: fs => if sp_tg Fo To f = 0 then sp_gnew Fo To (g + 1) fs else sp_gnew Fo To g fs
theorem sp_gtags_len (Fo To : List Nat) : ∀ (F : List Nat) (g : Nat), (sp_gtags Fo To g F).length = F.length := by
  intro F
  induction F with
  | nil => intro g; rfl
  | cons f F ih =>
    intro g
    show (if sp_tg Fo To f = 0 then (g + 1) :: sp_gtags Fo To (g + 1) F else sp_tg Fo To f :: sp_gtags Fo To g F).length = _
    split <;> simp [ih]
def mTags (σ : rv_S) (T : List Nat) : Prop := ∀ (k t : Nat), T[k]? = some t → σ.2.1 16 k = nI t
theorem m_giveTags {G : rv_G} (hG : rv_GK G) {d : Nat} {σ : rv_S} {F Fo To : List Nat} {g : Nat} (hF : mFacts σ F) (hF60 : F.length ≤ 60) (hFo60 : Fo.length ≤ 60) (hl : To.length = Fo.length) (h23 : ∀ (k f : Nat), Fo[k]? = some f → σ.2.1 23 k = nI f ∧ f < 8000000) (h24 : ∀ (k t : Nat), To[k]? = some t → σ.2.1 24 k = nI t) (ht : ∀ t, t ∈ To → t ≤ g) (hg : σ.2.1 1 7 = nI g) (hg2 : g ≤ 1000000) : mC G d yX4_giveTags wX4_giveTags [.int (nI Fo.length)] σ (mPv (fun τ => rv_same [] [1, 16] σ τ ∧ (∀ i, i ≠ 7 → τ.2.1 1 i = σ.2.1 1 i) ∧ τ.2.1 1 7 = nI (sp_gnew Fo To g F) ∧ mTags τ (sp_gtags Fo To g F))) := by
  refine mv_start hG (by decide +kernel) (Nat.le_of_ble_eq_true rfl) (fun X Hb o hX1 hX hE => ?_)
  subst hX1
  show rv_V X (rv_mh Hb o _) 0 [some (.ref o), some (.int (nI Fo.length)), none, none, none] []
  have hle : ∀ f j, sp_tgk Fo To f j ≤ g := by
    intro f j
    induction j with
    | zero => exact Nat.zero_le _
    | succ j ih =>
      show (if Fo.getD j 0 = f then To.getD j 0 else sp_tgk Fo To f j) ≤ g
      split
      · rw [List.getD_eq_getElem?_getD]
        cases e : To[j]? with
        | none => exact Nat.zero_le _
        | some t => exact ht t (List.mem_of_getElem? e)
      · exact ih
  have outer : ∀ (n k gk : Nat) (dn : List Nat) (τ : rv_S) (x y : Option Value), k ≤ F.length → F.length - k < n → dn.length = k → gk ≤ g + k → sp_gtags Fo To g F = dn ++ sp_gtags Fo To gk (F.drop k) → sp_gnew Fo To g F = sp_gnew Fo To gk (F.drop k) → rv_same [] [1, 16] σ τ → (∀ i, i ≠ 7 → τ.2.1 1 i = σ.2.1 1 i) → τ.2.1 1 7 = nI gk → (∀ (i t : Nat), dn[i]? = some t → τ.2.1 16 i = nI t) → rv_V X (rv_mh Hb o τ) 2 [some (.ref o), some (.int (nI Fo.length)), some (.int (nI k)), x, y] [] := by
    intro n
    induction n with
    | zero => intro k gk dn τ x y h1 h2; omega
    | succ n ih =>
      intro k gk dn τ x y h1 h2 hdn hgk h3 h4 h5 h6 h7 h8
      have hat6 : τ.2.1 1 6 = nI F.length := by rw [h6 6 (by decide)]; exact hF.1
      refine rv_iload_n hX dX4_giveTags_2 rfl ?_
      refine rv_aload_n hX dX4_giveTags_3 rfl ?_
      refine mv_ga hX (k := 1) (j := 1) gX4_7_X4 (by decide) rfl (by decide) dX4_giveTags_4 ?_
      refine nv_bipush hX (m := 6) (by decide) dX4_giveTags_7 ?_
      refine mv_ld hX (j := 1) (by decide) (by decide) rfl (by decide) (show _ < 11 by omega) dX4_giveTags_9 ?_
      rw [hat6]
      first | refine nv_icmp_ge hX 104 (by omega) (by omega) dX4_giveTags_10 (by decide) (fun c_10 => ?_) (fun c_10 => ?_) | refine rv_icmp_ge hX 104 dX4_giveTags_10 (by decide) (fun c_10 => ?_) (fun c_10 => ?_)
      · skip
        refine mv_retv hX hE dX4_giveTags_104 ?_
        have hk : k = F.length := by omega
        rw [hk, List.drop_length] at h3 h4
        have h3' : sp_gtags Fo To g F = dn ++ [] := h3
        rw [List.append_nil] at h3'
        have h4' : sp_gnew Fo To g F = gk := h4
        exact ⟨h5, h6, by rw [h4']; exact h7, by rw [h3']; exact h8⟩
      · skip
        obtain ⟨f, hf⟩ : ∃ f, F[k]? = some f := ⟨F[k], List.getElem?_eq_getElem (by omega)⟩
        have hf8 := hF.2.2.1 f (List.mem_of_getElem? hf)
        have hfk : τ.2.1 15 k = nI f := by rw [h5.2.1 15 (by decide)]; exact hF.2.2.2 k f hf
        refine nv_iconst hX (m := 0) (by decide) dX4_giveTags_13 ?_
        refine rv_istore_n hX dX4_giveTags_14 (rv_st_3 rfl) ?_
        refine nv_iconst hX (m := 0) (by decide) dX4_giveTags_15 ?_
        refine rv_istore hX dX4_giveTags_16 (rv_st_4 rfl) ?_
        have inner : ∀ (m j : Nat), j ≤ Fo.length → Fo.length - j < m → rv_V X (rv_mh Hb o τ) 18 [some (.ref o), some (.int (nI Fo.length)), some (.int (nI k)), some (.int (nI (sp_tgk Fo To f j))), some (.int (nI j))] [] := by
          intro m
          induction m with
          | zero => intro j i1 i2; omega
          | succ m ihm =>
            intro j i1 i2
            have hlej := hle f j
            by_cases hjl : j = Fo.length
            · rw [hjl]
              have hlet := hle f Fo.length
              rw [sp_drop_get hf] at h3 h4
              have h3' : sp_gtags Fo To g F = dn ++ (if sp_tg Fo To f = 0 then (gk + 1) :: sp_gtags Fo To (gk + 1) (F.drop (k + 1)) else sp_tg Fo To f :: sp_gtags Fo To gk (F.drop (k + 1))) := h3
              have h4' : sp_gnew Fo To g F = if sp_tg Fo To f = 0 then sp_gnew Fo To (gk + 1) (F.drop (k + 1)) else sp_gnew Fo To gk (F.drop (k + 1)) := h4
              have htg : sp_tg Fo To f = sp_tgk Fo To f Fo.length := rfl
              rw [htg] at h3' h4'
              have hnew : ∀ (v gk' : Nat) (i t : Nat), (dn ++ [v])[i]? = some t → (rv_sU (rv_sU τ 1 7 (nI gk')) 16 k (nI v)).2.1 16 i = nI t := by
                intro v gk' i t e
                rw [rv_sU_2]
                by_cases q : i = k
                · subst q
                  rw [← hdn, List.getElem?_append_right (Nat.le_refl _), Nat.sub_self] at e
                  cases e
                  rw [if_pos ⟨rfl, rfl⟩]
                · rw [if_neg (by omega), rv_sU_2, if_neg (by omega)]
                  have hi : i < dn.length := by
                    have h9 := (List.getElem?_eq_some_iff.mp e).1
                    rw [List.length_append] at h9
                    have h10 : i < dn.length + 1 := h9
                    omega
                  rw [List.getElem?_append_left hi] at e
                  exact h8 i t e
              refine rv_iload hX dX4_giveTags_18 rfl ?_
              refine rv_iload_n hX dX4_giveTags_20 rfl ?_
              first | refine nv_icmp_ge hX 58 (by omega) (by omega) dX4_giveTags_21 (by decide) (fun c_21 => ?_) (fun c_21 => ?_) | refine rv_icmp_ge hX 58 dX4_giveTags_21 (by decide) (fun c_21 => ?_) (fun c_21 => ?_)
              · skip
                refine rv_aload_n hX dX4_giveTags_58 rfl ?_
                refine mv_ga hX (k := 1) (j := 1) gX4_7_X4 (by decide) rfl (by decide) dX4_giveTags_59 ?_
                refine nv_bipush hX (m := 7) (by decide) dX4_giveTags_62 ?_
                refine rv_dup2 hX dX4_giveTags_64 rfl rfl ?_
                refine mv_ld hX (j := 1) (by decide) (by decide) rfl (by decide) (show _ < 11 by omega) dX4_giveTags_65 ?_
                rw [h7]
                refine rv_iload_n hX dX4_giveTags_66 rfl ?_
                first | refine zv_if_ne hX 74 dX4_giveTags_67 (by decide) (fun c_67 => ?_) (fun c_67 => ?_) | refine nv_if_ne hX 74 (by omega) dX4_giveTags_67 (by decide) (fun c_67 => ?_) (fun c_67 => ?_) | refine rv_if_ne hX 74 dX4_giveTags_67 (by decide) (fun c_67 => ?_) (fun c_67 => ?_)
                · skip
                  refine nv_iconst hX (m := 0) (by decide) dX4_giveTags_74 ?_
                  first | refine nv_iadd hX dX4_giveTags_75 ?_ | refine rv_iadd hX dX4_giveTags_75 ?_
                  refine mv_st hX (j := 1) (by decide) (by decide) rfl (by decide) (show _ < 11 by omega) dX4_giveTags_76 ?_
                  refine rv_aload_n hX dX4_giveTags_77 rfl ?_
                  refine mv_ga hX (k := 16) (j := 16) gX4_55_X4 (by decide) rfl (by decide) dX4_giveTags_78 ?_
                  refine rv_iload_n hX dX4_giveTags_81 rfl ?_
                  refine rv_iload_n hX dX4_giveTags_82 rfl ?_
                  first | refine zv_if_ne hX 96 dX4_giveTags_83 (by decide) (fun c_83 => ?_) (fun c_83 => ?_) | refine nv_if_ne hX 96 (by omega) dX4_giveTags_83 (by decide) (fun c_83 => ?_) (fun c_83 => ?_) | refine rv_if_ne hX 96 dX4_giveTags_83 (by decide) (fun c_83 => ?_) (fun c_83 => ?_)
                  · skip
                    refine rv_iload_n hX dX4_giveTags_96 rfl ?_
                    refine mv_st hX (j := 16) (by decide) (by decide) rfl (by decide) (show _ < 62 by omega) dX4_giveTags_97 ?_
                    first | refine nv_iinc hX (m := 1) dX4_giveTags_98 rfl (by decide) (rv_st_2 rfl) ?_ | refine rv_iinc hX dX4_giveTags_98 rfl rfl (rv_st_2 rfl) ?_
                    refine rv_goto hX 2 dX4_giveTags_101 (by decide) ?_
                    first
                      | (exfalso; omega)
                      | (rw [if_pos (by omega)] at h3' h4'
                         refine ih (k + 1) (gk + 1) (dn ++ [gk + 1]) _ _ _ (by omega) (by omega) (by rw [List.length_append, hdn]; rfl) (by omega) (by rw [h3', List.append_assoc]; rfl) h4' (h5.tr ((rv_same.u (by decide)).tr (.u (by decide)))) (fun i hi => ?_) ?_ (hnew _ _)
                         · rw [rv_sU_2, if_neg (by omega), rv_sU_2, if_neg (by omega)]
                           exact h6 i hi
                         · rw [rv_sU_2, if_neg (by omega), rv_sU_2, if_pos ⟨rfl, rfl⟩])
                      | (rw [if_neg (by omega)] at h3' h4'
                         refine ih (k + 1) gk (dn ++ [sp_tgk Fo To f Fo.length]) _ _ _ (by omega) (by omega) (by rw [List.length_append, hdn]; rfl) (by omega) (by rw [h3', List.append_assoc]; rfl) h4' (h5.tr ((rv_same.u (by decide)).tr (.u (by decide)))) (fun i hi => ?_) ?_ (hnew _ _)
                         · rw [rv_sU_2, if_neg (by omega), rv_sU_2, if_neg (by omega)]
                           exact h6 i hi
                         · rw [rv_sU_2, if_neg (by omega), rv_sU_2, if_pos ⟨rfl, rfl⟩]
                           rfl)
                  · skip
                    refine rv_aload_n hX dX4_giveTags_86 rfl ?_
                    refine mv_ga hX (k := 1) (j := 1) gX4_7_X4 (by decide) rfl (by decide) dX4_giveTags_87 ?_
                    refine nv_bipush hX (m := 7) (by decide) dX4_giveTags_90 ?_
                    refine mv_ld hX (j := 1) (by decide) (by decide) rfl (by decide) (show _ < 11 by omega) dX4_giveTags_92 ?_
                    rw [rv_sU_2, if_pos ⟨rfl, rfl⟩]
                    refine rv_goto hX 97 dX4_giveTags_93 (by decide) ?_
                    refine mv_st hX (j := 16) (by decide) (by decide) rfl (by decide) (show _ < 62 by omega) dX4_giveTags_97 ?_
                    first | refine nv_iinc hX (m := 1) dX4_giveTags_98 rfl (by decide) (rv_st_2 rfl) ?_ | refine rv_iinc hX dX4_giveTags_98 rfl rfl (rv_st_2 rfl) ?_
                    refine rv_goto hX 2 dX4_giveTags_101 (by decide) ?_
                    first
                      | (exfalso; omega)
                      | (rw [if_pos (by omega)] at h3' h4'
                         refine ih (k + 1) (gk + 1) (dn ++ [gk + 1]) _ _ _ (by omega) (by omega) (by rw [List.length_append, hdn]; rfl) (by omega) (by rw [h3', List.append_assoc]; rfl) h4' (h5.tr ((rv_same.u (by decide)).tr (.u (by decide)))) (fun i hi => ?_) ?_ (hnew _ _)
                         · rw [rv_sU_2, if_neg (by omega), rv_sU_2, if_neg (by omega)]
                           exact h6 i hi
                         · rw [rv_sU_2, if_neg (by omega), rv_sU_2, if_pos ⟨rfl, rfl⟩])
                      | (rw [if_neg (by omega)] at h3' h4'
                         refine ih (k + 1) gk (dn ++ [sp_tgk Fo To f Fo.length]) _ _ _ (by omega) (by omega) (by rw [List.length_append, hdn]; rfl) (by omega) (by rw [h3', List.append_assoc]; rfl) h4' (h5.tr ((rv_same.u (by decide)).tr (.u (by decide)))) (fun i hi => ?_) ?_ (hnew _ _)
                         · rw [rv_sU_2, if_neg (by omega), rv_sU_2, if_neg (by omega)]
                           exact h6 i hi
                         · rw [rv_sU_2, if_neg (by omega), rv_sU_2, if_pos ⟨rfl, rfl⟩]
                           rfl)
                · skip
                  refine nv_iconst hX (m := 1) (by decide) dX4_giveTags_70 ?_
                  refine rv_goto hX 75 dX4_giveTags_71 (by decide) ?_
                  first | refine nv_iadd hX dX4_giveTags_75 ?_ | refine rv_iadd hX dX4_giveTags_75 ?_
                  refine mv_st hX (j := 1) (by decide) (by decide) rfl (by decide) (show _ < 11 by omega) dX4_giveTags_76 ?_
                  refine rv_aload_n hX dX4_giveTags_77 rfl ?_
                  refine mv_ga hX (k := 16) (j := 16) gX4_55_X4 (by decide) rfl (by decide) dX4_giveTags_78 ?_
                  refine rv_iload_n hX dX4_giveTags_81 rfl ?_
                  refine rv_iload_n hX dX4_giveTags_82 rfl ?_
                  first | refine zv_if_ne hX 96 dX4_giveTags_83 (by decide) (fun c_83 => ?_) (fun c_83 => ?_) | refine nv_if_ne hX 96 (by omega) dX4_giveTags_83 (by decide) (fun c_83 => ?_) (fun c_83 => ?_) | refine rv_if_ne hX 96 dX4_giveTags_83 (by decide) (fun c_83 => ?_) (fun c_83 => ?_)
                  · skip
                    refine rv_iload_n hX dX4_giveTags_96 rfl ?_
                    refine mv_st hX (j := 16) (by decide) (by decide) rfl (by decide) (show _ < 62 by omega) dX4_giveTags_97 ?_
                    first | refine nv_iinc hX (m := 1) dX4_giveTags_98 rfl (by decide) (rv_st_2 rfl) ?_ | refine rv_iinc hX dX4_giveTags_98 rfl rfl (rv_st_2 rfl) ?_
                    refine rv_goto hX 2 dX4_giveTags_101 (by decide) ?_
                    first
                      | (exfalso; omega)
                      | (rw [if_pos (by omega)] at h3' h4'
                         refine ih (k + 1) (gk + 1) (dn ++ [gk + 1]) _ _ _ (by omega) (by omega) (by rw [List.length_append, hdn]; rfl) (by omega) (by rw [h3', List.append_assoc]; rfl) h4' (h5.tr ((rv_same.u (by decide)).tr (.u (by decide)))) (fun i hi => ?_) ?_ (hnew _ _)
                         · rw [rv_sU_2, if_neg (by omega), rv_sU_2, if_neg (by omega)]
                           exact h6 i hi
                         · rw [rv_sU_2, if_neg (by omega), rv_sU_2, if_pos ⟨rfl, rfl⟩])
                      | (rw [if_neg (by omega)] at h3' h4'
                         refine ih (k + 1) gk (dn ++ [sp_tgk Fo To f Fo.length]) _ _ _ (by omega) (by omega) (by rw [List.length_append, hdn]; rfl) (by omega) (by rw [h3', List.append_assoc]; rfl) h4' (h5.tr ((rv_same.u (by decide)).tr (.u (by decide)))) (fun i hi => ?_) ?_ (hnew _ _)
                         · rw [rv_sU_2, if_neg (by omega), rv_sU_2, if_neg (by omega)]
                           exact h6 i hi
                         · rw [rv_sU_2, if_neg (by omega), rv_sU_2, if_pos ⟨rfl, rfl⟩]
                           rfl)
                  · skip
                    refine rv_aload_n hX dX4_giveTags_86 rfl ?_
                    refine mv_ga hX (k := 1) (j := 1) gX4_7_X4 (by decide) rfl (by decide) dX4_giveTags_87 ?_
                    refine nv_bipush hX (m := 7) (by decide) dX4_giveTags_90 ?_
                    refine mv_ld hX (j := 1) (by decide) (by decide) rfl (by decide) (show _ < 11 by omega) dX4_giveTags_92 ?_
                    rw [rv_sU_2, if_pos ⟨rfl, rfl⟩]
                    refine rv_goto hX 97 dX4_giveTags_93 (by decide) ?_
                    refine mv_st hX (j := 16) (by decide) (by decide) rfl (by decide) (show _ < 62 by omega) dX4_giveTags_97 ?_
                    first | refine nv_iinc hX (m := 1) dX4_giveTags_98 rfl (by decide) (rv_st_2 rfl) ?_ | refine rv_iinc hX dX4_giveTags_98 rfl rfl (rv_st_2 rfl) ?_
                    refine rv_goto hX 2 dX4_giveTags_101 (by decide) ?_
                    first
                      | (exfalso; omega)
                      | (rw [if_pos (by omega)] at h3' h4'
                         refine ih (k + 1) (gk + 1) (dn ++ [gk + 1]) _ _ _ (by omega) (by omega) (by rw [List.length_append, hdn]; rfl) (by omega) (by rw [h3', List.append_assoc]; rfl) h4' (h5.tr ((rv_same.u (by decide)).tr (.u (by decide)))) (fun i hi => ?_) ?_ (hnew _ _)
                         · rw [rv_sU_2, if_neg (by omega), rv_sU_2, if_neg (by omega)]
                           exact h6 i hi
                         · rw [rv_sU_2, if_neg (by omega), rv_sU_2, if_pos ⟨rfl, rfl⟩])
                      | (rw [if_neg (by omega)] at h3' h4'
                         refine ih (k + 1) gk (dn ++ [sp_tgk Fo To f Fo.length]) _ _ _ (by omega) (by omega) (by rw [List.length_append, hdn]; rfl) (by omega) (by rw [h3', List.append_assoc]; rfl) h4' (h5.tr ((rv_same.u (by decide)).tr (.u (by decide)))) (fun i hi => ?_) ?_ (hnew _ _)
                         · rw [rv_sU_2, if_neg (by omega), rv_sU_2, if_neg (by omega)]
                           exact h6 i hi
                         · rw [rv_sU_2, if_neg (by omega), rv_sU_2, if_pos ⟨rfl, rfl⟩]
                           rfl)
              · skip
                exact absurd c_21 (by omega)
                --done
            · obtain ⟨fo, hfo⟩ : ∃ f, Fo[j]? = some f := ⟨Fo[j], List.getElem?_eq_getElem (by omega)⟩
              obtain ⟨to, hto⟩ : ∃ t, To[j]? = some t := ⟨To[j]'(by omega), List.getElem?_eq_getElem (by omega)⟩
              obtain ⟨hfo1, hfo2⟩ := h23 j fo hfo
              have hst : sp_tgk Fo To f (j + 1) = if fo = f then to else sp_tgk Fo To f j := by
                show (if Fo.getD j 0 = f then To.getD j 0 else sp_tgk Fo To f j) = _
                rw [sp_getD hfo, sp_getD hto]
              have h9 := ihm (j + 1) (by omega) (by omega)
              refine rv_iload hX dX4_giveTags_18 rfl ?_
              refine rv_iload_n hX dX4_giveTags_20 rfl ?_
              first | refine nv_icmp_ge hX 58 (by omega) (by omega) dX4_giveTags_21 (by decide) (fun c_21 => ?_) (fun c_21 => ?_) | refine rv_icmp_ge hX 58 dX4_giveTags_21 (by decide) (fun c_21 => ?_) (fun c_21 => ?_)
              · skip
                exact absurd c_21 (by omega)
                --done
              · skip
                refine rv_aload_n hX dX4_giveTags_24 rfl ?_
                refine mv_ga hX (k := 26) (j := 23) gX4_76_X4 (by decide) rfl (by decide) dX4_giveTags_25 ?_
                refine rv_iload hX dX4_giveTags_28 rfl ?_
                refine mv_ld hX (j := 23) (by decide) (by decide) rfl (by decide) (show _ < 62 by omega) dX4_giveTags_30 ?_
                rw [h5.2.1 23 (by decide), hfo1]
                refine rv_aload_n hX dX4_giveTags_31 rfl ?_
                refine mv_ga hX (k := 15) (j := 15) gX4_52_X4 (by decide) rfl (by decide) dX4_giveTags_32 ?_
                refine rv_iload_n hX dX4_giveTags_35 rfl ?_
                refine mv_ld hX (j := 15) (by decide) (by decide) rfl (by decide) (show _ < 62 by omega) dX4_giveTags_36 ?_
                rw [hfk]
                first | refine nv_icmp_ne hX 50 (by omega) (by omega) dX4_giveTags_37 (by decide) (fun c_37 => ?_) (fun c_37 => ?_) | refine rv_icmp_ne hX 50 dX4_giveTags_37 (by decide) (fun c_37 => ?_) (fun c_37 => ?_)
                · skip
                  refine rv_iload_n hX dX4_giveTags_50 rfl ?_
                  refine rv_istore_n hX dX4_giveTags_51 (rv_st_3 rfl) ?_
                  first | refine nv_iinc hX (m := 1) dX4_giveTags_52 rfl (by decide) (rv_st_4 rfl) ?_ | refine rv_iinc hX dX4_giveTags_52 rfl rfl (rv_st_4 rfl) ?_
                  refine rv_goto hX 18 dX4_giveTags_55 (by decide) ?_
                  first
                    | (rw [hst, if_pos c_37] at h9; exact h9)
                    | (rw [hst, if_neg c_37] at h9; exact h9)
                · skip
                  refine rv_aload_n hX dX4_giveTags_40 rfl ?_
                  refine mv_ga hX (k := 27) (j := 24) gX4_79_X4 (by decide) rfl (by decide) dX4_giveTags_41 ?_
                  refine rv_iload hX dX4_giveTags_44 rfl ?_
                  refine mv_ld hX (j := 24) (by decide) (by decide) rfl (by decide) (show _ < 62 by omega) dX4_giveTags_46 ?_
                  rw [h5.2.1 24 (by decide), h24 j to hto]
                  refine rv_goto hX 51 dX4_giveTags_47 (by decide) ?_
                  refine rv_istore_n hX dX4_giveTags_51 (rv_st_3 rfl) ?_
                  first | refine nv_iinc hX (m := 1) dX4_giveTags_52 rfl (by decide) (rv_st_4 rfl) ?_ | refine rv_iinc hX dX4_giveTags_52 rfl rfl (rv_st_4 rfl) ?_
                  refine rv_goto hX 18 dX4_giveTags_55 (by decide) ?_
                  first
                    | (rw [hst, if_pos c_37] at h9; exact h9)
                    | (rw [hst, if_neg c_37] at h9; exact h9)
        exact inner _ 0 (Nat.zero_le _) (Nat.lt_succ_self _)
  refine nv_iconst hX (m := 0) (by decide) dX4_giveTags_0 ?_
  refine rv_istore_n hX dX4_giveTags_1 (rv_st_2 rfl) ?_
  exact outer _ 0 g [] σ none none (Nat.zero_le _) (Nat.lt_succ_self _) rfl (by omega) rfl rfl .rf (fun _ _ => rfl) hg (fun i t e => by cases e)
