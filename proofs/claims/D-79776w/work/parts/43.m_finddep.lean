/-! THE REFERENCE: all depths -/
set_option maxRecDepth 100000
def sp_sumd (dep : Nat → Nat) : Nat → Nat
  | 0 => 0
  | n + 1 => sp_sumd dep n + dep n
theorem sp_sumd_le {a b : Nat → Nat} (h : ∀ i, a i ≤ b i) (n : Nat) : sp_sumd a n ≤ sp_sumd b n := by
  induction n with
  | zero => exact Nat.le_refl _
  | succ n ih => have := h n; show sp_sumd a n + a n ≤ sp_sumd b n + b n; omega
theorem sp_sumd_lt {a b : Nat → Nat} (h : ∀ i, a i ≤ b i) {n i : Nat} (hi : i < n) (hl : a i < b i) : sp_sumd a n < sp_sumd b n := by
  induction n with
  | zero => omega
  | succ n ih =>
    have := h n
    show sp_sumd a n + a n < sp_sumd b n + b n
    by_cases e : i = n
    · subst e
      have := sp_sumd_le h i
      omega
    · have := ih (by omega)
      omega
theorem sp_mxd_le2 {dep : Nat → Nat} {n : Nat} {l : List Nat} (h : ∀ k, k ∈ l → dep k ≤ n) : sp_mxd dep l ≤ n := by
  unfold sp_mxd
  have : ∀ (l : List Nat) (a : Nat), a ≤ n → (∀ k, k ∈ l → dep k ≤ n) → l.foldl (fun m k => if m < dep k then dep k else m) a ≤ n := by
    intro l
    induction l with
    | nil => intro a h _; exact h
    | cons x l ih =>
      intro a ha hl
      rw [List.foldl_cons]
      refine ih _ ?_ (fun k hk => hl k (List.mem_cons_of_mem _ hk))
      split
      · exact hl x List.mem_cons_self
      · exact ha
  exact this l 0 (Nat.zero_le _) h
theorem sp_gd_le2 {dep : Nat → Nat} {its : List sp_I} {n : Nat} {l : List sp_Q} (h : ∀ q, q ∈ l → sp_mxd dep (sp_atk its q.1) ≤ n) : sp_gd dep its l ≤ n := by
  unfold sp_gd
  have : ∀ (l : List sp_Q) (a : Nat), a ≤ n → (∀ q, q ∈ l → sp_mxd dep (sp_atk its q.1) ≤ n) → l.foldl (fun m q => if m < sp_mxd dep (sp_atk its q.1) then sp_mxd dep (sp_atk its q.1) else m) a ≤ n := by
    intro l
    induction l with
    | nil => intro a h _; exact h
    | cons x l ih =>
      intro a ha hl
      rw [List.foldl_cons]
      refine ih _ ?_ (fun k hk => hl k (List.mem_cons_of_mem _ hk))
      split
      · exact hl x List.mem_cons_self
      · exact ha
  exact this l 0 (Nat.zero_le _) h
/-- these are the depths -/
def sp_isd (R : List sp_C) (F T : List Nat) (dep : Nat → Nat) : Prop := ∀ i f, F[i]? = some f → (dep i < 1000000 → sp_D R F T (dep i) f) ∧ ∀ n, sp_D R F T n f → dep i ≤ n
theorem sp_isd_of {R : List sp_C} {F T : List Nat} {dep : Nat → Nat} (h1 : sp_dsnd R F T dep) (h2 : ∀ i f, F[i]? = some f → f ∈ T → dep i = 0) (h3 : ∀ C, C ∈ R → sp_dst F C dep) : sp_isd R F T dep := by
  intro i f hi
  refine ⟨fun h => h1 i f hi h, fun n hn => ?_⟩
  induction n generalizing i f with
  | zero => rw [h2 i f hi hn]; exact Nat.le_refl _
  | succ n ih =>
    rcases hn with hn | ⟨C, hC, hn⟩
    · have := ih i f hi hn
      omega
    · have hget : ∀ (q : sp_Q), q ∈ sp_m F C.its (fun _ => none) → ∀ k, k ∈ sp_atk C.its q.1 → F[k]? = some (F.getD k 0) := fun q hq k hk => by
        have hkl := sp_m_ks hq k hk
        rw [List.getD_eq_getElem?_getD, List.getElem?_eq_getElem hkl]
        rfl
      rcases hn with ⟨hg, q, hq, hk, hp⟩ | ⟨hg, key, hkey, hk, hp⟩
      · have hst := (h3 C hC).1 hg q hq i (by rw [hk]; exact hi)
        have := sp_mxd_le2 (dep := dep) (n := n) (l := sp_atk C.its q.1) (fun k hk2 => ih k _ (hget q hq k hk2) (hp k hk2))
        omega
      · have hst := (h3 C hC).2 hg key hkey i (by rw [hk]; exact hi)
        have := sp_gd_le2 (dep := dep) (its := C.its) (n := n) (l := sp_grp C (sp_m F C.its (fun _ => none)) key) (fun q hq => sp_mxd_le2 (fun k hk2 => ih k _ (hget q (List.mem_filter.mp hq).1 k hk2) (hp q hq k hk2)))
        omega
theorem sp_li.trans {R : List sp_C} {F T : List Nat} {a b c : Nat → Nat} {r s : Bool} (h1 : sp_li R F T a b r) (h2 : sp_li R F T b c s) : sp_li R F T a c (s || r) := by
  obtain ⟨a1, a2, a3, a4⟩ := h1
  obtain ⟨b1, b2, b3, b4⟩ := h2
  refine ⟨fun i => Nat.le_trans (b1 i) (a1 i), fun h => b2 (a2 h), fun e => ?_, fun e => ?_⟩
  · rw [Bool.or_eq_true] at e
    rcases e with e | e
    · obtain ⟨i, hi, hl⟩ := b3 e
      exact ⟨i, hi, Nat.lt_of_lt_of_le hl (a1 i)⟩
    · obtain ⟨i, hi, hl⟩ := a3 e
      exact ⟨i, hi, Nat.lt_of_le_of_lt (b1 i) hl⟩
  · rw [Bool.or_eq_false_iff] at e
    rw [b4 e.1, a4 e.2]
theorem m_findDepths {G : rv_G} (hG : rv_GK G) {d : Nat} (hd : 8 ≤ d) {σ : rv_S} {S F : List Nat} {T : List (Nat × Nat)} {R : List sp_C} {dep0 : Nat → Nat} (hR : mRules σ S R) (hF : mFacts σ F) (hsr : sp_srt F) (h60 : F.length ≤ 60) (hT : mTl σ T) (hcl : ∀ C, C ∈ R → ∀ f, f ∈ sp_give F C → f ∈ F) (hdp : mDep σ dep0) : mC G d yX4_findDepths wX4_findDepths [] σ (mPv (fun τ => rv_same [31, 32, 33, 34, 39] [26, 27, 28, 29, 30, 31, 32, 33, 34, 35] σ τ ∧ ∃ dep, mDep τ dep ∧ sp_isd R F (T.map (fun p => p.1)) dep)) := by
  refine mv_start hG (by decide +kernel) (Nat.le_of_ble_eq_true rfl) (fun X Hb o hX1 hX hE => ?_)
  subst hX1
  show rv_V X (rv_mh Hb o _) 0 [some (.ref o), none, none] []
  have hR10 := hR.2.2.1
  have passes : ∀ (n : Nat) (τ : rv_S) (dep : Nat → Nat) (x : Option Value), sp_sumd dep F.length < n → rv_same [31, 32, 33, 34, 39] [26, 27, 28, 29, 30, 31, 32, 33, 34, 35] σ τ → mDep τ dep → sp_dsnd R F (T.map (fun p => p.1)) dep → (∀ i f, F[i]? = some f → f ∈ T.map (fun p => p.1) → dep i = 0) → rv_V X (rv_mh Hb o τ) 47 [some (.ref o), some (.int (rv_z true)), x] [] := by
    intro n
    induction n with
    | zero => intro τ dep x h; omega
    | succ n ih =>
      intro τ dep x hn hsm hdc hsn hz
      have rules : ∀ (m j : Nat) (υ : rv_S) (cur : Nat → Nat) (b : Bool), j ≤ R.length → R.length - j < m → rv_same [31, 32, 33, 34, 39] [26, 27, 28, 29, 30, 31, 32, 33, 34, 35] σ υ → mDep υ cur → sp_li R F (T.map (fun p => p.1)) dep cur b → (b = false → ∀ C, C ∈ R.take j → sp_dst F C dep) → rv_V X (rv_mh Hb o υ) 55 [some (.ref o), some (.int (rv_z b)), some (.int (nI j))] [] := by
        intro m
        induction m with
        | zero => intro j υ cur b h1 h2; omega
        | succ m ihm =>
          intro j υ cur b h1 h2 h3 h4 h5 h6
          have hRv := hR.same h3 (by decide)
          refine rv_iload_n hX dX4_findDepths_55 rfl ?_
          refine rv_aload_n hX dX4_findDepths_56 rfl ?_
          refine mv_ga hX (k := 1) (j := 1) gX4_7_X4 (by decide) rfl (by decide) dX4_findDepths_57 ?_
          refine nv_iconst hX (m := 1) (by decide) dX4_findDepths_60 ?_
          refine mv_ld hX (j := 1) (by decide) (by decide) rfl (by decide) (show _ < 11 by omega) dX4_findDepths_61 ?_
          rw [hRv.2.1]
          first | refine nv_icmp_ge hX 89 (by omega) (by omega) dX4_findDepths_62 (by decide) (fun c_62 => ?_) (fun c_62 => ?_) | refine rv_icmp_ge hX 89 dX4_findDepths_62 (by decide) (fun c_62 => ?_) (fun c_62 => ?_)
          · skip
            refine rv_goto hX 47 dX4_findDepths_89 (by decide) ?_
            have hj : j = R.length := by omega
            cases b with
            | true =>
              obtain ⟨i, hi, hl⟩ := h5.2.2.1 rfl
              have := sp_sumd_lt h5.1 hi hl
              exact ih υ cur _ (by omega) h3 h4 (h5.2.1 hsn) (fun i f e1 e2 => by have := h5.1 i; have := hz i f e1 e2; omega)
            | false =>
              have hce := h5.2.2.2 rfl
              subst hce
              have hall := h6 rfl
              rw [hj, List.take_length] at hall
              refine rv_iload_n hX dX4_findDepths_47 rfl ?_
              first | refine zv_if_eq hX 92 dX4_findDepths_48 (by decide) (fun c_48 => ?_) (fun c_48 => ?_) | refine nv_if_eq hX 92 (by omega) dX4_findDepths_48 (by decide) (fun c_48 => ?_) (fun c_48 => ?_) | refine rv_if_eq hX 92 dX4_findDepths_48 (by decide) (fun c_48 => ?_) (fun c_48 => ?_)
              · skip
                refine mv_retv hX hE dX4_findDepths_92 ?_
                exact ⟨h3, cur, h4, sp_isd_of hsn hz hall⟩
              · skip
                cases c_48
                --done
          · skip
            obtain ⟨C, hC⟩ : ∃ C, R[j]? = some C := ⟨R[j], List.getElem?_eq_getElem (by omega)⟩
            obtain ⟨hB, hw⟩ := hRv.2.2.2 j C hC
            have hCm := List.mem_of_getElem? hC
            refine rv_aload_n hX dX4_findDepths_65 rfl ?_
            refine rv_iload_n hX dX4_findDepths_66 rfl ?_
            refine mv_callz hX iX4_335 rfl mdX4_lowerBy (m_lowerBy hG (d := d - 1) (T := T.map (fun p => p.1)) (by omega) ⟨hRv.1, hF.same h3 (by decide) (by decide), hB, hw, by omega⟩ hCm hsr h60 (hcl C hCm) h4) (by omega) rfl rfl (Nat.le_of_ble_eq_true rfl) dX4_findDepths_67 (fun r_67 τ_67 h_67 => ?_)
            obtain ⟨w1, c2, w2, w3, w4⟩ := h_67
            first | refine zv_if_ne hX 77 dX4_findDepths_70 (by decide) (fun c_70 => ?_) (fun c_70 => ?_) | refine nv_if_ne hX 77 (by omega) dX4_findDepths_70 (by decide) (fun c_70 => ?_) (fun c_70 => ?_) | refine rv_if_ne hX 77 dX4_findDepths_70 (by decide) (fun c_70 => ?_) (fun c_70 => ?_)
            · skip
              refine nv_iconst hX (m := 1) (by decide) dX4_findDepths_77 ?_
              refine rv_goto hX 82 dX4_findDepths_78 (by decide) ?_
              refine rv_istore_n hX dX4_findDepths_82 (rv_st_1 rfl) ?_
              first | refine nv_iinc hX (m := 1) dX4_findDepths_83 rfl (by decide) (rv_st_2 rfl) ?_ | refine rv_iinc hX dX4_findDepths_83 rfl rfl (rv_st_2 rfl) ?_
              refine rv_goto hX 55 dX4_findDepths_86 (by decide) ?_
              have hli := h5.trans w3
              have hst : (r_67 || b) = false → ∀ D, D ∈ R.take (j + 1) → sp_dst F D dep := by
                intro e D hD
                rw [Bool.or_eq_false_iff] at e
                rw [sp_take_get hC] at hD
                rcases List.mem_append.mp hD with hD | hD
                · exact h6 e.2 D hD
                · rw [List.mem_singleton.mp hD, ← h5.2.2.2 e.2]
                  exact w4 e.1
              have h9 := fun b' => ihm (j + 1) τ_67 c2 b' (by omega) (by omega) (h3.tr w1) w2
              first
                | (rw [c_70, Bool.true_or] at hli hst; exact h9 true hli hst)
                | (rw [c_70, c_74, Bool.or_self] at hli hst; exact h9 false hli hst)
                | (rw [c_70, c_74, Bool.false_or] at hli hst; exact h9 true hli hst)
            · skip
              refine rv_iload_n hX dX4_findDepths_73 rfl ?_
              first | refine zv_if_eq hX 81 dX4_findDepths_74 (by decide) (fun c_74 => ?_) (fun c_74 => ?_) | refine nv_if_eq hX 81 (by omega) dX4_findDepths_74 (by decide) (fun c_74 => ?_) (fun c_74 => ?_) | refine rv_if_eq hX 81 dX4_findDepths_74 (by decide) (fun c_74 => ?_) (fun c_74 => ?_)
              · skip
                refine nv_iconst hX (m := 0) (by decide) dX4_findDepths_81 ?_
                refine rv_istore_n hX dX4_findDepths_82 (rv_st_1 rfl) ?_
                first | refine nv_iinc hX (m := 1) dX4_findDepths_83 rfl (by decide) (rv_st_2 rfl) ?_ | refine rv_iinc hX dX4_findDepths_83 rfl rfl (rv_st_2 rfl) ?_
                refine rv_goto hX 55 dX4_findDepths_86 (by decide) ?_
                have hli := h5.trans w3
                have hst : (r_67 || b) = false → ∀ D, D ∈ R.take (j + 1) → sp_dst F D dep := by
                  intro e D hD
                  rw [Bool.or_eq_false_iff] at e
                  rw [sp_take_get hC] at hD
                  rcases List.mem_append.mp hD with hD | hD
                  · exact h6 e.2 D hD
                  · rw [List.mem_singleton.mp hD, ← h5.2.2.2 e.2]
                    exact w4 e.1
                have h9 := fun b' => ihm (j + 1) τ_67 c2 b' (by omega) (by omega) (h3.tr w1) w2
                first
                  | (rw [c_70, Bool.true_or] at hli hst; exact h9 true hli hst)
                  | (rw [c_70, c_74, Bool.or_self] at hli hst; exact h9 false hli hst)
                  | (rw [c_70, c_74, Bool.false_or] at hli hst; exact h9 true hli hst)
              · skip
                refine nv_iconst hX (m := 1) (by decide) dX4_findDepths_77 ?_
                refine rv_goto hX 82 dX4_findDepths_78 (by decide) ?_
                refine rv_istore_n hX dX4_findDepths_82 (rv_st_1 rfl) ?_
                first | refine nv_iinc hX (m := 1) dX4_findDepths_83 rfl (by decide) (rv_st_2 rfl) ?_ | refine rv_iinc hX dX4_findDepths_83 rfl rfl (rv_st_2 rfl) ?_
                refine rv_goto hX 55 dX4_findDepths_86 (by decide) ?_
                have hli := h5.trans w3
                have hst : (r_67 || b) = false → ∀ D, D ∈ R.take (j + 1) → sp_dst F D dep := by
                  intro e D hD
                  rw [Bool.or_eq_false_iff] at e
                  rw [sp_take_get hC] at hD
                  rcases List.mem_append.mp hD with hD | hD
                  · exact h6 e.2 D hD
                  · rw [List.mem_singleton.mp hD, ← h5.2.2.2 e.2]
                    exact w4 e.1
                have h9 := fun b' => ihm (j + 1) τ_67 c2 b' (by omega) (by omega) (h3.tr w1) w2
                first
                  | (rw [c_70, Bool.true_or] at hli hst; exact h9 true hli hst)
                  | (rw [c_70, c_74, Bool.or_self] at hli hst; exact h9 false hli hst)
                  | (rw [c_70, c_74, Bool.false_or] at hli hst; exact h9 true hli hst)
      refine rv_iload_n hX dX4_findDepths_47 rfl ?_
      first | refine zv_if_eq hX 92 dX4_findDepths_48 (by decide) (fun c_48 => ?_) (fun c_48 => ?_) | refine nv_if_eq hX 92 (by omega) dX4_findDepths_48 (by decide) (fun c_48 => ?_) (fun c_48 => ?_) | refine rv_if_eq hX 92 dX4_findDepths_48 (by decide) (fun c_48 => ?_) (fun c_48 => ?_)
      · skip
        cases c_48
        --done
      · skip
        refine nv_iconst hX (m := 0) (by decide) dX4_findDepths_51 ?_
        refine rv_istore_n hX dX4_findDepths_52 (rv_st_1 rfl) ?_
        refine nv_iconst hX (m := 0) (by decide) dX4_findDepths_53 ?_
        refine rv_istore_n hX dX4_findDepths_54 (rv_st_2 rfl) ?_
        exact rules _ 0 τ dep false (Nat.zero_le _) (Nat.lt_succ_self _) hsm hdc .rf (fun _ C hC => by cases hC)
  have init : ∀ (n k : Nat) (τ : rv_S) (dep : Nat → Nat), k ≤ F.length → F.length - k < n → rv_same [31, 32, 33, 34, 39] [26, 27, 28, 29, 30, 31, 32, 33, 34, 35] σ τ → mDep τ dep → (∀ i f, i < k → F[i]? = some f → (f ∈ T.map (fun p => p.1) ∧ dep i = 0) ∨ (f ∉ T.map (fun p => p.1) ∧ dep i = 1000000)) → rv_V X (rv_mh Hb o τ) 2 [some (.ref o), some (.int (nI k)), none] [] := by
    intro n
    induction n with
    | zero => intro k τ dep h1 h2; omega
    | succ n ih =>
      intro k τ dep h1 h2 h3 h4 h5
      have hF2 := hF.same h3 (by decide) (by decide)
      have hT2 := hT.same2 h3 (by rw [h3.2.1 1 (by decide)]) (by decide)
      have hnew : ∀ (v : Nat), v ≤ 1000000 → mDep (rv_sU τ 35 k (nI v)) (fun i => if i = k then v else dep i) := fun v hv => ⟨fun i hi => by
          rw [rv_sU_2]
          show _ = nI (if i = k then v else dep i)
          by_cases e : i = k
          · rw [if_pos ⟨rfl, e⟩, if_pos e]
          · rw [if_neg (fun h => e h.2), if_neg e]
            exact h4.1 i hi, fun i => by
          show (if i = k then v else dep i) ≤ 1000000
          split
          · exact hv
          · exact h4.2 i⟩
      refine rv_iload_n hX dX4_findDepths_2 rfl ?_
      refine rv_aload_n hX dX4_findDepths_3 rfl ?_
      refine mv_ga hX (k := 1) (j := 1) gX4_7_X4 (by decide) rfl (by decide) dX4_findDepths_4 ?_
      refine nv_bipush hX (m := 6) (by decide) dX4_findDepths_7 ?_
      refine mv_ld hX (j := 1) (by decide) (by decide) rfl (by decide) (show _ < 11 by omega) dX4_findDepths_9 ?_
      rw [hF2.1]
      first | refine nv_icmp_ge hX 45 (by omega) (by omega) dX4_findDepths_10 (by decide) (fun c_10 => ?_) (fun c_10 => ?_) | refine rv_icmp_ge hX 45 dX4_findDepths_10 (by decide) (fun c_10 => ?_) (fun c_10 => ?_)
      · skip
        refine nv_iconst hX (m := 1) (by decide) dX4_findDepths_45 ?_
        refine rv_istore_n hX dX4_findDepths_46 (rv_st_1 rfl) ?_
        refine passes _ τ dep none (Nat.lt_succ_self _) h3 h4 (fun i f e hl => ?_) (fun i f e hf => ?_)
        · have := (List.getElem?_eq_some_iff.mp e).1
          rcases h5 i f (by omega) e with ⟨q1, q2⟩ | ⟨q1, q2⟩
          · rw [q2]; exact q1
          · omega
        · have := (List.getElem?_eq_some_iff.mp e).1
          rcases h5 i f (by omega) e with ⟨q1, q2⟩ | ⟨q1, q2⟩
          · exact q2
          · exact absurd hf q1
      · skip
        obtain ⟨f, hf⟩ : ∃ f, F[k]? = some f := ⟨F[k], List.getElem?_eq_getElem (by omega)⟩
        have hf8 := hF.2.2.1 f (List.mem_of_getElem? hf)
        have hfk := hF2.2.2.2 k f hf
        refine rv_aload_n hX dX4_findDepths_13 rfl ?_
        refine mv_ga hX (k := 45) (j := 35) gX4_113_X4 (by decide) rfl (by decide) dX4_findDepths_14 ?_
        refine rv_iload_n hX dX4_findDepths_17 rfl ?_
        refine rv_aload_n hX dX4_findDepths_18 rfl ?_
        refine rv_aload_n hX dX4_findDepths_19 rfl ?_
        refine mv_ga hX (k := 15) (j := 15) gX4_52_X4 (by decide) rfl (by decide) dX4_findDepths_20 ?_
        refine rv_iload_n hX dX4_findDepths_23 rfl ?_
        refine mv_ld hX (j := 15) (by decide) (by decide) rfl (by decide) (show _ < 62 by omega) dX4_findDepths_24 ?_
        rw [hfk]
        refine mv_calli hX iX4_269 rfl mdX4_toldAt (m_toldAt hG (d := d - 1) hT2 hf8) (by omega) rfl rfl (Nat.le_of_ble_eq_true rfl) dX4_findDepths_25 (fun r_25 τ_25 h_25 => ?_)
        obtain ⟨rfl, x, hx, rfl⟩ := h_25
        refine rv_iconst hX (v := -1) dX4_findDepths_28 (by decide) ?_
        first | refine nv_icmp_ne hX 37 (by omega) (by omega) dX4_findDepths_29 (by decide) (fun c_29 => ?_) (fun c_29 => ?_) | refine rv_icmp_ne hX 37 dX4_findDepths_29 (by decide) (fun c_29 => ?_) (fun c_29 => ?_)
        · skip
          refine nv_iconst hX (m := 0) (by decide) dX4_findDepths_37 ?_
          refine mv_st hX (j := 35) (by decide) (by decide) rfl (by decide) (show _ < 62 by omega) dX4_findDepths_38 ?_
          first | refine nv_iinc hX (m := 1) dX4_findDepths_39 rfl (by decide) (rv_st_1 rfl) ?_ | refine rv_iinc hX dX4_findDepths_39 rfl rfl (rv_st_1 rfl) ?_
          refine rv_goto hX 2 dX4_findDepths_42 (by decide) ?_
          have hpt : ∀ v, ((f ∈ T.map (fun p => p.1) ∧ v = 0) ∨ (f ∉ T.map (fun p => p.1) ∧ v = 1000000)) → ∀ i g, i < k + 1 → F[i]? = some g → (g ∈ T.map (fun p => p.1) ∧ (if i = k then v else dep i) = 0) ∨ (g ∉ T.map (fun p => p.1) ∧ (if i = k then v else dep i) = 1000000) := by
            intro v hv i g hi e
            by_cases e2 : i = k
            · subst e2
              rw [hf] at e
              cases e
              rw [if_pos rfl]
              exact hv
            · rw [if_neg e2]
              exact h5 i g (by omega) e
          have hno : x = none → f ∉ T.map (fun p => p.1) := by
            intro e hm
            rcases hx with ⟨_, q⟩ | ⟨j, p, q, _⟩
            · obtain ⟨p, hp, e3⟩ := List.mem_map.mp hm
              obtain ⟨j, hj⟩ := List.getElem?_of_mem hp
              exact q j p hj e3
            · rw [e] at q; cases q
          have hyes : x ≠ none → f ∈ T.map (fun p => p.1) := by
            intro e
            rcases hx with ⟨q, _⟩ | ⟨j, p, _, q2, q3⟩
            · exact absurd q e
            · exact List.mem_map.mpr ⟨p, List.mem_of_getElem? q2, q3⟩
          have hxl : ∀ a, x = some a → a < 2147483648 := by
            intro a e
            rcases hx with ⟨q, _⟩ | ⟨j, p, q1, q2, q3⟩
            · rw [e] at q; cases q
            · rw [e] at q1
              cases q1
              have := (List.getElem?_eq_some_iff.mp q2).1
              have := hT.2.1
              omega
          first
            | exact ih (k + 1) _ _ (by omega) (by omega) (h3.tr (.u (by decide))) (hnew 1000000 (by decide)) (hpt _ (Or.inr ⟨hno ((rv_oi_m1 hxl).mp c_29), rfl⟩))
            | exact ih (k + 1) _ _ (by omega) (by omega) (h3.tr (.u (by decide))) (hnew 0 (by decide)) (hpt _ (Or.inl ⟨hyes (fun e => c_29 ((rv_oi_m1 hxl).mpr e)), rfl⟩))
        · skip
          refine rv_ldc hX q2291 dX4_findDepths_32 ?_
          rw [show (1000000 : Int32) = nI 1000000 from by decide]
          refine rv_goto hX 38 dX4_findDepths_34 (by decide) ?_
          refine mv_st hX (j := 35) (by decide) (by decide) rfl (by decide) (show _ < 62 by omega) dX4_findDepths_38 ?_
          first | refine nv_iinc hX (m := 1) dX4_findDepths_39 rfl (by decide) (rv_st_1 rfl) ?_ | refine rv_iinc hX dX4_findDepths_39 rfl rfl (rv_st_1 rfl) ?_
          refine rv_goto hX 2 dX4_findDepths_42 (by decide) ?_
          have hpt : ∀ v, ((f ∈ T.map (fun p => p.1) ∧ v = 0) ∨ (f ∉ T.map (fun p => p.1) ∧ v = 1000000)) → ∀ i g, i < k + 1 → F[i]? = some g → (g ∈ T.map (fun p => p.1) ∧ (if i = k then v else dep i) = 0) ∨ (g ∉ T.map (fun p => p.1) ∧ (if i = k then v else dep i) = 1000000) := by
            intro v hv i g hi e
            by_cases e2 : i = k
            · subst e2
              rw [hf] at e
              cases e
              rw [if_pos rfl]
              exact hv
            · rw [if_neg e2]
              exact h5 i g (by omega) e
          have hno : x = none → f ∉ T.map (fun p => p.1) := by
            intro e hm
            rcases hx with ⟨_, q⟩ | ⟨j, p, q, _⟩
            · obtain ⟨p, hp, e3⟩ := List.mem_map.mp hm
              obtain ⟨j, hj⟩ := List.getElem?_of_mem hp
              exact q j p hj e3
            · rw [e] at q; cases q
          have hyes : x ≠ none → f ∈ T.map (fun p => p.1) := by
            intro e
            rcases hx with ⟨q, _⟩ | ⟨j, p, _, q2, q3⟩
            · exact absurd q e
            · exact List.mem_map.mpr ⟨p, List.mem_of_getElem? q2, q3⟩
          have hxl : ∀ a, x = some a → a < 2147483648 := by
            intro a e
            rcases hx with ⟨q, _⟩ | ⟨j, p, q1, q2, q3⟩
            · rw [e] at q; cases q
            · rw [e] at q1
              cases q1
              have := (List.getElem?_eq_some_iff.mp q2).1
              have := hT.2.1
              omega
          first
            | exact ih (k + 1) _ _ (by omega) (by omega) (h3.tr (.u (by decide))) (hnew 1000000 (by decide)) (hpt _ (Or.inr ⟨hno ((rv_oi_m1 hxl).mp c_29), rfl⟩))
            | exact ih (k + 1) _ _ (by omega) (by omega) (h3.tr (.u (by decide))) (hnew 0 (by decide)) (hpt _ (Or.inl ⟨hyes (fun e => c_29 ((rv_oi_m1 hxl).mpr e)), rfl⟩))
  refine nv_iconst hX (m := 0) (by decide) dX4_findDepths_0 ?_
  refine rv_istore_n hX dX4_findDepths_1 (rv_st_1 rfl) ?_
  exact init _ 0 σ dep0 (Nat.zero_le _) (Nat.lt_succ_self _) .rf hdp (fun i f hi => absurd hi (by omega))
