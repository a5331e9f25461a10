/-! THE REFERENCE: what facts depend on -/
set_option maxRecDepth 100000
/-- a fact depends on another by a rule -/
def sp_dirC (F : List Nat) (C : sp_C) (k j : Nat) : Prop := (C.gath = none ∧ ∃ q, q ∈ sp_m F C.its (fun _ => none) ∧ F[k]? = some (sp_key C q) ∧ j ∈ sp_atk C.its q.1) ∨ (C.gath ≠ none ∧ ∃ key, key ∈ sp_keys C (sp_m F C.its (fun _ => none)) ∧ F[k]? = some (sp_gfact C (sp_m F C.its (fun _ => none)) key) ∧ sp_gf C.its (sp_grp C (sp_m F C.its (fun _ => none)) key) j = true)
def sp_dir (R : List sp_C) (F : List Nat) (k j : Nat) : Prop := ∃ C, C ∈ R ∧ sp_dirC F C k j
theorem sp_dir_lt {R : List sp_C} {F : List Nat} {k j : Nat} (h : sp_dir R F k j) : k < F.length ∧ j < F.length := by
  obtain ⟨C, hC, h⟩ := h
  rcases h with ⟨_, q, h1, h2, h3⟩ | ⟨_, key, h1, h2, h3⟩
  · exact ⟨(List.getElem?_eq_some_iff.mp h2).1, sp_m_ks h1 j h3⟩
  · refine ⟨(List.getElem?_eq_some_iff.mp h2).1, ?_⟩
    unfold sp_gf at h3
    rw [List.any_eq_true] at h3
    obtain ⟨q, hq, e⟩ := h3
    exact sp_m_ks (List.mem_filter.mp hq).1 j (of_decide_eq_true e)
/-- ways that go over places below b alone -/
def sp_W (D : Nat → Nat → Prop) : Nat → Nat → Nat → Prop
  | 0, k, j => D k j
  | b + 1, k, j => sp_W D b k j ∨ (sp_W D b k b ∧ sp_W D b b j)
theorem sp_W_tr {D : Nat → Nat → Prop} : ∀ {b m k j : Nat}, m < b → sp_W D b k m → sp_W D b m j → sp_W D b k j := by
  intro b
  induction b with
  | zero => intro m k j h; omega
  | succ b ih =>
    intro m k j h h1 h2
    by_cases e : m = b
    · subst e
      have e1 : sp_W D m k m := h1.elim id (fun q => q.1)
      have e2 : sp_W D m m j := h2.elim id (fun q => q.2)
      exact Or.inr ⟨e1, e2⟩
    · have hm : m < b := by omega
      rcases h1 with h1 | ⟨h1, h1'⟩
      · rcases h2 with h2 | ⟨h2, h2'⟩
        · exact Or.inl (ih hm h1 h2)
        · exact Or.inr ⟨ih hm h1 h2, h2'⟩
      · rcases h2 with h2 | ⟨h2, h2'⟩
        · exact Or.inr ⟨h1, ih hm h1' h2⟩
        · exact Or.inr ⟨h1, h2'⟩
theorem sp_W_gen {D : Nat → Nat → Prop} : ∀ {b k j : Nat}, sp_W D b k j → Relation.TransGen D k j := by
  intro b
  induction b with
  | zero => intro k j h; exact Relation.TransGen.single h
  | succ b ih =>
    intro k j h
    rcases h with h | ⟨h1, h2⟩
    · exact ih h
    · exact (ih h1).trans (ih h2)
theorem sp_W_base {D : Nat → Nat → Prop} {k j : Nat} (h : D k j) : ∀ b, sp_W D b k j := by
  intro b
  induction b with
  | zero => exact h
  | succ b ih => exact Or.inl ih
theorem sp_W_iff {D : Nat → Nat → Prop} {n k j : Nat} (hD : ∀ k j, D k j → j < n) : sp_W D n k j ↔ Relation.TransGen D k j := by
  refine ⟨sp_W_gen, fun h => ?_⟩
  have key : sp_W D n k j ∧ j < n := by
    induction h with
    | single h => exact ⟨sp_W_base h n, hD _ _ h⟩
    | tail h1 h2 ih => exact ⟨sp_W_tr ih.2 ih.1 (sp_W_base h2 n), hD _ _ h2⟩
  exact key.1
theorem sp_W_own {D : Nat → Nat → Prop} {b j : Nat} : sp_W D (b + 1) b j ↔ sp_W D b b j := ⟨fun h => h.elim id (fun q => q.2), Or.inl⟩
/-- the rests hold a relation -/
def mRst (σ : rv_S) (n : Nat) (W : Nat → Nat → Prop) : Prop := ∀ k, k < n → ∀ j, lb (σ.2.2 36 k) j = true ↔ W k j
theorem mRst.same {fs js : List Nat} {σ τ : rv_S} {n : Nat} {W : Nat → Nat → Prop} (h : mRst σ n W) (hs : rv_same fs js σ τ) (h1 : 36 ∉ js) : mRst τ n W := fun k hk j => by rw [hs.2.2 36 h1]; exact h k hk j
theorem mRst.or {σ : rv_S} {n k0 : Nat} {W W' : Nat → Nat → Prop} {v : Int64} (h : mRst σ n W) (h1 : ∀ k, k < n → k ≠ k0 → ∀ j, W' k j ↔ W k j) (h2 : ∀ j, (lb (σ.2.2 36 k0) j = true ∨ lb v j = true) ↔ W' k0 j) : mRst (rv_sW σ 36 k0 (σ.2.2 36 k0 ||| v)) n W' := by
  intro k hk j
  rw [rv_sW_3]
  by_cases e : k = k0
  · subst e
    rw [if_pos ⟨rfl, rfl⟩, lb_or, Bool.or_eq_true]
    exact h2 j
  · rw [if_neg (fun q => e q.2), h1 k hk e j]
    exact h k hk j
theorem m_findRests {G : rv_G} (hG : rv_GK G) {d : Nat} (hd : 7 ≤ d) {σ : rv_S} {S F : List Nat} {R : List sp_C} {dep : Nat → Nat} (hR : mRules σ S R) (hF : mFacts σ F) (hsr : sp_srt F) (h60 : F.length ≤ 60) (hcl : ∀ C, C ∈ R → ∀ f, f ∈ sp_give F C → f ∈ F) (hdp : mDep σ dep) : mC G d yX4_findRests wX4_findRests [] σ (mPv (fun τ => rv_same [31, 32, 33, 34, 39] [26, 27, 28, 29, 30, 31, 32, 33, 34, 36] σ τ ∧ mRst τ F.length (Relation.TransGen (sp_dir R F)))) := by
  refine mv_start hG (by decide +kernel) (Nat.le_of_ble_eq_true rfl) (fun X Hb o hX1 hX hE => ?_)
  subst hX1
  show rv_V X (rv_mh Hb o _) 0 [some (.ref o), none, none] []
  have hR10 := hR.2.2.1
  have warsh : ∀ (n b : Nat) (τ : rv_S) (x : Option Value), b ≤ F.length → F.length - b < n → rv_same [31, 32, 33, 34, 39] [26, 27, 28, 29, 30, 31, 32, 33, 34, 36] σ τ → mRst τ F.length (sp_W (sp_dir R F) b) → rv_V X (rv_mh Hb o τ) 148 [some (.ref o), some (.int (nI b)), x] [] := by
    intro n
    induction n with
    | zero => intro b τ x h1 h2; omega
    | succ n ih =>
      intro b τ x h1 h2 h3 h4
      have hF2 := hF.same h3 (by decide) (by decide)
      have inner : ∀ (m k : Nat) (υ : rv_S), k ≤ F.length → F.length - k < m → rv_same [31, 32, 33, 34, 39] [26, 27, 28, 29, 30, 31, 32, 33, 34, 36] σ υ → mRst υ F.length (fun k' j => if k' < k then sp_W (sp_dir R F) (b + 1) k' j else sp_W (sp_dir R F) b k' j) → b < F.length → rv_V X (rv_mh Hb o υ) 161 [some (.ref o), some (.int (nI b)), some (.int (nI k))] [] := by
        intro m
        induction m with
        | zero => intro k υ i1 i2; omega
        | succ m ihm =>
          intro k υ i1 i2 i3 i4 i5
          have hF3 := hF.same i3 (by decide) (by decide)
          have hown : ∀ j, lb (υ.2.2 36 b) j = true ↔ sp_W (sp_dir R F) b b j := fun j => by
            rw [i4 b i5 j]
            show (if b < k then sp_W (sp_dir R F) (b + 1) b j else sp_W (sp_dir R F) b b j) ↔ _
            split
            · exact sp_W_own
            · exact Iff.rfl
          refine rv_iload_n hX dX4_findRests_161 rfl ?_
          refine rv_aload_n hX dX4_findRests_162 rfl ?_
          refine mv_ga hX (k := 1) (j := 1) gX4_7_X4 (by decide) rfl (by decide) dX4_findRests_163 ?_
          refine nv_bipush hX (m := 6) (by decide) dX4_findRests_166 ?_
          refine mv_ld hX (j := 1) (by decide) (by decide) rfl (by decide) (show _ < 11 by omega) dX4_findRests_168 ?_
          rw [hF3.1]
          first | refine nv_icmp_ge hX 212 (by omega) (by omega) dX4_findRests_169 (by decide) (fun c_169 => ?_) (fun c_169 => ?_) | refine rv_icmp_ge hX 212 dX4_findRests_169 (by decide) (fun c_169 => ?_) (fun c_169 => ?_)
          · skip
            first | refine nv_iinc hX (m := 1) dX4_findRests_212 rfl (by decide) (rv_st_1 rfl) ?_ | refine rv_iinc hX dX4_findRests_212 rfl rfl (rv_st_1 rfl) ?_
            refine rv_goto hX 148 dX4_findRests_215 (by decide) ?_
            have hk : k = F.length := by omega
            refine ih (b + 1) υ _ (by omega) (by omega) i3 (fun k' hk' j => ?_)
            rw [i4 k' hk' j]
            show (if k' < k then _ else _) ↔ _
            rw [if_pos (by omega)]
          · skip
            have hkk : ∀ j, lb (υ.2.2 36 k) j = true ↔ sp_W (sp_dir R F) b k j := fun j => by
              rw [i4 k (by omega) j]
              show (if k < k then _ else _) ↔ _
              rw [if_neg (Nat.lt_irrefl _)]
            have hoth : ∀ k', k' < F.length → k' ≠ k → ∀ j, ((fun k' j => if k' < k + 1 then sp_W (sp_dir R F) (b + 1) k' j else sp_W (sp_dir R F) b k' j) k' j) ↔ (fun k' j => if k' < k then sp_W (sp_dir R F) (b + 1) k' j else sp_W (sp_dir R F) b k' j) k' j := by
              intro k' _ hne j
              show (if k' < k + 1 then _ else _) ↔ (if k' < k then _ else _)
              by_cases q : k' < k
              · rw [if_pos q, if_pos (by omega)]
              · rw [if_neg q, if_neg (by omega)]
            refine rv_aload_n hX dX4_findRests_172 rfl ?_
            refine mv_ga hX (k := 46) (j := 36) gX4_116_X4 (by decide) rfl (by decide) dX4_findRests_173 ?_
            refine rv_iload_n hX dX4_findRests_176 rfl ?_
            refine rv_dup2 hX dX4_findRests_177 rfl rfl ?_
            refine mv_lld hX (j := 36) (by decide) (by decide) rfl (by decide) (show _ < 62 by omega) dX4_findRests_178 ?_
            refine rv_aload_n hX dX4_findRests_179 rfl ?_
            refine mv_ga hX (k := 46) (j := 36) gX4_116_X4 (by decide) rfl (by decide) dX4_findRests_180 ?_
            refine rv_iload_n hX dX4_findRests_183 rfl ?_
            refine mv_lld hX (j := 36) (by decide) (by decide) rfl (by decide) (show _ < 62 by omega) dX4_findRests_184 ?_
            refine rv_iload_n hX dX4_findRests_185 rfl ?_
            refine rv_lshr hX dX4_findRests_186 ?_
            refine rv_lconst hX (v := 1) dX4_findRests_187 rfl ?_
            refine rv_land hX dX4_findRests_188 ?_
            refine rv_lconst hX (v := 1) dX4_findRests_189 rfl ?_
            refine rv_lcmp hX dX4_findRests_190 ?_
            first | refine zv_if_ne hX 203 dX4_findRests_191 (by decide) (fun c_191 => ?_) (fun c_191 => ?_) | refine nv_if_ne hX 203 (by omega) dX4_findRests_191 (by decide) (fun c_191 => ?_) (fun c_191 => ?_) | refine rv_if_ne hX 203 dX4_findRests_191 (by decide) (fun c_191 => ?_) (fun c_191 => ?_)
            · skip
              refine rv_lconst hX (v := 0) dX4_findRests_203 rfl ?_
              refine rv_lor hX dX4_findRests_204 ?_
              refine mv_lst hX (j := 36) (by decide) (by decide) rfl (by decide) (show _ < 62 by omega) dX4_findRests_205 ?_
              first | refine nv_iinc hX (m := 1) dX4_findRests_206 rfl (by decide) (rv_st_2 rfl) ?_ | refine rv_iinc hX dX4_findRests_206 rfl rfl (rv_st_2 rfl) ?_
              refine rv_goto hX 161 dX4_findRests_209 (by decide) ?_
              first
                | (have hb : sp_W (sp_dir R F) b k b := (hkk b).mp ((lb_test (by omega) _).mp ((lb_cmp _ _).mp c_191))
                   refine ihm (k + 1) _ (by omega) (by omega) (i3.tr (.w (by decide))) (i4.or hoth (fun j => ?_)) i5
                   show _ ↔ (if k < k + 1 then _ else _)
                   rw [if_pos (Nat.lt_succ_self _), hkk j, hown j]
                   exact ⟨fun q => q.elim Or.inl (fun q => Or.inr ⟨hb, q⟩), fun q => q.elim Or.inl (fun q => Or.inr q.2)⟩)
                | (have hb : ¬ sp_W (sp_dir R F) b k b := fun q => c_191 ((lb_cmp _ _).mpr ((lb_test (by omega) _).mpr ((hkk b).mpr q)))
                   refine ihm (k + 1) _ (by omega) (by omega) (i3.tr (.w (by decide))) (i4.or hoth (fun j => ?_)) i5
                   show _ ↔ (if k < k + 1 then _ else _)
                   rw [if_pos (Nat.lt_succ_self _), hkk j, lb_0]
                   exact ⟨fun q => q.elim Or.inl (fun q => by cases q), fun q => q.elim Or.inl (fun q => absurd q.1 hb)⟩)
            · skip
              refine rv_aload_n hX dX4_findRests_194 rfl ?_
              refine mv_ga hX (k := 46) (j := 36) gX4_116_X4 (by decide) rfl (by decide) dX4_findRests_195 ?_
              refine rv_iload_n hX dX4_findRests_198 rfl ?_
              refine mv_lld hX (j := 36) (by decide) (by decide) rfl (by decide) (show _ < 62 by omega) dX4_findRests_199 ?_
              refine rv_goto hX 204 dX4_findRests_200 (by decide) ?_
              refine rv_lor hX dX4_findRests_204 ?_
              refine mv_lst hX (j := 36) (by decide) (by decide) rfl (by decide) (show _ < 62 by omega) dX4_findRests_205 ?_
              first | refine nv_iinc hX (m := 1) dX4_findRests_206 rfl (by decide) (rv_st_2 rfl) ?_ | refine rv_iinc hX dX4_findRests_206 rfl rfl (rv_st_2 rfl) ?_
              refine rv_goto hX 161 dX4_findRests_209 (by decide) ?_
              first
                | (have hb : sp_W (sp_dir R F) b k b := (hkk b).mp ((lb_test (by omega) _).mp ((lb_cmp _ _).mp c_191))
                   refine ihm (k + 1) _ (by omega) (by omega) (i3.tr (.w (by decide))) (i4.or hoth (fun j => ?_)) i5
                   show _ ↔ (if k < k + 1 then _ else _)
                   rw [if_pos (Nat.lt_succ_self _), hkk j, hown j]
                   exact ⟨fun q => q.elim Or.inl (fun q => Or.inr ⟨hb, q⟩), fun q => q.elim Or.inl (fun q => Or.inr q.2)⟩)
                | (have hb : ¬ sp_W (sp_dir R F) b k b := fun q => c_191 ((lb_cmp _ _).mpr ((lb_test (by omega) _).mpr ((hkk b).mpr q)))
                   refine ihm (k + 1) _ (by omega) (by omega) (i3.tr (.w (by decide))) (i4.or hoth (fun j => ?_)) i5
                   show _ ↔ (if k < k + 1 then _ else _)
                   rw [if_pos (Nat.lt_succ_self _), hkk j, lb_0]
                   exact ⟨fun q => q.elim Or.inl (fun q => by cases q), fun q => q.elim Or.inl (fun q => absurd q.1 hb)⟩)
      refine rv_iload_n hX dX4_findRests_148 rfl ?_
      refine rv_aload_n hX dX4_findRests_149 rfl ?_
      refine mv_ga hX (k := 1) (j := 1) gX4_7_X4 (by decide) rfl (by decide) dX4_findRests_150 ?_
      refine nv_bipush hX (m := 6) (by decide) dX4_findRests_153 ?_
      refine mv_ld hX (j := 1) (by decide) (by decide) rfl (by decide) (show _ < 11 by omega) dX4_findRests_155 ?_
      rw [hF2.1]
      first | refine nv_icmp_ge hX 218 (by omega) (by omega) dX4_findRests_156 (by decide) (fun c_156 => ?_) (fun c_156 => ?_) | refine rv_icmp_ge hX 218 dX4_findRests_156 (by decide) (fun c_156 => ?_) (fun c_156 => ?_)
      · skip
        refine mv_retv hX hE dX4_findRests_218 ?_
        have hb : b = F.length := by omega
        refine ⟨h3, fun k hk j => ?_⟩
        rw [h4 k hk j, hb]
        exact sp_W_iff (fun k j h => (sp_dir_lt h).2)
      · skip
        refine nv_iconst hX (m := 0) (by decide) dX4_findRests_159 ?_
        refine rv_istore_n hX dX4_findRests_160 (rv_st_2 rfl) ?_
        exact inner _ 0 τ (Nat.zero_le _) (Nat.lt_succ_self _) h3 (fun k hk j => by rw [h4 k hk j]; show _ ↔ (if k < 0 then _ else _); rw [if_neg (Nat.not_lt_zero _)]) (by omega)
  have rules : ∀ (n i : Nat) (τ : rv_S) (x : Option Value), i ≤ R.length → R.length - i < n → rv_same [31, 32, 33, 34, 39] [26, 27, 28, 29, 30, 31, 32, 33, 34, 36] σ τ → mRst τ F.length (sp_dir (R.take i) F) → rv_V X (rv_mh Hb o τ) 28 [some (.ref o), some (.int (nI i)), x] [] := by
    intro n
    induction n with
    | zero => intro i τ x h1 h2; omega
    | succ n ih =>
      intro i τ x h1 h2 h3 h4
      have hRv := hR.same h3 (by decide)
      have hFv := hF.same h3 (by decide) (by decide)
      refine rv_iload_n hX dX4_findRests_28 rfl ?_
      refine rv_aload_n hX dX4_findRests_29 rfl ?_
      refine mv_ga hX (k := 1) (j := 1) gX4_7_X4 (by decide) rfl (by decide) dX4_findRests_30 ?_
      refine nv_iconst hX (m := 1) (by decide) dX4_findRests_33 ?_
      refine mv_ld hX (j := 1) (by decide) (by decide) rfl (by decide) (show _ < 11 by omega) dX4_findRests_34 ?_
      rw [hRv.2.1]
      first | refine nv_icmp_ge hX 146 (by omega) (by omega) dX4_findRests_35 (by decide) (fun c_35 => ?_) (fun c_35 => ?_) | refine rv_icmp_ge hX 146 dX4_findRests_35 (by decide) (fun c_35 => ?_) (fun c_35 => ?_)
      · skip
        refine nv_iconst hX (m := 0) (by decide) dX4_findRests_146 ?_
        refine rv_istore_n hX dX4_findRests_147 (rv_st_1 rfl) ?_
        have hi : i = R.length := by omega
        rw [hi, List.take_length] at h4
        exact warsh _ 0 τ _ (Nat.zero_le _) (Nat.lt_succ_self _) h3 h4
      · skip
        obtain ⟨C, hC⟩ : ∃ C, R[i]? = some C := ⟨R[i], List.getElem?_eq_getElem (by omega)⟩
        obtain ⟨hB, hw⟩ := hRv.2.2.2 i C hC
        have hCm := List.mem_of_getElem? hC
        have hBF : mBF τ S F i C := ⟨hRv.1, hFv, hB, hw, by omega⟩
        have hbds := hBF.hd.bds
        have hl3 := hbds.2.2.1
        have hclC := hcl C hCm
        have hnext : ∀ k j, sp_dir (R.take (i + 1)) F k j ↔ (sp_dir (R.take i) F k j ∨ sp_dirC F C k j) := by
          intro k j
          unfold sp_dir
          rw [sp_take_get hC]
          constructor
          · rintro ⟨D, hD, h⟩
            rcases List.mem_append.mp hD with q | q
            · exact Or.inl ⟨D, q, h⟩
            · rw [List.mem_singleton.mp q] at h; exact Or.inr h
          · rintro (⟨D, hD, h⟩ | h)
            · exact ⟨D, List.mem_append_left _ hD, h⟩
            · exact ⟨C, List.mem_append_right _ (List.mem_singleton.mpr rfl), h⟩
        refine rv_aload_n hX dX4_findRests_38 rfl ?_
        refine rv_iload_n hX dX4_findRests_39 rfl ?_
        refine mv_callz hX iX4_236 rfl mdX4_isGathering (m_isGathering hG (d := d - 1) hBF.hd) (by omega) rfl rfl (Nat.le_of_ble_eq_true rfl) dX4_findRests_40 (fun r_40 τ_40 h_40 => ?_)
        obtain ⟨rfl, hg⟩ := h_40
        first | refine zv_if_eq hX 94 dX4_findRests_43 (by decide) (fun c_43 => ?_) (fun c_43 => ?_) | refine nv_if_eq hX 94 (by omega) dX4_findRests_43 (by decide) (fun c_43 => ?_) (fun c_43 => ?_) | refine rv_if_eq hX 94 dX4_findRests_43 (by decide) (fun c_43 => ?_) (fun c_43 => ?_)
        · skip
          have hgn : C.gath = none := by
            have : (sp_gslot C.hts 0).isSome = false := hg.symm.trans c_43
            cases e : C.gath with
            | none => rfl
            | some s =>
              have e' : sp_gslot C.hts 0 = some s := e
              rw [e'] at this
              cases this
          refine rv_aload_n hX dX4_findRests_94 rfl ?_
          refine mv_callv hX iX4_211 rfl mdX4_forget (m_forget hG (d := d - 1)) (by omega) rfl rfl (Nat.le_of_ble_eq_true rfl) dX4_findRests_95 (fun τ_95 h_95 => ?_)
          obtain ⟨f1, f2, f3⟩ := h_95
          refine rv_aload_n hX dX4_findRests_98 rfl ?_
          refine rv_iload_n hX dX4_findRests_99 rfl ?_
          refine rv_aload_n hX dX4_findRests_100 rfl ?_
          refine mv_ga hX (k := 6) (j := 6) gX4_25_X4 (by decide) rfl (by decide) dX4_findRests_101 ?_
          refine rv_iload_n hX dX4_findRests_104 rfl ?_
          refine mv_ld hX (j := 6) (by decide) (by decide) rfl (by decide) (show _ < 17 by omega) dX4_findRests_105 ?_
          rw [f3.2.1 6 (by decide), hBF.2.2.1.len]
          refine mv_callv hX iX4_214 rfl mdX4_beginMatches (m_beginMatches hG (d := d - 1)) (by omega) rfl rfl (Nat.le_of_ble_eq_true rfl) dX4_findRests_106 (fun τ_106 h_106 => ?_)
          obtain ⟨g1, g2, g3, g4, g5, g6⟩ := h_106
          have mats : ∀ (m : Nat) (P Q : List sp_Q) (υ : rv_S), Q.length < m → P ++ Q = sp_m F C.its (fun _ => none) → mRun υ F C.its Q → rv_same [31, 32, 33, 34, 39] [26, 27, 28, 29, 30, 31, 32, 33, 34, 36] σ υ → mCfg υ S F i (fun p => p) C.its → mRst υ F.length (fun k j => sp_dir (R.take i) F k j ∨ ∃ q, q ∈ P ∧ F[k]? = some (sp_key C q) ∧ j ∈ sp_atk C.its q.1) → ∀ x, rv_V X (rv_mh Hb o υ) 109 [some (.ref o), some (.int (nI i)), x] [] := by
            intro m
            induction m with
            | zero => intro P Q υ h; omega
            | succ m ihm =>
              intro P Q υ hn hPQ hr i3 hc i5 x
              refine rv_aload_n hX dX4_findRests_109 rfl ?_
              refine mv_callz hX iX4_218 rfl mdX4_nextMatch (m_nextMatch hG (d := d - 1) (by omega) hc hr) (by omega) rfl rfl (Nat.le_of_ble_eq_true rfl) dX4_findRests_110 (fun r_110 τ_110 h_110 => ?_)
              obtain ⟨n1, n2, n3⟩ := h_110
              first | refine zv_if_eq hX 140 dX4_findRests_113 (by decide) (fun c_113 => ?_) (fun c_113 => ?_) | refine nv_if_eq hX 140 (by omega) dX4_findRests_113 (by decide) (fun c_113 => ?_) (fun c_113 => ?_) | refine rv_if_eq hX 140 dX4_findRests_113 (by decide) (fun c_113 => ?_) (fun c_113 => ?_)
              · skip
                first | refine nv_iinc hX (m := 1) dX4_findRests_140 rfl (by decide) (rv_st_1 rfl) ?_ | refine rv_iinc hX dX4_findRests_140 rfl rfl (rv_st_1 rfl) ?_
                refine rv_goto hX 28 dX4_findRests_143 (by decide) ?_
                have hQ0 : Q = [] := by
                  cases Q with
                  | nil => rfl
                  | cons q T =>
                    have := (n2 q.1 q.2 T rfl).1
                    rw [c_113] at this
                    cases this
                subst hQ0
                rw [List.append_nil] at hPQ
                refine ih (i + 1) _ _ (by omega) (by omega) (i3.tr (n1.mn (by decide) (by decide))) (fun k hk j => ?_)
                rw [(i5.same n1 (by decide)) k hk j, hnext k j, hPQ]
                constructor
                · rintro (q | q)
                  · exact Or.inl q
                  · exact Or.inr (Or.inl ⟨hgn, q⟩)
                · rintro (q | (q | q))
                  · exact Or.inl q
                  · exact Or.inr q.2
                  · exact absurd hgn q.1
              · skip
                obtain ⟨q, T9, hR⟩ : ∃ q T, Q = q :: T := by
                  cases Q with
                  | nil => have := n3 rfl; rw [c_113] at this; cases this
                  | cons q T => exact ⟨q, T, rfl⟩
                subst hR
                have hm := (n2 q.1 q.2 T9 rfl).2
                have hqm : q ∈ sp_m F C.its (fun _ => none) := by rw [← hPQ]; exact List.mem_append_right _ List.mem_cons_self
                obtain ⟨kn1, kn2⟩ := hw.known hqm
                have hsm2 := i3.tr (n1.mn (fs' := [31, 32, 33, 34, 39]) (js' := [26, 27, 28, 29, 30, 31, 32, 33, 34, 36]) (by decide) (by decide))
                have hB2 : mBF τ_110 S F i C := by
                  have hRu := hR.same hsm2 (by decide)
                  exact ⟨hRu.1, hF.same hsm2 (by decide) (by decide), (hRu.2.2.2 i C hC).1, hw, by omega⟩
                have hc2 := hc.same n1 (by decide) (by decide)
                have i52 := i5.same n1 (by decide)
                have hkF : sp_key C q ∈ F := hclC _ (by unfold sp_give; rw [if_pos hgn]; exact List.mem_map.mpr ⟨q, hqm, rfl⟩)
                obtain ⟨k0, hk0⟩ := List.getElem?_of_mem hkF
                have hk0l := (List.getElem?_eq_some_iff.mp hk0).1
                refine rv_aload_n hX dX4_findRests_116 rfl ?_
                refine mv_ga hX (k := 46) (j := 36) gX4_116_X4 (by decide) rfl (by decide) dX4_findRests_117 ?_
                refine rv_aload_n hX dX4_findRests_120 rfl ?_
                refine rv_aload_n hX dX4_findRests_121 rfl ?_
                refine rv_iload_n hX dX4_findRests_122 rfl ?_
                refine mv_calli hX iX4_222 rfl mdX4_headFact (m_headFact hG (d := d - 1) (by omega) hB2.hd hm.val kn1) (by omega) rfl rfl (Nat.le_of_ble_eq_true rfl) dX4_findRests_123 (fun r_123 τ_123 h_123 => ?_)
                obtain ⟨rfl, rfl⟩ := h_123
                show rv_V X _ _ _ (.int (nI (sp_key C q)) :: _)
                refine mv_calli hX iX4_192 rfl mdX4_indexOf (m_indexOf hG (d := d - 1) hB2.2.1 (hB2.2.1.2.2.1 _ hkF)) (by omega) rfl rfl (Nat.le_of_ble_eq_true rfl) dX4_findRests_126 (fun r_126 τ_126 h_126 => ?_)
                obtain ⟨rfl, hr9⟩ := h_126
                have hr8 : r_126 = nI k0 := by
                  rcases hr9 with ⟨q1, q2⟩ | ⟨j, q1, q2⟩
                  · exact absurd hkF q1
                  · rw [q2, sp_nd_inj (sp_srt_nd hsr) q1 hk0]
                rw [hr8]
                refine rv_dup2 hX dX4_findRests_129 rfl rfl ?_
                refine mv_lld hX (j := 36) (by decide) (by decide) rfl (by decide) (show _ < 62 by omega) dX4_findRests_130 ?_
                refine rv_aload_n hX dX4_findRests_131 rfl ?_
                refine mv_calll hX iX4_229 rfl mdX4_matchFacts (m_matchFacts hG (d := d - 1) (by omega) hc2 hm.tri) (by omega) rfl rfl (Nat.le_of_ble_eq_true rfl) dX4_findRests_132 (fun r_132 τ_132 h_132 => ?_)
                obtain ⟨rfl, hf⟩ := h_132
                refine rv_lor hX dX4_findRests_135 ?_
                refine mv_lst hX (j := 36) (by decide) (by decide) rfl (by decide) (show _ < 62 by omega) dX4_findRests_136 ?_
                refine rv_goto hX 109 dX4_findRests_137 (by decide) ?_
                refine ihm (P ++ [q]) T9 _ (by have : T9.length + 1 < m + 1 := hn; omega) (by rw [List.append_assoc]; exact hPQ) (Or.inr ⟨q.1, q.2, hm.same (js := [36]) (fs := []) (.w (by decide)) (by decide) (by decide)⟩) (hsm2.tr (.w (by decide))) (hc2.same (js := [36]) (fs := []) (.w (by decide)) (by decide) (by decide)) (i52.or (k0 := k0) (fun k hk hne j => ?_) (fun j => ?_)) _
                · constructor
                  · rintro (e | ⟨q', q1, q2, q3⟩)
                    · exact Or.inl e
                    · rcases List.mem_append.mp q1 with q1 | q1
                      · exact Or.inr ⟨q', q1, q2, q3⟩
                      · rw [List.mem_singleton.mp q1] at q2
                        exact absurd (sp_nd_inj (sp_srt_nd hsr) q2 hk0) hne
                  · rintro (e | ⟨q', q1, q2, q3⟩)
                    · exact Or.inl e
                    · exact Or.inr ⟨q', List.mem_append_left _ q1, q2, q3⟩
                · rw [i52 k0 hk0l j, hf, decide_eq_true_iff]
                  constructor
                  · rintro ((e | ⟨q', q1, q2, q3⟩) | e)
                    · exact Or.inl e
                    · exact Or.inr ⟨q', List.mem_append_left _ q1, q2, q3⟩
                    · exact Or.inr ⟨q, List.mem_append_right _ (List.mem_singleton.mpr rfl), hk0, e⟩
                  · rintro (e | ⟨q', q1, q2, q3⟩)
                    · exact Or.inl (Or.inl e)
                    · rcases List.mem_append.mp q1 with q1 | q1
                      · exact Or.inl (Or.inr ⟨q', q1, q2, q3⟩)
                      · rw [List.mem_singleton.mp q1] at q3
                        exact Or.inr q3
          have hS2 := (h3.tr (f3.mn (fs' := [31, 32, 33, 34, 39]) (js' := [26, 27, 28, 29, 30, 31, 32, 33, 34, 36]) (by decide) (by decide))).tr (g6.mn (fs' := [31, 32, 33, 34, 39]) (js' := [26, 27, 28, 29, 30, 31, 32, 33, 34, 36]) (by decide) (by decide))
          have hBz : mBF τ_106 S F i C := by
            have hRu := hR.same hS2 (by decide)
            exact ⟨hRu.1, hF.same hS2 (by decide) (by decide), (hRu.2.2.2 i C hC).1, hw, by omega⟩
          exact mats _ [] _ τ_106 (Nat.lt_succ_self _) rfl (Or.inl ⟨fun _ => none, ⟨f1.same g6 (by decide), f2.same g6 (by decide), g3, g4, sp_snd.okA hw.its (sp_has_none _) hw.snd⟩, rfl⟩) hS2 (hBz.cfg' g1 g2 g5) (fun k hk j => by
            rw [((h4.same f3 (by decide)).same g6 (by decide)) k hk j]
            constructor
            · exact Or.inl
            · rintro (q | ⟨q', q, _⟩)
              · exact q
              · cases q) _
        · skip
          obtain ⟨s, hs⟩ := Option.isSome_iff_exists.mp (hg.symm.trans c_43)
          obtain ⟨_, t, ht', ht2⟩ := sp_gslot_get hs
          have ht : C.hts[s]? = some t := by rw [Nat.sub_zero] at ht'; exact ht'
          have hgne : C.gath ≠ none := by
            have hs' : C.gath = some s := hs
            rw [hs']; simp
          refine rv_aload_n hX dX4_findRests_46 rfl ?_
          refine rv_iload_n hX dX4_findRests_47 rfl ?_
          refine mv_callv hX iX4_245 rfl mdX4_gatherAll (m_gatherAll hG (d := d - 1) (by omega) hBF (hdp.same h3 (by decide)) hs ht) (by omega) rfl rfl (Nat.le_of_ble_eq_true rfl) dX4_findRests_48 (fun τ_48 h_48 => ?_)
          obtain ⟨a1, P, Q, a2, a3, a4⟩ := h_48
          refine nv_iconst hX (m := 0) (by decide) dX4_findRests_51 ?_
          refine rv_istore_n hX dX4_findRests_52 (rv_st_2 rfl) ?_
          have hk60 := sp_closed_keys hl3 hs ht ht2 hsr h60 hclC a2
          have hQ : Q = [] := by
            rcases a4 with a4 | a4
            · exact a4
            · omega
          subst hQ
          rw [List.append_nil] at a2
          have hgt : C.gt = t := by
            unfold sp_C.gt
            have hs' : C.gath = some s := hs
            rw [hs']
            exact sp_getD ht
          have hgx : C.gx = (t - 200) % 8 := by unfold sp_C.gx; rw [hgt]
          have hs3 := (List.getElem?_eq_some_iff.mp ht).1
          have grps : ∀ (m g : Nat) (υ : rv_S), g ≤ (sp_keys C P).length → (sp_keys C P).length - g < m → rv_same [31, 32, 33, 34, 39] [26, 27, 28, 29, 30, 31, 32, 33, 34, 36] σ υ → mGr υ C dep ((t - 200) % 8) P (sp_keys C P) → mRst υ F.length (fun k j => sp_dir (R.take i) F k j ∨ ∃ key, key ∈ (sp_keys C P).take g ∧ F[k]? = some (sp_gfact C P key) ∧ sp_gf C.its (sp_grp C P key) j = true) → rv_V X (rv_mh Hb o υ) 53 [some (.ref o), some (.int (nI i)), some (.int (nI g))] [] := by
            intro m
            induction m with
            | zero => intro g υ i1 i2; omega
            | succ m ihm =>
              intro g υ i1 i2 i3 i4 i5
              have hB2 : mBF υ S F i C := by
                have hRu := hR.same i3 (by decide)
                exact ⟨hRu.1, hF.same i3 (by decide) (by decide), (hRu.2.2.2 i C hC).1, hw, by omega⟩
              refine rv_iload_n hX dX4_findRests_53 rfl ?_
              refine rv_aload_n hX dX4_findRests_54 rfl ?_
              refine mv_gi hX (k := 39) gX4_208_X4 (by decide) rfl dX4_findRests_55 ?_
              rw [i4.1]
              first | refine nv_icmp_ge hX 91 (by omega) (by omega) dX4_findRests_58 (by decide) (fun c_58 => ?_) (fun c_58 => ?_) | refine rv_icmp_ge hX 91 dX4_findRests_58 (by decide) (fun c_58 => ?_) (fun c_58 => ?_)
              · skip
                refine rv_goto hX 140 dX4_findRests_91 (by decide) ?_
                first | refine nv_iinc hX (m := 1) dX4_findRests_140 rfl (by decide) (rv_st_1 rfl) ?_ | refine rv_iinc hX dX4_findRests_140 rfl rfl (rv_st_1 rfl) ?_
                refine rv_goto hX 28 dX4_findRests_143 (by decide) ?_
                have hge : (sp_keys C P).take g = sp_keys C P := List.take_of_length_le (by omega)
                rw [hge] at i5
                refine ih (i + 1) υ _ (by omega) (by omega) i3 (fun k hk j => ?_)
                rw [i5 k hk j, hnext k j]
                constructor
                · rintro (q | ⟨key, q1, q2, q3⟩)
                  · exact Or.inl q
                  · exact Or.inr (Or.inr ⟨hgne, key, by rw [← a2]; exact q1, by rw [← a2]; exact q2, by rw [← a2]; exact q3⟩)
                · rintro (q | (q | ⟨_, key, q1, q2, q3⟩))
                  · exact Or.inl q
                  · exact absurd q.1 hgne
                  · exact Or.inr ⟨key, by rw [a2]; exact q1, by rw [a2]; exact q2, by rw [a2]; exact q3⟩
              · skip
                obtain ⟨key, hkey⟩ : ∃ key, (sp_keys C P)[g]? = some key := ⟨(sp_keys C P)[g], List.getElem?_eq_getElem (by omega)⟩
                have hkm := List.mem_of_getElem? hkey
                obtain ⟨k1, k2, k3, k4, k5, k6⟩ := i4.2.2 g key hkey
                have hex : ∃ a, a < 100 ∧ sp_hasv ((t - 200) % 8) (sp_grp C P key) a = true := by
                  obtain ⟨q, hq⟩ := sp_grp_ne hkm
                  have hqP : q ∈ sp_m F C.its (fun _ => none) := by rw [← a2]; exact (List.mem_filter.mp hq).1
                  obtain ⟨y, hy⟩ := Option.isSome_iff_exists.mp ((hw.known hqP).2 t (List.mem_of_getElem? ht) ht2)
                  refine ⟨y, sp_m_bd sp_none_bd q hqP _ y hy, ?_⟩
                  unfold sp_hasv
                  rw [List.any_eq_true]
                  exact ⟨q, hq, by rw [hy]; simp⟩
                have hgf : sp_gfact C P key = key + sp_wt s * sp_min99 (sp_agg ((t - 200) / 8) (sp_hasv ((t - 200) % 8) (sp_grp C P key))) := by
                  unfold sp_gfact
                  have hs' : C.gath = some s := hs
                  rw [hgt, hgx, hs']
                  rfl
                have hgF : sp_gfact C P key ∈ F := hclC _ (by unfold sp_give; rw [if_neg hgne, ← a2]; exact List.mem_map.mpr ⟨key, hkm, rfl⟩)
                obtain ⟨k0, hk0⟩ := List.getElem?_of_mem hgF
                have hk0l := (List.getElem?_eq_some_iff.mp hk0).1
                have htk := sp_take_get hkey
                refine rv_aload_n hX dX4_findRests_61 rfl ?_
                refine mv_ga hX (k := 46) (j := 36) gX4_116_X4 (by decide) rfl (by decide) dX4_findRests_62 ?_
                refine rv_aload_n hX dX4_findRests_65 rfl ?_
                refine rv_aload_n hX dX4_findRests_66 rfl ?_
                refine rv_iload_n hX dX4_findRests_67 rfl ?_
                refine rv_iload_n hX dX4_findRests_68 rfl ?_
                refine mv_calli hX iX4_248 rfl mdX4_groupFact (m_groupFact hG (d := d - 1) (by omega) hB2.hd hw.hts hs ht (by omega) k1 k2 k3 k4 hex) (by omega) rfl rfl (Nat.le_of_ble_eq_true rfl) dX4_findRests_69 (fun r_69 τ_69 h_69 => ?_)
                obtain ⟨rfl, rfl⟩ := h_69
                rw [← hgf]
                refine mv_calli hX iX4_192 rfl mdX4_indexOf (m_indexOf hG (d := d - 1) hB2.2.1 (hB2.2.1.2.2.1 _ hgF)) (by omega) rfl rfl (Nat.le_of_ble_eq_true rfl) dX4_findRests_72 (fun r_72 τ_72 h_72 => ?_)
                obtain ⟨rfl, hr⟩ := h_72
                have hr9 : r_72 = nI k0 := by
                  rcases hr with ⟨q1, q2⟩ | ⟨j, q1, q2⟩
                  · exact absurd hgF q1
                  · rw [q2, sp_nd_inj (sp_srt_nd hsr) q1 hk0]
                rw [hr9]
                refine rv_dup2 hX dX4_findRests_75 rfl rfl ?_
                refine mv_lld hX (j := 36) (by decide) (by decide) rfl (by decide) (show _ < 62 by omega) dX4_findRests_76 ?_
                refine rv_aload_n hX dX4_findRests_77 rfl ?_
                refine mv_ga hX (k := 44) (j := 34) gX4_110_X4 (by decide) rfl (by decide) dX4_findRests_78 ?_
                refine rv_iload_n hX dX4_findRests_81 rfl ?_
                refine mv_lld hX (j := 34) (by decide) (by decide) rfl (by decide) (show _ < 62 by omega) dX4_findRests_82 ?_
                refine rv_lor hX dX4_findRests_83 ?_
                refine mv_lst hX (j := 36) (by decide) (by decide) rfl (by decide) (show _ < 62 by omega) dX4_findRests_84 ?_
                first | refine nv_iinc hX (m := 1) dX4_findRests_85 rfl (by decide) (rv_st_2 rfl) ?_ | refine rv_iinc hX dX4_findRests_85 rfl rfl (rv_st_2 rfl) ?_
                refine rv_goto hX 53 dX4_findRests_88 (by decide) ?_
                refine ihm (g + 1) _ (by omega) (by omega) (i3.tr (.w (by decide))) (i4.same (js := [36]) (fs := []) (.w (by decide)) (by decide) (by decide)) (i5.or (k0 := k0) (fun k hk hne j => ?_) (fun j => ?_))
                · rw [htk]
                  constructor
                  · rintro (q | ⟨key', q1, q2, q3⟩)
                    · exact Or.inl q
                    · rcases List.mem_append.mp q1 with q1 | q1
                      · exact Or.inr ⟨key', q1, q2, q3⟩
                      · rw [List.mem_singleton.mp q1] at q2
                        exact absurd (sp_nd_inj (sp_srt_nd hsr) q2 hk0) hne
                  · rintro (q | ⟨key', q1, q2, q3⟩)
                    · exact Or.inl q
                    · exact Or.inr ⟨key', List.mem_append_left _ q1, q2, q3⟩
                · rw [i5 k0 hk0l j, k6, htk]
                  constructor
                  · rintro ((q | ⟨key', q1, q2, q3⟩) | q)
                    · exact Or.inl q
                    · exact Or.inr ⟨key', List.mem_append_left _ q1, q2, q3⟩
                    · exact Or.inr ⟨key, List.mem_append_right _ (List.mem_singleton.mpr rfl), hk0, q⟩
                  · rintro (q | ⟨key', q1, q2, q3⟩)
                    · exact Or.inl (Or.inl q)
                    · rcases List.mem_append.mp q1 with q1 | q1
                      · exact Or.inl (Or.inr ⟨key', q1, q2, q3⟩)
                      · rw [List.mem_singleton.mp q1] at q3
                        exact Or.inr q3
          exact grps _ 0 _ (Nat.zero_le _) (Nat.lt_succ_self _) (h3.tr (a1.mn (by decide) (by decide))) a3 (fun k hk j => by
            rw [(h4.same a1 (by decide)) k hk j]
            constructor
            · exact Or.inl
            · rintro (q | ⟨key, q, _⟩)
              · exact q
              · cases q)
  have init : ∀ (n k : Nat) (τ : rv_S), k ≤ F.length → F.length - k < n → rv_same [31, 32, 33, 34, 39] [26, 27, 28, 29, 30, 31, 32, 33, 34, 36] σ τ → (∀ i, i < k → τ.2.2 36 i = 0) → rv_V X (rv_mh Hb o τ) 2 [some (.ref o), some (.int (nI k)), none] [] := by
    intro n
    induction n with
    | zero => intro k τ h1 h2; omega
    | succ n ih =>
      intro k τ h1 h2 h3 h4
      have hF2 := hF.same h3 (by decide) (by decide)
      refine rv_iload_n hX dX4_findRests_2 rfl ?_
      refine rv_aload_n hX dX4_findRests_3 rfl ?_
      refine mv_ga hX (k := 1) (j := 1) gX4_7_X4 (by decide) rfl (by decide) dX4_findRests_4 ?_
      refine nv_bipush hX (m := 6) (by decide) dX4_findRests_7 ?_
      refine mv_ld hX (j := 1) (by decide) (by decide) rfl (by decide) (show _ < 11 by omega) dX4_findRests_9 ?_
      rw [hF2.1]
      first | refine nv_icmp_ge hX 26 (by omega) (by omega) dX4_findRests_10 (by decide) (fun c_10 => ?_) (fun c_10 => ?_) | refine rv_icmp_ge hX 26 dX4_findRests_10 (by decide) (fun c_10 => ?_) (fun c_10 => ?_)
      · skip
        refine nv_iconst hX (m := 0) (by decide) dX4_findRests_26 ?_
        refine rv_istore_n hX dX4_findRests_27 (rv_st_1 rfl) ?_
        refine rules _ 0 τ none (Nat.zero_le _) (Nat.lt_succ_self _) h3 (fun k' hk' j => ?_)
        rw [h4 k' (by omega), lb_0]
        exact ⟨fun h => (by cases h), fun ⟨C, hC, _⟩ => (by cases hC)⟩
      · skip
        refine rv_aload_n hX dX4_findRests_13 rfl ?_
        refine mv_ga hX (k := 46) (j := 36) gX4_116_X4 (by decide) rfl (by decide) dX4_findRests_14 ?_
        refine rv_iload_n hX dX4_findRests_17 rfl ?_
        refine rv_lconst hX (v := 0) dX4_findRests_18 rfl ?_
        refine mv_lst hX (j := 36) (by decide) (by decide) rfl (by decide) (show _ < 62 by omega) dX4_findRests_19 ?_
        first | refine nv_iinc hX (m := 1) dX4_findRests_20 rfl (by decide) (rv_st_1 rfl) ?_ | refine rv_iinc hX dX4_findRests_20 rfl rfl (rv_st_1 rfl) ?_
        refine rv_goto hX 2 dX4_findRests_23 (by decide) ?_
        refine ih (k + 1) _ (by omega) (by omega) (h3.tr (.w (by decide))) (fun i hi => ?_)
        rw [rv_sW_3]
        by_cases e : i = k
        · rw [if_pos ⟨rfl, e⟩]
        · rw [if_neg (fun q => e q.2)]
          exact h4 i (by omega)
  refine nv_iconst hX (m := 0) (by decide) dX4_findRests_0 ?_
  refine rv_istore_n hX dX4_findRests_1 (rv_st_1 rfl) ?_
  exact init _ 0 σ (Nat.zero_le _) (Nat.lt_succ_self _) .rf (fun i hi => absurd hi (by omega))
