/-! THE REFERENCE: gathering -/
set_option maxRecDepth 100000
/-- a body, with what stands -/
def mBF (σ : rv_S) (S F : List Nat) (b : Nat) (C : sp_C) : Prop := mRel σ S ∧ mFacts σ F ∧ mBody σ b C ∧ sp_wfC S C ∧ b < 17
theorem mBF.same {fs js : List Nat} {σ τ : rv_S} {S F : List Nat} {b : Nat} {C : sp_C} (h : mBF σ S F b C) (hs : rv_same fs js σ τ) (h1 : ∀ j, j ∈ [1, 2, 3, 4, 5, 6, 7, 8, 9, 10, 11, 12, 15] → j ∉ js) : mBF τ S F b C := ⟨h.1.same hs (h1 1 (by decide)) (h1 2 (by decide)), h.2.1.same hs (h1 1 (by decide)) (h1 15 (by decide)), h.2.2.1.same hs (fun j hj => h1 j (by revert j; decide)), h.2.2.2⟩
theorem mBF.hd {σ : rv_S} {S F : List Nat} {b : Nat} {C : sp_C} (h : mBF σ S F b C) : mHd σ S b C.rel C.hts := h.2.2.1.mHd h.1 h.2.2.2.1 h.2.2.2.2
theorem mBF.cfg {τ : rv_S} {S F : List Nat} {b n : Nat} {C : sp_C} (h' : mBF τ S F b C) (hn : n ≤ C.its.length) (h31 : τ.1 31 = nI b) (h32 : τ.1 32 = nI n) (h26 : ∀ i, i < 6 → τ.2.1 26 i = nI i) : mCfg τ S F b (fun p => p) (C.its.take n) := by
  have hl := h'.2.2.2.1.len
  have hl2 : (C.its.take n).length = n := by rw [List.length_take]; omega
  refine ⟨h'.1, h'.2.1, h31, by rw [hl2]; exact h32, h'.2.2.2.2, by omega, fun p hp => ⟨h26 p (by omega), (by show p < 6; omega)⟩, fun p it e => ?_⟩
  have e2 : C.its[p]? = some it := by
    rw [List.getElem?_take] at e
    split at e
    · exact e
    · cases e
  exact ⟨h'.2.2.1.its p it e2, h'.2.2.2.1.its it (List.mem_of_getElem? e2)⟩
theorem mBF.cfg' {τ : rv_S} {S F : List Nat} {b : Nat} {C : sp_C} (h : mBF τ S F b C) (h31 : τ.1 31 = nI b) (h32 : τ.1 32 = nI C.its.length) (h26 : ∀ i, i < 6 → τ.2.1 26 i = nI i) : mCfg τ S F b (fun p => p) C.its := by
  have := h.cfg (Nat.le_refl _) h31 h32 h26
  rw [List.take_length] at this
  exact this
def mDep (σ : rv_S) (dep : Nat → Nat) : Prop := (∀ k, k < 62 → σ.2.1 35 k = nI (dep k)) ∧ ∀ k, dep k ≤ 1000000
theorem mDep.same {fs js : List Nat} {σ τ : rv_S} {dep : Nat → Nat} (h : mDep σ dep) (hs : rv_same fs js σ τ) (h35 : 35 ∉ js) : mDep τ dep := ⟨fun k hk => by rw [hs.2.1 35 h35]; exact h.1 k hk, h.2⟩
/-- groups, with the keys K, of matches P -/
def mGr (σ : rv_S) (C : sp_C) (dep : Nat → Nat) (x : Nat) (P : List sp_Q) (K : List Nat) : Prop :=
  σ.1 39 = nI K.length ∧ K.length ≤ 61 ∧ ∀ (g key : Nat), K[g]? = some key → key < 8000000 ∧ σ.2.1 30 g = nI key ∧ (∀ a, a < 50 → lb (σ.2.2 31 g) a = sp_hasv x (sp_grp C P key) a) ∧ (∀ a, a < 50 → lb (σ.2.2 32 g) a = sp_hasv x (sp_grp C P key) (50 + a)) ∧ σ.2.1 33 g = nI (sp_gd dep C.its (sp_grp C P key)) ∧ ∀ k, lb (σ.2.2 34 g) k = sp_gf C.its (sp_grp C P key) k
theorem mGr.same {fs js : List Nat} {σ τ : rv_S} {C : sp_C} {dep : Nat → Nat} {x : Nat} {P : List sp_Q} {K : List Nat} (h : mGr σ C dep x P K) (hs : rv_same fs js σ τ) (h1 : 39 ∉ fs) (h2 : ∀ j, j ∈ [30, 31, 32, 33, 34] → j ∉ js) : mGr τ C dep x P K := by
  obtain ⟨a, b, c⟩ := h
  refine ⟨by rw [hs.1 39 h1]; exact a, b, fun g key e => ?_⟩
  rw [hs.2.1 30 (h2 30 (by decide)), hs.2.1 33 (h2 33 (by decide)), hs.2.2 31 (h2 31 (by decide)), hs.2.2 32 (h2 32 (by decide)), hs.2.2 34 (h2 34 (by decide))]
  exact c g key e
def mNew (τ : rv_S) (g : Nat) (key : Nat) (n : Int32) : rv_S := rv_sF (rv_sW (rv_sU (rv_sW (rv_sW (rv_sU τ 30 g (nI key)) 31 g 0) 32 g 0) 33 g (nI 0)) 34 g 0) 39 n
theorem mNew.same (τ : rv_S) (g : Nat) (key : Nat) (n : Int32) : rv_same [39] [30, 31, 32, 33, 34] τ (mNew τ g key n) := (((((rv_same.u (by decide)).tr (.w (by decide))).tr (.w (by decide))).tr (.u (by decide))).tr (.w (by decide))).tr (.f (by decide))
theorem mGr.new {σ : rv_S} {C : sp_C} {dep : Nat → Nat} {x : Nat} {P : List sp_Q} {K : List Nat} {key : Nat} (h : mGr σ C dep x P K) (hk : sp_grp C P key = []) (hl : K.length ≤ 60) (h8 : key < 8000000) : mGr (mNew σ K.length key (nI (K.length + 1))) C dep x P (K ++ [key]) := by
  obtain ⟨a, b, c⟩ := h
  refine ⟨?_, by rw [List.length_append]; exact Nat.succ_le_succ hl, fun g key' e => ?_⟩
  · unfold mNew
    rw [rv_sF_1, if_pos rfl, List.length_append]
    rfl
  · unfold mNew
    simp only [rv_sF_2, rv_sW_2, rv_sW_3, rv_sU_2, rv_sU_3]
    by_cases q : g = K.length
    · subst q
      rw [List.getElem?_append_right (Nat.le_refl _), Nat.sub_self] at e
      cases e
      rw [hk]
      simp only [if_true, and_self]
      exact ⟨h8, by simp, fun a _ => by simp [lb_0, sp_hasv], fun a _ => by simp [lb_0, sp_hasv], by simp [sp_gd], fun k => by simp [lb_0, sp_gf]⟩
    · have hg : g < K.length := by
        have := (List.getElem?_eq_some_iff.mp e).1
        rw [List.length_append] at this
        have h1 : g < K.length + 1 := this
        omega
      rw [List.getElem?_append_left hg] at e
      simp only [q, and_false, if_false]
      exact c g key' e
def mUpd (τ : rv_S) (g : Nat) (l h : Int64) (m : Int32) (f : Int64) : rv_S := rv_sW (rv_sU (rv_sW (rv_sW τ 31 g l) 32 g h) 33 g m) 34 g f
theorem mUpd.same (τ : rv_S) (g : Nat) (l h : Int64) (m : Int32) (f : Int64) : rv_same [] [31, 32, 33, 34] τ (mUpd τ g l h m f) := (((rv_same.w (by decide)).tr (.w (by decide))).tr (.u (by decide))).tr (.w (by decide))
theorem mGr.upd {σ : rv_S} {C : sp_C} {dep : Nat → Nat} {x g : Nat} {P : List sp_Q} {K : List Nat} {q : sp_Q} {l h f : Int64} {m : Int32} (H : mGr σ C dep x P K) (hn : K.Nodup) (hg : K[g]? = some (sp_key C q)) (hl : ∀ a, a < 50 → lb l a = (lb (σ.2.2 31 g) a || (q.2 x == some a))) (hh : ∀ a, a < 50 → lb h a = (lb (σ.2.2 32 g) a || (q.2 x == some (50 + a)))) (hm : m = nI (if sp_gd dep C.its (sp_grp C P (sp_key C q)) < sp_mxd dep (sp_atk C.its q.1) then sp_mxd dep (sp_atk C.its q.1) else sp_gd dep C.its (sp_grp C P (sp_key C q)))) (hf : ∀ k, lb f k = (lb (σ.2.2 34 g) k || decide (k ∈ sp_atk C.its q.1))) : mGr (mUpd σ g l h m f) C dep x (P ++ [q]) K := by
  obtain ⟨a, b, c⟩ := H
  refine ⟨a, b, fun g' key e => ?_⟩
  unfold mUpd
  simp only [rv_sW_2, rv_sW_3, rv_sU_2, rv_sU_3]
  by_cases e2 : g' = g
  · subst e2
    rw [hg] at e
    cases e
    obtain ⟨c1, c2, c3, c4, c5, c6⟩ := c g' _ hg
    rw [sp_grp_snoc]
    simp only [if_true, and_self]
    refine ⟨c1, by simpa using c2, fun a ha => ?_, fun a ha => ?_, ?_, fun k => ?_⟩
    · rw [sp_hasv_snoc, ← c3 a ha]; simpa using hl a ha
    · rw [sp_hasv_snoc, ← c4 a ha]; simpa using hh a ha
    · rw [sp_gd_snoc, ← hm]
    · rw [sp_gf_snoc, ← c6 k]; simpa using hf k
  · have hne : sp_key C q ≠ key := fun q1 => e2 (sp_nd_inj hn e (by rw [hg, q1]))
    rw [sp_grp_snoc_ne hne]
    simp only [e2, and_false, if_false]
    exact c g' key e
theorem mAt.dep {σ : rv_S} {F : List Nat} {its : List sp_I} {ks : List Nat} {w : sp_V} {todo : List (List Nat × sp_V)} {dep : Nat → Nat} (h : mAt σ F its ks w todo) (hd : mDep σ dep) : ∀ k, k ∈ sp_atk its ks → σ.2.1 35 k = nI (dep k) := fun k hk => by
  obtain ⟨i, hi⟩ := List.getElem?_of_mem (sp_atk_sub hk)
  exact hd.1 k (h.tri.2 i k hi).2
/-- what a head's terms are by a match -/
theorem sp_wfC.known {S F : List Nat} {C : sp_C} (h : sp_wfC S C) {v : sp_V} {q : sp_Q} (hq : q ∈ sp_m F C.its v) : (∀ t, t ∈ C.hts → t < 200 → (sp_val q.2 t).isSome = true) ∧ ∀ t, t ∈ C.hts → 200 ≤ t → (q.2 ((t - 200) % 8)).isSome = true := by
  have hh := (sp_has.mat h.its (sp_has_none v) q hq).1
  have hs := h.hsnd
  rw [List.all_eq_true] at hs
  refine ⟨fun t ht h2 => ?_, fun t ht h2 => ?_⟩
  · have := hs t ht
    unfold sp_hknT at this
    rw [if_neg (by omega)] at this
    exact hh.val this
  · have := hs t ht
    unfold sp_hknT at this
    rw [if_pos h2, decide_eq_false (show ¬ t < 100 by omega), Bool.false_or] at this
    exact hh _ this
theorem sp_some_eq {y a : Nat} {p : Prop} [Decidable p] (h : p ↔ y = a) : decide p = (some y == some a) := by
  by_cases e : y = a
  · rw [decide_eq_true (h.mpr e), e]
    simp
  · rw [decide_eq_false (fun q => e (h.mp q))]
    simp [e]
theorem sp_some_ne {y a : Nat} (h : y ≠ a) : false = (some y == some a) := by simp [h]
theorem m_gatherAll {G : rv_G} (hG : rv_GK G) {d : Nat} (hd : 6 ≤ d) {σ : rv_S} {S F : List Nat} {b s t : Nat} {C : sp_C} {dep : Nat → Nat} (hB : mBF σ S F b C) (hdp : mDep σ dep) (hs : sp_gslot C.hts 0 = some s) (ht : C.hts[s]? = some t) : mC G d yX4_gatherAll wX4_gatherAll [.int (nI b)] σ (mPv (fun τ => rv_same [31, 32, 33, 34, 39] [26, 27, 28, 29, 30, 31, 32, 33, 34] σ τ ∧ ∃ P R, P ++ R = sp_m F C.its (fun _ => none) ∧ mGr τ C dep ((t - 200) % 8) P (sp_keys C P) ∧ (R = [] ∨ (sp_keys C P).length = 61))) := by
  refine mv_start hG (by decide +kernel) (Nat.le_of_ble_eq_true rfl) (fun X Hb o hX1 hX hE => ?_)
  subst hX1
  show rv_V X (rv_mh Hb o _) 0 [some (.ref o), some (.int (nI b)), none, none, none, none] []
  obtain ⟨_, t', ht', ht2⟩ := sp_gslot_get hs
  have ht200 : 200 ≤ t := by
    rw [Nat.sub_zero] at ht'
    rw [ht] at ht'
    cases ht'
    exact ht2
  have hlen := hB.2.2.2.1.len
  have hb17 := hB.2.2.2.2
  have htm := List.mem_of_getElem? ht
  have ht232 := hB.2.2.2.1.hts.1 t htm
  have hs3 := (List.getElem?_eq_some_iff.mp ht).1
  have hbds := hB.hd.bds
  have upd : ∀ (τ : rv_S) (P : List sp_Q) (K : List Nat) (q : sp_Q) (g y : Nat) (T : List sp_Q) (x3 x5 : Option Value), mCfg τ S F b (fun p => p) C.its → mDep τ dep → mAt τ F C.its q.1 q.2 T → mGr τ C dep ((t - 200) % 8) P K → K.Nodup → K[g]? = some (sp_key C q) → q.2 ((t - 200) % 8) = some y → (∀ (τ' : rv_S) (x : Option Value), rv_same [] [31, 32, 33, 34] τ τ' → mGr τ' C dep ((t - 200) % 8) (P ++ [q]) K → rv_V X (rv_mh Hb o τ') 39 [some (.ref o), some (.int (nI b)), some (.int (nI (t - 200))), x3, some (.int (nI g)), x] []) → rv_V X (rv_mh Hb o τ) 149 [some (.ref o), some (.int (nI b)), some (.int (nI (t - 200))), x3, some (.int (nI g)), x5] [] := by
    intro τ P K q g y T x3 x5 hc hdp' hm hgr hnd hg hy cont
    have hv := hm.val
    have hy100 := hv.2 _ y hy
    have hg61 : g < 61 := by
      have := (List.getElem?_eq_some_iff.mp hg).1
      have := hgr.2.1
      omega
    have hS2 : ∀ l h, rv_same [] [31, 32] τ (rv_sW (rv_sW τ 31 g l) 32 g h) := fun l h => (rv_same.w (by decide)).tr (.w (by decide))
    have hS3 : ∀ l h m, rv_same [] [31, 32, 33] τ (rv_sU (rv_sW (rv_sW τ 31 g l) 32 g h) 33 g m) := fun l h m => ((rv_same.w (by decide)).tr (.w (by decide))).tr (.u (by decide))
    have hgd := sp_gd_le (its := C.its) hdp'.2 (sp_grp C P (sp_key C q))
    have hmd := sp_mxd_le hdp'.2 (sp_atk C.its q.1)
    have hgr2 := hgr.2.2 g _ hg
    refine rv_aload_n hX dX4_gatherAll_149 rfl ?_
    refine mv_ga hX (k := 37) (j := 28) gX4_91_X4 (by decide) rfl (by decide) dX4_gatherAll_150 ?_
    refine rv_iload_n hX dX4_gatherAll_153 rfl ?_
    refine nv_bipush hX (m := 8) (by decide) dX4_gatherAll_154 ?_
    first | refine nv_irem hX (by omega) (by omega) (by omega) dX4_gatherAll_156 ?_ | refine rv_irem hX dX4_gatherAll_156 (by decide) ?_
    refine mv_ld hX (j := 28) (by decide) (by decide) rfl (by decide) (show _ < 8 by omega) dX4_gatherAll_157 ?_
    rw [hv.1 _ (by omega), hy]
    show rv_V X _ _ _ (.int (nI y) :: _)
    refine rv_istore hX dX4_gatherAll_158 (rv_st_5 rfl) ?_
    refine rv_aload_n hX dX4_gatherAll_160 rfl ?_
    refine mv_ga hX (k := 41) (j := 31) gX4_100_X4 (by decide) rfl (by decide) dX4_gatherAll_161 ?_
    refine rv_iload hX dX4_gatherAll_164 rfl ?_
    refine rv_dup2 hX dX4_gatherAll_166 rfl rfl ?_
    refine mv_lld hX (j := 31) (by decide) (by decide) rfl (by decide) (show _ < 62 by omega) dX4_gatherAll_167 ?_
    refine rv_iload hX dX4_gatherAll_168 rfl ?_
    refine nv_bipush hX (m := 50) (by decide) dX4_gatherAll_170 ?_
    first | refine nv_icmp_ge hX 182 (by omega) (by omega) dX4_gatherAll_172 (by decide) (fun c_172 => ?_) (fun c_172 => ?_) | refine rv_icmp_ge hX 182 dX4_gatherAll_172 (by decide) (fun c_172 => ?_) (fun c_172 => ?_)
    · skip
      refine rv_lconst hX (v := 0) dX4_gatherAll_182 rfl ?_
      refine rv_lor hX dX4_gatherAll_183 ?_
      refine mv_lst hX (j := 31) (by decide) (by decide) rfl (by decide) (show _ < 62 by omega) dX4_gatherAll_184 ?_
      refine rv_aload_n hX dX4_gatherAll_185 rfl ?_
      refine mv_ga hX (k := 42) (j := 32) gX4_104_X4 (by decide) rfl (by decide) dX4_gatherAll_186 ?_
      refine rv_iload hX dX4_gatherAll_189 rfl ?_
      refine rv_dup2 hX dX4_gatherAll_191 rfl rfl ?_
      refine mv_lld hX (j := 32) (by decide) (by decide) rfl (by decide) (show _ < 62 by omega) dX4_gatherAll_192 ?_
      refine rv_iload hX dX4_gatherAll_193 rfl ?_
      refine nv_bipush hX (m := 50) (by decide) dX4_gatherAll_195 ?_
      first | refine nv_icmp_ge hX 204 (by omega) (by omega) dX4_gatherAll_197 (by decide) (fun c_197 => ?_) (fun c_197 => ?_) | refine rv_icmp_ge hX 204 dX4_gatherAll_197 (by decide) (fun c_197 => ?_) (fun c_197 => ?_)
      · skip
        refine rv_lconst hX (v := 1) dX4_gatherAll_204 rfl ?_
        refine rv_iload hX dX4_gatherAll_205 rfl ?_
        refine nv_bipush hX (m := 50) (by decide) dX4_gatherAll_207 ?_
        first | refine nv_isub hX (by omega) dX4_gatherAll_209 ?_ | refine rv_isub hX dX4_gatherAll_209 ?_
        refine rv_lshl hX dX4_gatherAll_210 ?_
        refine rv_lor hX dX4_gatherAll_211 ?_
        refine mv_lst hX (j := 32) (by decide) (by decide) rfl (by decide) (show _ < 62 by omega) dX4_gatherAll_212 ?_
        refine rv_aload_n hX dX4_gatherAll_213 rfl ?_
        refine mv_ga hX (k := 43) (j := 33) gX4_107_X4 (by decide) rfl (by decide) dX4_gatherAll_214 ?_
        refine rv_iload hX dX4_gatherAll_217 rfl ?_
        refine rv_aload_n hX dX4_gatherAll_219 rfl ?_
        refine mv_ga hX (k := 43) (j := 33) gX4_107_X4 (by decide) rfl (by decide) dX4_gatherAll_220 ?_
        refine rv_iload hX dX4_gatherAll_223 rfl ?_
        refine mv_ld hX (j := 33) (by decide) (by decide) rfl (by decide) (show _ < 62 by omega) dX4_gatherAll_225 ?_
        rw [(hS2 _ _).2.1 33 (by decide), hgr2.2.2.2.2.1]
        refine rv_aload_n hX dX4_gatherAll_226 rfl ?_
        refine mv_calli hX iX4_225 rfl mdX4_matchDepth (m_matchDepth hG (d := d - 1) (by omega) (hc.same (hS2 _ _) (by decide) (by decide)) (hm.same (hS2 _ _) (by decide) (by decide)).tri ((hm.same (hS2 _ _) (by decide) (by decide)).dep (hdp'.same (hS2 _ _) (by decide))) hdp'.2) (by omega) rfl rfl (Nat.le_of_ble_eq_true rfl) dX4_gatherAll_227 (fun r_227 τ_227 h_227 => ?_)
        obtain ⟨rfl, rfl⟩ := h_227
        first | refine nv_icmp_ge hX 240 (by omega) (by omega) dX4_gatherAll_230 (by decide) (fun c_230 => ?_) (fun c_230 => ?_) | refine rv_icmp_ge hX 240 dX4_gatherAll_230 (by decide) (fun c_230 => ?_) (fun c_230 => ?_)
        · skip
          refine rv_aload_n hX dX4_gatherAll_240 rfl ?_
          refine mv_ga hX (k := 43) (j := 33) gX4_107_X4 (by decide) rfl (by decide) dX4_gatherAll_241 ?_
          refine rv_iload hX dX4_gatherAll_244 rfl ?_
          refine mv_ld hX (j := 33) (by decide) (by decide) rfl (by decide) (show _ < 62 by omega) dX4_gatherAll_246 ?_
          first
            | rw [(hS2 _ _).2.1 33 (by decide), hgr2.2.2.2.2.1]
            | skip
          refine mv_st hX (j := 33) (by decide) (by decide) rfl (by decide) (show _ < 62 by omega) dX4_gatherAll_247 ?_
          refine rv_aload_n hX dX4_gatherAll_248 rfl ?_
          refine mv_ga hX (k := 44) (j := 34) gX4_110_X4 (by decide) rfl (by decide) dX4_gatherAll_249 ?_
          refine rv_iload hX dX4_gatherAll_252 rfl ?_
          refine rv_dup2 hX dX4_gatherAll_254 rfl rfl ?_
          refine mv_lld hX (j := 34) (by decide) (by decide) rfl (by decide) (show _ < 62 by omega) dX4_gatherAll_255 ?_
          refine rv_aload_n hX dX4_gatherAll_256 rfl ?_
          refine mv_calll hX iX4_229 rfl mdX4_matchFacts (m_matchFacts hG (d := d - 1) (by omega) (hc.same (hS3 _ _ _) (by decide) (by decide)) (hm.same (hS3 _ _ _) (by decide) (by decide)).tri) (by omega) rfl rfl (Nat.le_of_ble_eq_true rfl) dX4_gatherAll_257 (fun r_257 τ_257 h_257 => ?_)
          obtain ⟨rfl, hf⟩ := h_257
          refine rv_lor hX dX4_gatherAll_260 ?_
          refine mv_lst hX (j := 34) (by decide) (by decide) rfl (by decide) (show _ < 62 by omega) dX4_gatherAll_261 ?_
          refine rv_goto hX 39 dX4_gatherAll_262 (by decide) ?_
          first
            | (exfalso; omega)
            | (refine cont _ _ (mUpd.same _ _ _ _ _ _) (hgr.upd hnd hg (fun a ha => ?_) (fun a ha => ?_) ?_ (fun k => ?_))
               · first
                   | (rw [lb_or, lb_one (by omega), hy]; congr 1; exact sp_some_eq (by omega))
                   | (rw [lb_or, lb_0, hy]; congr 1; exact sp_some_ne (by omega))
               · show lb (τ.2.2 32 g ||| _) a = _
                 first
                   | (rw [lb_or, lb_one (by omega), hy]; congr 1; exact sp_some_eq (by omega))
                   | (rw [lb_or, lb_0, hy]; congr 1; exact sp_some_ne (by omega))
               · first
                   | rw [if_pos (by omega)]
                   | rw [if_neg (by omega)]
               · show lb (τ.2.2 34 g ||| _) k = _
                 rw [lb_or, hf])
        · skip
          refine rv_aload_n hX dX4_gatherAll_233 rfl ?_
          refine mv_calli hX iX4_225 rfl mdX4_matchDepth (m_matchDepth hG (d := d - 1) (by omega) (hc.same (hS2 _ _) (by decide) (by decide)) (hm.same (hS2 _ _) (by decide) (by decide)).tri ((hm.same (hS2 _ _) (by decide) (by decide)).dep (hdp'.same (hS2 _ _) (by decide))) hdp'.2) (by omega) rfl rfl (Nat.le_of_ble_eq_true rfl) dX4_gatherAll_234 (fun r_234 τ_234 h_234 => ?_)
          obtain ⟨rfl, rfl⟩ := h_234
          refine rv_goto hX 247 dX4_gatherAll_237 (by decide) ?_
          first
            | rw [(hS2 _ _).2.1 33 (by decide), hgr2.2.2.2.2.1]
            | skip
          refine mv_st hX (j := 33) (by decide) (by decide) rfl (by decide) (show _ < 62 by omega) dX4_gatherAll_247 ?_
          refine rv_aload_n hX dX4_gatherAll_248 rfl ?_
          refine mv_ga hX (k := 44) (j := 34) gX4_110_X4 (by decide) rfl (by decide) dX4_gatherAll_249 ?_
          refine rv_iload hX dX4_gatherAll_252 rfl ?_
          refine rv_dup2 hX dX4_gatherAll_254 rfl rfl ?_
          refine mv_lld hX (j := 34) (by decide) (by decide) rfl (by decide) (show _ < 62 by omega) dX4_gatherAll_255 ?_
          refine rv_aload_n hX dX4_gatherAll_256 rfl ?_
          refine mv_calll hX iX4_229 rfl mdX4_matchFacts (m_matchFacts hG (d := d - 1) (by omega) (hc.same (hS3 _ _ _) (by decide) (by decide)) (hm.same (hS3 _ _ _) (by decide) (by decide)).tri) (by omega) rfl rfl (Nat.le_of_ble_eq_true rfl) dX4_gatherAll_257 (fun r_257 τ_257 h_257 => ?_)
          obtain ⟨rfl, hf⟩ := h_257
          refine rv_lor hX dX4_gatherAll_260 ?_
          refine mv_lst hX (j := 34) (by decide) (by decide) rfl (by decide) (show _ < 62 by omega) dX4_gatherAll_261 ?_
          refine rv_goto hX 39 dX4_gatherAll_262 (by decide) ?_
          first
            | (exfalso; omega)
            | (refine cont _ _ (mUpd.same _ _ _ _ _ _) (hgr.upd hnd hg (fun a ha => ?_) (fun a ha => ?_) ?_ (fun k => ?_))
               · first
                   | (rw [lb_or, lb_one (by omega), hy]; congr 1; exact sp_some_eq (by omega))
                   | (rw [lb_or, lb_0, hy]; congr 1; exact sp_some_ne (by omega))
               · show lb (τ.2.2 32 g ||| _) a = _
                 first
                   | (rw [lb_or, lb_one (by omega), hy]; congr 1; exact sp_some_eq (by omega))
                   | (rw [lb_or, lb_0, hy]; congr 1; exact sp_some_ne (by omega))
               · first
                   | rw [if_pos (by omega)]
                   | rw [if_neg (by omega)]
               · show lb (τ.2.2 34 g ||| _) k = _
                 rw [lb_or, hf])
      · skip
        refine rv_lconst hX (v := 0) dX4_gatherAll_200 rfl ?_
        refine rv_goto hX 211 dX4_gatherAll_201 (by decide) ?_
        refine rv_lor hX dX4_gatherAll_211 ?_
        refine mv_lst hX (j := 32) (by decide) (by decide) rfl (by decide) (show _ < 62 by omega) dX4_gatherAll_212 ?_
        refine rv_aload_n hX dX4_gatherAll_213 rfl ?_
        refine mv_ga hX (k := 43) (j := 33) gX4_107_X4 (by decide) rfl (by decide) dX4_gatherAll_214 ?_
        refine rv_iload hX dX4_gatherAll_217 rfl ?_
        refine rv_aload_n hX dX4_gatherAll_219 rfl ?_
        refine mv_ga hX (k := 43) (j := 33) gX4_107_X4 (by decide) rfl (by decide) dX4_gatherAll_220 ?_
        refine rv_iload hX dX4_gatherAll_223 rfl ?_
        refine mv_ld hX (j := 33) (by decide) (by decide) rfl (by decide) (show _ < 62 by omega) dX4_gatherAll_225 ?_
        rw [(hS2 _ _).2.1 33 (by decide), hgr2.2.2.2.2.1]
        refine rv_aload_n hX dX4_gatherAll_226 rfl ?_
        refine mv_calli hX iX4_225 rfl mdX4_matchDepth (m_matchDepth hG (d := d - 1) (by omega) (hc.same (hS2 _ _) (by decide) (by decide)) (hm.same (hS2 _ _) (by decide) (by decide)).tri ((hm.same (hS2 _ _) (by decide) (by decide)).dep (hdp'.same (hS2 _ _) (by decide))) hdp'.2) (by omega) rfl rfl (Nat.le_of_ble_eq_true rfl) dX4_gatherAll_227 (fun r_227 τ_227 h_227 => ?_)
        obtain ⟨rfl, rfl⟩ := h_227
        first | refine nv_icmp_ge hX 240 (by omega) (by omega) dX4_gatherAll_230 (by decide) (fun c_230 => ?_) (fun c_230 => ?_) | refine rv_icmp_ge hX 240 dX4_gatherAll_230 (by decide) (fun c_230 => ?_) (fun c_230 => ?_)
        · skip
          refine rv_aload_n hX dX4_gatherAll_240 rfl ?_
          refine mv_ga hX (k := 43) (j := 33) gX4_107_X4 (by decide) rfl (by decide) dX4_gatherAll_241 ?_
          refine rv_iload hX dX4_gatherAll_244 rfl ?_
          refine mv_ld hX (j := 33) (by decide) (by decide) rfl (by decide) (show _ < 62 by omega) dX4_gatherAll_246 ?_
          first
            | rw [(hS2 _ _).2.1 33 (by decide), hgr2.2.2.2.2.1]
            | skip
          refine mv_st hX (j := 33) (by decide) (by decide) rfl (by decide) (show _ < 62 by omega) dX4_gatherAll_247 ?_
          refine rv_aload_n hX dX4_gatherAll_248 rfl ?_
          refine mv_ga hX (k := 44) (j := 34) gX4_110_X4 (by decide) rfl (by decide) dX4_gatherAll_249 ?_
          refine rv_iload hX dX4_gatherAll_252 rfl ?_
          refine rv_dup2 hX dX4_gatherAll_254 rfl rfl ?_
          refine mv_lld hX (j := 34) (by decide) (by decide) rfl (by decide) (show _ < 62 by omega) dX4_gatherAll_255 ?_
          refine rv_aload_n hX dX4_gatherAll_256 rfl ?_
          refine mv_calll hX iX4_229 rfl mdX4_matchFacts (m_matchFacts hG (d := d - 1) (by omega) (hc.same (hS3 _ _ _) (by decide) (by decide)) (hm.same (hS3 _ _ _) (by decide) (by decide)).tri) (by omega) rfl rfl (Nat.le_of_ble_eq_true rfl) dX4_gatherAll_257 (fun r_257 τ_257 h_257 => ?_)
          obtain ⟨rfl, hf⟩ := h_257
          refine rv_lor hX dX4_gatherAll_260 ?_
          refine mv_lst hX (j := 34) (by decide) (by decide) rfl (by decide) (show _ < 62 by omega) dX4_gatherAll_261 ?_
          refine rv_goto hX 39 dX4_gatherAll_262 (by decide) ?_
          first
            | (exfalso; omega)
            | (refine cont _ _ (mUpd.same _ _ _ _ _ _) (hgr.upd hnd hg (fun a ha => ?_) (fun a ha => ?_) ?_ (fun k => ?_))
               · first
                   | (rw [lb_or, lb_one (by omega), hy]; congr 1; exact sp_some_eq (by omega))
                   | (rw [lb_or, lb_0, hy]; congr 1; exact sp_some_ne (by omega))
               · show lb (τ.2.2 32 g ||| _) a = _
                 first
                   | (rw [lb_or, lb_one (by omega), hy]; congr 1; exact sp_some_eq (by omega))
                   | (rw [lb_or, lb_0, hy]; congr 1; exact sp_some_ne (by omega))
               · first
                   | rw [if_pos (by omega)]
                   | rw [if_neg (by omega)]
               · show lb (τ.2.2 34 g ||| _) k = _
                 rw [lb_or, hf])
        · skip
          refine rv_aload_n hX dX4_gatherAll_233 rfl ?_
          refine mv_calli hX iX4_225 rfl mdX4_matchDepth (m_matchDepth hG (d := d - 1) (by omega) (hc.same (hS2 _ _) (by decide) (by decide)) (hm.same (hS2 _ _) (by decide) (by decide)).tri ((hm.same (hS2 _ _) (by decide) (by decide)).dep (hdp'.same (hS2 _ _) (by decide))) hdp'.2) (by omega) rfl rfl (Nat.le_of_ble_eq_true rfl) dX4_gatherAll_234 (fun r_234 τ_234 h_234 => ?_)
          obtain ⟨rfl, rfl⟩ := h_234
          refine rv_goto hX 247 dX4_gatherAll_237 (by decide) ?_
          first
            | rw [(hS2 _ _).2.1 33 (by decide), hgr2.2.2.2.2.1]
            | skip
          refine mv_st hX (j := 33) (by decide) (by decide) rfl (by decide) (show _ < 62 by omega) dX4_gatherAll_247 ?_
          refine rv_aload_n hX dX4_gatherAll_248 rfl ?_
          refine mv_ga hX (k := 44) (j := 34) gX4_110_X4 (by decide) rfl (by decide) dX4_gatherAll_249 ?_
          refine rv_iload hX dX4_gatherAll_252 rfl ?_
          refine rv_dup2 hX dX4_gatherAll_254 rfl rfl ?_
          refine mv_lld hX (j := 34) (by decide) (by decide) rfl (by decide) (show _ < 62 by omega) dX4_gatherAll_255 ?_
          refine rv_aload_n hX dX4_gatherAll_256 rfl ?_
          refine mv_calll hX iX4_229 rfl mdX4_matchFacts (m_matchFacts hG (d := d - 1) (by omega) (hc.same (hS3 _ _ _) (by decide) (by decide)) (hm.same (hS3 _ _ _) (by decide) (by decide)).tri) (by omega) rfl rfl (Nat.le_of_ble_eq_true rfl) dX4_gatherAll_257 (fun r_257 τ_257 h_257 => ?_)
          obtain ⟨rfl, hf⟩ := h_257
          refine rv_lor hX dX4_gatherAll_260 ?_
          refine mv_lst hX (j := 34) (by decide) (by decide) rfl (by decide) (show _ < 62 by omega) dX4_gatherAll_261 ?_
          refine rv_goto hX 39 dX4_gatherAll_262 (by decide) ?_
          first
            | (exfalso; omega)
            | (refine cont _ _ (mUpd.same _ _ _ _ _ _) (hgr.upd hnd hg (fun a ha => ?_) (fun a ha => ?_) ?_ (fun k => ?_))
               · first
                   | (rw [lb_or, lb_one (by omega), hy]; congr 1; exact sp_some_eq (by omega))
                   | (rw [lb_or, lb_0, hy]; congr 1; exact sp_some_ne (by omega))
               · show lb (τ.2.2 32 g ||| _) a = _
                 first
                   | (rw [lb_or, lb_one (by omega), hy]; congr 1; exact sp_some_eq (by omega))
                   | (rw [lb_or, lb_0, hy]; congr 1; exact sp_some_ne (by omega))
               · first
                   | rw [if_pos (by omega)]
                   | rw [if_neg (by omega)]
               · show lb (τ.2.2 34 g ||| _) k = _
                 rw [lb_or, hf])
    · skip
      refine rv_lconst hX (v := 1) dX4_gatherAll_175 rfl ?_
      refine rv_iload hX dX4_gatherAll_176 rfl ?_
      refine rv_lshl hX dX4_gatherAll_178 ?_
      refine rv_goto hX 183 dX4_gatherAll_179 (by decide) ?_
      refine rv_lor hX dX4_gatherAll_183 ?_
      refine mv_lst hX (j := 31) (by decide) (by decide) rfl (by decide) (show _ < 62 by omega) dX4_gatherAll_184 ?_
      refine rv_aload_n hX dX4_gatherAll_185 rfl ?_
      refine mv_ga hX (k := 42) (j := 32) gX4_104_X4 (by decide) rfl (by decide) dX4_gatherAll_186 ?_
      refine rv_iload hX dX4_gatherAll_189 rfl ?_
      refine rv_dup2 hX dX4_gatherAll_191 rfl rfl ?_
      refine mv_lld hX (j := 32) (by decide) (by decide) rfl (by decide) (show _ < 62 by omega) dX4_gatherAll_192 ?_
      refine rv_iload hX dX4_gatherAll_193 rfl ?_
      refine nv_bipush hX (m := 50) (by decide) dX4_gatherAll_195 ?_
      first | refine nv_icmp_ge hX 204 (by omega) (by omega) dX4_gatherAll_197 (by decide) (fun c_197 => ?_) (fun c_197 => ?_) | refine rv_icmp_ge hX 204 dX4_gatherAll_197 (by decide) (fun c_197 => ?_) (fun c_197 => ?_)
      · skip
        refine rv_lconst hX (v := 1) dX4_gatherAll_204 rfl ?_
        refine rv_iload hX dX4_gatherAll_205 rfl ?_
        refine nv_bipush hX (m := 50) (by decide) dX4_gatherAll_207 ?_
        first | refine nv_isub hX (by omega) dX4_gatherAll_209 ?_ | refine rv_isub hX dX4_gatherAll_209 ?_
        refine rv_lshl hX dX4_gatherAll_210 ?_
        refine rv_lor hX dX4_gatherAll_211 ?_
        refine mv_lst hX (j := 32) (by decide) (by decide) rfl (by decide) (show _ < 62 by omega) dX4_gatherAll_212 ?_
        refine rv_aload_n hX dX4_gatherAll_213 rfl ?_
        refine mv_ga hX (k := 43) (j := 33) gX4_107_X4 (by decide) rfl (by decide) dX4_gatherAll_214 ?_
        refine rv_iload hX dX4_gatherAll_217 rfl ?_
        refine rv_aload_n hX dX4_gatherAll_219 rfl ?_
        refine mv_ga hX (k := 43) (j := 33) gX4_107_X4 (by decide) rfl (by decide) dX4_gatherAll_220 ?_
        refine rv_iload hX dX4_gatherAll_223 rfl ?_
        refine mv_ld hX (j := 33) (by decide) (by decide) rfl (by decide) (show _ < 62 by omega) dX4_gatherAll_225 ?_
        rw [(hS2 _ _).2.1 33 (by decide), hgr2.2.2.2.2.1]
        refine rv_aload_n hX dX4_gatherAll_226 rfl ?_
        refine mv_calli hX iX4_225 rfl mdX4_matchDepth (m_matchDepth hG (d := d - 1) (by omega) (hc.same (hS2 _ _) (by decide) (by decide)) (hm.same (hS2 _ _) (by decide) (by decide)).tri ((hm.same (hS2 _ _) (by decide) (by decide)).dep (hdp'.same (hS2 _ _) (by decide))) hdp'.2) (by omega) rfl rfl (Nat.le_of_ble_eq_true rfl) dX4_gatherAll_227 (fun r_227 τ_227 h_227 => ?_)
        obtain ⟨rfl, rfl⟩ := h_227
        first | refine nv_icmp_ge hX 240 (by omega) (by omega) dX4_gatherAll_230 (by decide) (fun c_230 => ?_) (fun c_230 => ?_) | refine rv_icmp_ge hX 240 dX4_gatherAll_230 (by decide) (fun c_230 => ?_) (fun c_230 => ?_)
        · skip
          refine rv_aload_n hX dX4_gatherAll_240 rfl ?_
          refine mv_ga hX (k := 43) (j := 33) gX4_107_X4 (by decide) rfl (by decide) dX4_gatherAll_241 ?_
          refine rv_iload hX dX4_gatherAll_244 rfl ?_
          refine mv_ld hX (j := 33) (by decide) (by decide) rfl (by decide) (show _ < 62 by omega) dX4_gatherAll_246 ?_
          first
            | rw [(hS2 _ _).2.1 33 (by decide), hgr2.2.2.2.2.1]
            | skip
          refine mv_st hX (j := 33) (by decide) (by decide) rfl (by decide) (show _ < 62 by omega) dX4_gatherAll_247 ?_
          refine rv_aload_n hX dX4_gatherAll_248 rfl ?_
          refine mv_ga hX (k := 44) (j := 34) gX4_110_X4 (by decide) rfl (by decide) dX4_gatherAll_249 ?_
          refine rv_iload hX dX4_gatherAll_252 rfl ?_
          refine rv_dup2 hX dX4_gatherAll_254 rfl rfl ?_
          refine mv_lld hX (j := 34) (by decide) (by decide) rfl (by decide) (show _ < 62 by omega) dX4_gatherAll_255 ?_
          refine rv_aload_n hX dX4_gatherAll_256 rfl ?_
          refine mv_calll hX iX4_229 rfl mdX4_matchFacts (m_matchFacts hG (d := d - 1) (by omega) (hc.same (hS3 _ _ _) (by decide) (by decide)) (hm.same (hS3 _ _ _) (by decide) (by decide)).tri) (by omega) rfl rfl (Nat.le_of_ble_eq_true rfl) dX4_gatherAll_257 (fun r_257 τ_257 h_257 => ?_)
          obtain ⟨rfl, hf⟩ := h_257
          refine rv_lor hX dX4_gatherAll_260 ?_
          refine mv_lst hX (j := 34) (by decide) (by decide) rfl (by decide) (show _ < 62 by omega) dX4_gatherAll_261 ?_
          refine rv_goto hX 39 dX4_gatherAll_262 (by decide) ?_
          first
            | (exfalso; omega)
            | (refine cont _ _ (mUpd.same _ _ _ _ _ _) (hgr.upd hnd hg (fun a ha => ?_) (fun a ha => ?_) ?_ (fun k => ?_))
               · first
                   | (rw [lb_or, lb_one (by omega), hy]; congr 1; exact sp_some_eq (by omega))
                   | (rw [lb_or, lb_0, hy]; congr 1; exact sp_some_ne (by omega))
               · show lb (τ.2.2 32 g ||| _) a = _
                 first
                   | (rw [lb_or, lb_one (by omega), hy]; congr 1; exact sp_some_eq (by omega))
                   | (rw [lb_or, lb_0, hy]; congr 1; exact sp_some_ne (by omega))
               · first
                   | rw [if_pos (by omega)]
                   | rw [if_neg (by omega)]
               · show lb (τ.2.2 34 g ||| _) k = _
                 rw [lb_or, hf])
        · skip
          refine rv_aload_n hX dX4_gatherAll_233 rfl ?_
          refine mv_calli hX iX4_225 rfl mdX4_matchDepth (m_matchDepth hG (d := d - 1) (by omega) (hc.same (hS2 _ _) (by decide) (by decide)) (hm.same (hS2 _ _) (by decide) (by decide)).tri ((hm.same (hS2 _ _) (by decide) (by decide)).dep (hdp'.same (hS2 _ _) (by decide))) hdp'.2) (by omega) rfl rfl (Nat.le_of_ble_eq_true rfl) dX4_gatherAll_234 (fun r_234 τ_234 h_234 => ?_)
          obtain ⟨rfl, rfl⟩ := h_234
          refine rv_goto hX 247 dX4_gatherAll_237 (by decide) ?_
          first
            | rw [(hS2 _ _).2.1 33 (by decide), hgr2.2.2.2.2.1]
            | skip
          refine mv_st hX (j := 33) (by decide) (by decide) rfl (by decide) (show _ < 62 by omega) dX4_gatherAll_247 ?_
          refine rv_aload_n hX dX4_gatherAll_248 rfl ?_
          refine mv_ga hX (k := 44) (j := 34) gX4_110_X4 (by decide) rfl (by decide) dX4_gatherAll_249 ?_
          refine rv_iload hX dX4_gatherAll_252 rfl ?_
          refine rv_dup2 hX dX4_gatherAll_254 rfl rfl ?_
          refine mv_lld hX (j := 34) (by decide) (by decide) rfl (by decide) (show _ < 62 by omega) dX4_gatherAll_255 ?_
          refine rv_aload_n hX dX4_gatherAll_256 rfl ?_
          refine mv_calll hX iX4_229 rfl mdX4_matchFacts (m_matchFacts hG (d := d - 1) (by omega) (hc.same (hS3 _ _ _) (by decide) (by decide)) (hm.same (hS3 _ _ _) (by decide) (by decide)).tri) (by omega) rfl rfl (Nat.le_of_ble_eq_true rfl) dX4_gatherAll_257 (fun r_257 τ_257 h_257 => ?_)
          obtain ⟨rfl, hf⟩ := h_257
          refine rv_lor hX dX4_gatherAll_260 ?_
          refine mv_lst hX (j := 34) (by decide) (by decide) rfl (by decide) (show _ < 62 by omega) dX4_gatherAll_261 ?_
          refine rv_goto hX 39 dX4_gatherAll_262 (by decide) ?_
          first
            | (exfalso; omega)
            | (refine cont _ _ (mUpd.same _ _ _ _ _ _) (hgr.upd hnd hg (fun a ha => ?_) (fun a ha => ?_) ?_ (fun k => ?_))
               · first
                   | (rw [lb_or, lb_one (by omega), hy]; congr 1; exact sp_some_eq (by omega))
                   | (rw [lb_or, lb_0, hy]; congr 1; exact sp_some_ne (by omega))
               · show lb (τ.2.2 32 g ||| _) a = _
                 first
                   | (rw [lb_or, lb_one (by omega), hy]; congr 1; exact sp_some_eq (by omega))
                   | (rw [lb_or, lb_0, hy]; congr 1; exact sp_some_ne (by omega))
               · first
                   | rw [if_pos (by omega)]
                   | rw [if_neg (by omega)]
               · show lb (τ.2.2 34 g ||| _) k = _
                 rw [lb_or, hf])
      · skip
        refine rv_lconst hX (v := 0) dX4_gatherAll_200 rfl ?_
        refine rv_goto hX 211 dX4_gatherAll_201 (by decide) ?_
        refine rv_lor hX dX4_gatherAll_211 ?_
        refine mv_lst hX (j := 32) (by decide) (by decide) rfl (by decide) (show _ < 62 by omega) dX4_gatherAll_212 ?_
        refine rv_aload_n hX dX4_gatherAll_213 rfl ?_
        refine mv_ga hX (k := 43) (j := 33) gX4_107_X4 (by decide) rfl (by decide) dX4_gatherAll_214 ?_
        refine rv_iload hX dX4_gatherAll_217 rfl ?_
        refine rv_aload_n hX dX4_gatherAll_219 rfl ?_
        refine mv_ga hX (k := 43) (j := 33) gX4_107_X4 (by decide) rfl (by decide) dX4_gatherAll_220 ?_
        refine rv_iload hX dX4_gatherAll_223 rfl ?_
        refine mv_ld hX (j := 33) (by decide) (by decide) rfl (by decide) (show _ < 62 by omega) dX4_gatherAll_225 ?_
        rw [(hS2 _ _).2.1 33 (by decide), hgr2.2.2.2.2.1]
        refine rv_aload_n hX dX4_gatherAll_226 rfl ?_
        refine mv_calli hX iX4_225 rfl mdX4_matchDepth (m_matchDepth hG (d := d - 1) (by omega) (hc.same (hS2 _ _) (by decide) (by decide)) (hm.same (hS2 _ _) (by decide) (by decide)).tri ((hm.same (hS2 _ _) (by decide) (by decide)).dep (hdp'.same (hS2 _ _) (by decide))) hdp'.2) (by omega) rfl rfl (Nat.le_of_ble_eq_true rfl) dX4_gatherAll_227 (fun r_227 τ_227 h_227 => ?_)
        obtain ⟨rfl, rfl⟩ := h_227
        first | refine nv_icmp_ge hX 240 (by omega) (by omega) dX4_gatherAll_230 (by decide) (fun c_230 => ?_) (fun c_230 => ?_) | refine rv_icmp_ge hX 240 dX4_gatherAll_230 (by decide) (fun c_230 => ?_) (fun c_230 => ?_)
        · skip
          refine rv_aload_n hX dX4_gatherAll_240 rfl ?_
          refine mv_ga hX (k := 43) (j := 33) gX4_107_X4 (by decide) rfl (by decide) dX4_gatherAll_241 ?_
          refine rv_iload hX dX4_gatherAll_244 rfl ?_
          refine mv_ld hX (j := 33) (by decide) (by decide) rfl (by decide) (show _ < 62 by omega) dX4_gatherAll_246 ?_
          first
            | rw [(hS2 _ _).2.1 33 (by decide), hgr2.2.2.2.2.1]
            | skip
          refine mv_st hX (j := 33) (by decide) (by decide) rfl (by decide) (show _ < 62 by omega) dX4_gatherAll_247 ?_
          refine rv_aload_n hX dX4_gatherAll_248 rfl ?_
          refine mv_ga hX (k := 44) (j := 34) gX4_110_X4 (by decide) rfl (by decide) dX4_gatherAll_249 ?_
          refine rv_iload hX dX4_gatherAll_252 rfl ?_
          refine rv_dup2 hX dX4_gatherAll_254 rfl rfl ?_
          refine mv_lld hX (j := 34) (by decide) (by decide) rfl (by decide) (show _ < 62 by omega) dX4_gatherAll_255 ?_
          refine rv_aload_n hX dX4_gatherAll_256 rfl ?_
          refine mv_calll hX iX4_229 rfl mdX4_matchFacts (m_matchFacts hG (d := d - 1) (by omega) (hc.same (hS3 _ _ _) (by decide) (by decide)) (hm.same (hS3 _ _ _) (by decide) (by decide)).tri) (by omega) rfl rfl (Nat.le_of_ble_eq_true rfl) dX4_gatherAll_257 (fun r_257 τ_257 h_257 => ?_)
          obtain ⟨rfl, hf⟩ := h_257
          refine rv_lor hX dX4_gatherAll_260 ?_
          refine mv_lst hX (j := 34) (by decide) (by decide) rfl (by decide) (show _ < 62 by omega) dX4_gatherAll_261 ?_
          refine rv_goto hX 39 dX4_gatherAll_262 (by decide) ?_
          first
            | (exfalso; omega)
            | (refine cont _ _ (mUpd.same _ _ _ _ _ _) (hgr.upd hnd hg (fun a ha => ?_) (fun a ha => ?_) ?_ (fun k => ?_))
               · first
                   | (rw [lb_or, lb_one (by omega), hy]; congr 1; exact sp_some_eq (by omega))
                   | (rw [lb_or, lb_0, hy]; congr 1; exact sp_some_ne (by omega))
               · show lb (τ.2.2 32 g ||| _) a = _
                 first
                   | (rw [lb_or, lb_one (by omega), hy]; congr 1; exact sp_some_eq (by omega))
                   | (rw [lb_or, lb_0, hy]; congr 1; exact sp_some_ne (by omega))
               · first
                   | rw [if_pos (by omega)]
                   | rw [if_neg (by omega)]
               · show lb (τ.2.2 34 g ||| _) k = _
                 rw [lb_or, hf])
        · skip
          refine rv_aload_n hX dX4_gatherAll_233 rfl ?_
          refine mv_calli hX iX4_225 rfl mdX4_matchDepth (m_matchDepth hG (d := d - 1) (by omega) (hc.same (hS2 _ _) (by decide) (by decide)) (hm.same (hS2 _ _) (by decide) (by decide)).tri ((hm.same (hS2 _ _) (by decide) (by decide)).dep (hdp'.same (hS2 _ _) (by decide))) hdp'.2) (by omega) rfl rfl (Nat.le_of_ble_eq_true rfl) dX4_gatherAll_234 (fun r_234 τ_234 h_234 => ?_)
          obtain ⟨rfl, rfl⟩ := h_234
          refine rv_goto hX 247 dX4_gatherAll_237 (by decide) ?_
          first
            | rw [(hS2 _ _).2.1 33 (by decide), hgr2.2.2.2.2.1]
            | skip
          refine mv_st hX (j := 33) (by decide) (by decide) rfl (by decide) (show _ < 62 by omega) dX4_gatherAll_247 ?_
          refine rv_aload_n hX dX4_gatherAll_248 rfl ?_
          refine mv_ga hX (k := 44) (j := 34) gX4_110_X4 (by decide) rfl (by decide) dX4_gatherAll_249 ?_
          refine rv_iload hX dX4_gatherAll_252 rfl ?_
          refine rv_dup2 hX dX4_gatherAll_254 rfl rfl ?_
          refine mv_lld hX (j := 34) (by decide) (by decide) rfl (by decide) (show _ < 62 by omega) dX4_gatherAll_255 ?_
          refine rv_aload_n hX dX4_gatherAll_256 rfl ?_
          refine mv_calll hX iX4_229 rfl mdX4_matchFacts (m_matchFacts hG (d := d - 1) (by omega) (hc.same (hS3 _ _ _) (by decide) (by decide)) (hm.same (hS3 _ _ _) (by decide) (by decide)).tri) (by omega) rfl rfl (Nat.le_of_ble_eq_true rfl) dX4_gatherAll_257 (fun r_257 τ_257 h_257 => ?_)
          obtain ⟨rfl, hf⟩ := h_257
          refine rv_lor hX dX4_gatherAll_260 ?_
          refine mv_lst hX (j := 34) (by decide) (by decide) rfl (by decide) (show _ < 62 by omega) dX4_gatherAll_261 ?_
          refine rv_goto hX 39 dX4_gatherAll_262 (by decide) ?_
          first
            | (exfalso; omega)
            | (refine cont _ _ (mUpd.same _ _ _ _ _ _) (hgr.upd hnd hg (fun a ha => ?_) (fun a ha => ?_) ?_ (fun k => ?_))
               · first
                   | (rw [lb_or, lb_one (by omega), hy]; congr 1; exact sp_some_eq (by omega))
                   | (rw [lb_or, lb_0, hy]; congr 1; exact sp_some_ne (by omega))
               · show lb (τ.2.2 32 g ||| _) a = _
                 first
                   | (rw [lb_or, lb_one (by omega), hy]; congr 1; exact sp_some_eq (by omega))
                   | (rw [lb_or, lb_0, hy]; congr 1; exact sp_some_ne (by omega))
               · first
                   | rw [if_pos (by omega)]
                   | rw [if_neg (by omega)]
               · show lb (τ.2.2 34 g ||| _) k = _
                 rw [lb_or, hf])
  have inner : ∀ (τ : rv_S) (K : List Nat) (key : Nat) (x5 : Option Value), τ.1 39 = nI K.length → K.length ≤ 61 → (∀ (g k : Nat), K[g]? = some k → τ.2.1 30 g = nI k ∧ k < 8000000) → key < 8000000 → (∀ g, g ≤ K.length → (∀ j, j < g → K[j]? ≠ some key) → (g < K.length → K[g]? = some key) → rv_V X (rv_mh Hb o τ) 90 [some (.ref o), some (.int (nI b)), some (.int (nI (t - 200))), some (.int (nI key)), some (.int (nI g)), x5] []) → ∀ n g, K.length - g < n → g ≤ K.length → (∀ j, j < g → K[j]? ≠ some key) → rv_V X (rv_mh Hb o τ) 64 [some (.ref o), some (.int (nI b)), some (.int (nI (t - 200))), some (.int (nI key)), some (.int (nI g)), x5] [] := by
    intro τ K key x5 hK hK61 hKk hkey cont n
    induction n with
    | zero => intro g h1; omega
    | succ n ih =>
      intro g h1 h2 h3
      refine rv_iload hX dX4_gatherAll_64 rfl ?_
      refine rv_aload_n hX dX4_gatherAll_66 rfl ?_
      refine mv_gi hX (k := 39) gX4_208_X4 (by decide) rfl dX4_gatherAll_67 ?_
      rw [hK]
      first | refine nv_icmp_ge hX 90 (by omega) (by omega) dX4_gatherAll_70 (by decide) (fun c_70 => ?_) (fun c_70 => ?_) | refine rv_icmp_ge hX 90 dX4_gatherAll_70 (by decide) (fun c_70 => ?_) (fun c_70 => ?_)
      · skip
        first
          | exact cont g h2 h3 (fun h => absurd h (by omega))
          | exact cont g h2 h3 (fun _ => by rw [hk, c_81])
      · skip
        obtain ⟨k, hk⟩ : ∃ k, K[g]? = some k := ⟨K[g], List.getElem?_eq_getElem (by omega)⟩
        obtain ⟨hk1, hk2⟩ := hKk g k hk
        refine rv_aload_n hX dX4_gatherAll_73 rfl ?_
        refine mv_ga hX (k := 40) (j := 30) gX4_97_X4 (by decide) rfl (by decide) dX4_gatherAll_74 ?_
        refine rv_iload hX dX4_gatherAll_77 rfl ?_
        refine mv_ld hX (j := 30) (by decide) (by decide) rfl (by decide) (show _ < 62 by omega) dX4_gatherAll_79 ?_
        rw [hk1]
        refine rv_iload_n hX dX4_gatherAll_80 rfl ?_
        first | refine nv_icmp_eq hX 90 (by omega) (by omega) dX4_gatherAll_81 (by decide) (fun c_81 => ?_) (fun c_81 => ?_) | refine rv_icmp_eq hX 90 dX4_gatherAll_81 (by decide) (fun c_81 => ?_) (fun c_81 => ?_)
        · skip
          first
            | exact cont g h2 h3 (fun h => absurd h (by omega))
            | exact cont g h2 h3 (fun _ => by rw [hk, c_81])
        · skip
          first | refine nv_iinc hX (m := 1) dX4_gatherAll_84 rfl (by decide) (rv_st_4 rfl) ?_ | refine rv_iinc hX dX4_gatherAll_84 rfl rfl (rv_st_4 rfl) ?_
          refine rv_goto hX 64 dX4_gatherAll_87 (by decide) ?_
          refine ih (g + 1) (by omega) (by omega) (fun j hj => ?_)
          by_cases e : j = g
          · subst e
            rw [hk]
            exact fun q => c_81 (Option.some.inj q)
          · exact h3 j (by omega)
  have loop : ∀ (n : Nat) (P R : List sp_Q) (τ : rv_S) (x3 x4 x5 : Option Value), R.length < n → P ++ R = sp_m F C.its (fun _ => none) → mRun τ F C.its R → rv_same [31, 32, 33, 34, 39] [26, 27, 28, 29, 30, 31, 32, 33, 34] σ τ → mCfg τ S F b (fun p => p) C.its → mGr τ C dep ((t - 200) % 8) P (sp_keys C P) → rv_V X (rv_mh Hb o τ) 39 [some (.ref o), some (.int (nI b)), some (.int (nI (t - 200))), x3, x4, x5] [] := by
    intro n
    induction n with
    | zero => intro P R τ x3 x4 x5 h; omega
    | succ n ih =>
      intro P R τ x3 x4 x5 hn hPR hr hsm hc hgr
      have hK61 := hgr.2.1
      refine rv_aload_n hX dX4_gatherAll_39 rfl ?_
      refine mv_gi hX (k := 39) gX4_208_X4 (by decide) rfl dX4_gatherAll_40 ?_
      rw [hgr.1]
      refine nv_bipush hX (m := 60) (by decide) dX4_gatherAll_43 ?_
      first | refine nv_icmp_gt hX 265 (by omega) (by omega) dX4_gatherAll_45 (by decide) (fun c_45 => ?_) (fun c_45 => ?_) | refine rv_icmp_gt hX 265 dX4_gatherAll_45 (by decide) (fun c_45 => ?_) (fun c_45 => ?_)
      · skip
        refine mv_retv hX hE dX4_gatherAll_265 ?_
        first
          | exact ⟨hsm, P, R, hPR, hgr, Or.inr (by omega)⟩
          | (refine ⟨hsm.tr (n1.mn (by decide) (by decide)), P, R, hPR, hgr.same n1 (by decide) (by decide), Or.inl ?_⟩
             cases R with
             | nil => rfl
             | cons q T =>
               have := (n2 q.1 q.2 T rfl).1
               rw [c_52] at this
               cases this)
      · skip
        refine rv_aload_n hX dX4_gatherAll_48 rfl ?_
        refine mv_callz hX iX4_218 rfl mdX4_nextMatch (m_nextMatch hG (d := d - 1) (by omega) hc hr) (by omega) rfl rfl (Nat.le_of_ble_eq_true rfl) dX4_gatherAll_49 (fun r_49 τ_49 h_49 => ?_)
        obtain ⟨n1, n2, n3⟩ := h_49
        first | refine zv_if_eq hX 265 dX4_gatherAll_52 (by decide) (fun c_52 => ?_) (fun c_52 => ?_) | refine nv_if_eq hX 265 (by omega) dX4_gatherAll_52 (by decide) (fun c_52 => ?_) (fun c_52 => ?_) | refine rv_if_eq hX 265 dX4_gatherAll_52 (by decide) (fun c_52 => ?_) (fun c_52 => ?_)
        · skip
          refine mv_retv hX hE dX4_gatherAll_265 ?_
          first
            | exact ⟨hsm, P, R, hPR, hgr, Or.inr (by omega)⟩
            | (refine ⟨hsm.tr (n1.mn (by decide) (by decide)), P, R, hPR, hgr.same n1 (by decide) (by decide), Or.inl ?_⟩
               cases R with
               | nil => rfl
               | cons q T =>
                 have := (n2 q.1 q.2 T rfl).1
                 rw [c_52] at this
                 cases this)
        · skip
          obtain ⟨q, T, hR⟩ : ∃ q T, R = q :: T := by
            cases R with
            | nil => have := n3 rfl; rw [c_52] at this; cases this
            | cons q T => exact ⟨q, T, rfl⟩
          subst hR
          have hm := (n2 q.1 q.2 T rfl).2
          have hqm : q ∈ sp_m F C.its (fun _ => none) := by rw [← hPR]; exact List.mem_append_right _ List.mem_cons_self
          obtain ⟨kn1, kn2⟩ := hB.2.2.2.1.known hqm
          have hsm2 := hsm.tr (n1.mn (fs' := [31, 32, 33, 34, 39]) (js' := [26, 27, 28, 29, 30, 31, 32, 33, 34]) (by decide) (by decide))
          have hc2 := hc.same n1 (by decide) (by decide)
          have hgr2 := hgr.same n1 (by decide) (by decide)
          have hB2 := hB.same hsm2 (by decide)
          obtain ⟨y, hy⟩ := Option.isSome_iff_exists.mp (kn2 t htm ht200)
          have hkey : sp_key C q < 8000000 := by
            have h1 := sp_hsum_lt (g := 0) hm.val.2 (by decide) C.hts hbds.2.2.1
            have h2 := hbds.1
            unfold sp_key sp_hfact
            omega
          refine rv_aload_n hX dX4_gatherAll_55 rfl ?_
          refine rv_iload_n hX dX4_gatherAll_56 rfl ?_
          refine mv_calli hX iX4_222 rfl mdX4_headFact (m_headFact hG (d := d - 1) (by omega) hB2.hd hm.val kn1) (by omega) rfl rfl (Nat.le_of_ble_eq_true rfl) dX4_gatherAll_57 (fun r_57 τ_57 h_57 => ?_)
          obtain ⟨rfl, rfl⟩ := h_57
          show rv_V X _ _ _ (.int (nI (sp_key C q)) :: _)
          refine rv_istore_n hX dX4_gatherAll_60 (rv_st_3 rfl) ?_
          refine nv_iconst hX (m := 0) (by decide) dX4_gatherAll_61 ?_
          refine rv_istore hX dX4_gatherAll_62 (rv_st_4 rfl) ?_
          refine inner _ (sp_keys C P) (sp_key C q) x5 hgr2.1 hK61 (fun g k e => ⟨(hgr2.2.2 g k e).2.1, (hgr2.2.2 g k e).1⟩) hkey (fun g hg1 hg2 hg3 => ?_) _ 0 (Nat.lt_succ_self _) (Nat.zero_le _) (fun j hj => absurd hj (by omega))
          have hks := sp_keys_snoc C P q
          refine rv_iload hX dX4_gatherAll_90 rfl ?_
          refine rv_aload_n hX dX4_gatherAll_92 rfl ?_
          refine mv_gi hX (k := 39) gX4_208_X4 (by decide) rfl dX4_gatherAll_93 ?_
          rw [hgr2.1]
          first | refine nv_icmp_ne hX 149 (by omega) (by omega) dX4_gatherAll_96 (by decide) (fun c_96 => ?_) (fun c_96 => ?_) | refine rv_icmp_ne hX 149 dX4_gatherAll_96 (by decide) (fun c_96 => ?_) (fun c_96 => ?_)
          · skip
            first
              | (have hin := hg3 (by omega)
                 have hks2 : sp_keys C (P ++ [q]) = sp_keys C P := by
                   rw [hks]
                   unfold sp_ddf
                   rw [if_pos (List.mem_of_getElem? hin)]
                 refine upd _ P (sp_keys C P) q g y T _ x5 hc2 (hdp.same hsm2 (by decide)) hm hgr2 (sp_dd_nd _) hin hy (fun τ' x' e1 e2 => ?_)
                 refine ih (P ++ [q]) T τ' _ _ x' (by have : T.length + 1 < n + 1 := hn; omega) (by rw [List.append_assoc]; exact hPR) (Or.inr ⟨q.1, q.2, hm.same e1 (by decide) (by decide)⟩) (hsm2.tr (e1.mn (by decide) (by decide))) (hc2.same e1 (by decide) (by decide)) (by rw [hks2]; exact e2))
              | (have hge : g = (sp_keys C P).length := by omega
                 have hni : sp_key C q ∉ sp_keys C P := fun hin => by
                   obtain ⟨i, hi⟩ := List.getElem?_of_mem hin
                   have := (List.getElem?_eq_some_iff.mp hi).1
                   exact hg2 i (by omega) hi
                 have hks2 : sp_keys C (P ++ [q]) = sp_keys C P ++ [sp_key C q] := by
                   rw [hks]
                   unfold sp_ddf
                   rw [if_neg hni]
                 have hnew := hgr2.new (sp_grp_nil hni) (by omega) hkey
                 have hNs := mNew.same τ_57 (sp_keys C P).length (sp_key C q) (nI ((sp_keys C P).length + 1))
                 rw [hge]
                 refine upd _ P (sp_keys C P ++ [sp_key C q]) q (sp_keys C P).length y T _ x5 (hc2.same hNs (by decide) (by decide)) (hdp.same (hsm2.tr (hNs.mn (by decide) (by decide))) (by decide)) (hm.same hNs (by decide) (by decide)) hnew (sp_nd_snoc (sp_dd_nd _) hni) (by rw [List.getElem?_append_right (Nat.le_refl _), Nat.sub_self]; rfl) hy (fun τ' x' e1 e2 => ?_)
                 refine ih (P ++ [q]) T τ' _ _ x' (by have : T.length + 1 < n + 1 := hn; omega) (by rw [List.append_assoc]; exact hPR) (Or.inr ⟨q.1, q.2, (hm.same hNs (by decide) (by decide)).same e1 (by decide) (by decide)⟩) ((hsm2.tr (hNs.mn (by decide) (by decide))).tr (e1.mn (by decide) (by decide))) ((hc2.same hNs (by decide) (by decide)).same e1 (by decide) (by decide)) (by rw [hks2]; exact e2))
          · skip
            refine rv_aload_n hX dX4_gatherAll_99 rfl ?_
            refine mv_ga hX (k := 40) (j := 30) gX4_97_X4 (by decide) rfl (by decide) dX4_gatherAll_100 ?_
            refine rv_iload hX dX4_gatherAll_103 rfl ?_
            refine rv_iload_n hX dX4_gatherAll_105 rfl ?_
            refine mv_st hX (j := 30) (by decide) (by decide) rfl (by decide) (show _ < 62 by omega) dX4_gatherAll_106 ?_
            refine rv_aload_n hX dX4_gatherAll_107 rfl ?_
            refine mv_ga hX (k := 41) (j := 31) gX4_100_X4 (by decide) rfl (by decide) dX4_gatherAll_108 ?_
            refine rv_iload hX dX4_gatherAll_111 rfl ?_
            refine rv_lconst hX (v := 0) dX4_gatherAll_113 rfl ?_
            refine mv_lst hX (j := 31) (by decide) (by decide) rfl (by decide) (show _ < 62 by omega) dX4_gatherAll_114 ?_
            refine rv_aload_n hX dX4_gatherAll_115 rfl ?_
            refine mv_ga hX (k := 42) (j := 32) gX4_104_X4 (by decide) rfl (by decide) dX4_gatherAll_116 ?_
            refine rv_iload hX dX4_gatherAll_119 rfl ?_
            refine rv_lconst hX (v := 0) dX4_gatherAll_121 rfl ?_
            refine mv_lst hX (j := 32) (by decide) (by decide) rfl (by decide) (show _ < 62 by omega) dX4_gatherAll_122 ?_
            refine rv_aload_n hX dX4_gatherAll_123 rfl ?_
            refine mv_ga hX (k := 43) (j := 33) gX4_107_X4 (by decide) rfl (by decide) dX4_gatherAll_124 ?_
            refine rv_iload hX dX4_gatherAll_127 rfl ?_
            refine nv_iconst hX (m := 0) (by decide) dX4_gatherAll_129 ?_
            refine mv_st hX (j := 33) (by decide) (by decide) rfl (by decide) (show _ < 62 by omega) dX4_gatherAll_130 ?_
            refine rv_aload_n hX dX4_gatherAll_131 rfl ?_
            refine mv_ga hX (k := 44) (j := 34) gX4_110_X4 (by decide) rfl (by decide) dX4_gatherAll_132 ?_
            refine rv_iload hX dX4_gatherAll_135 rfl ?_
            refine rv_lconst hX (v := 0) dX4_gatherAll_137 rfl ?_
            refine mv_lst hX (j := 34) (by decide) (by decide) rfl (by decide) (show _ < 62 by omega) dX4_gatherAll_138 ?_
            refine rv_aload_n hX dX4_gatherAll_139 rfl ?_
            refine rv_dup hX dX4_gatherAll_140 rfl ?_
            refine mv_gi hX (k := 39) gX4_208_X4 (by decide) rfl dX4_gatherAll_141 ?_
            rw [show ∀ τ : rv_S, (rv_sW (rv_sU (rv_sW (rv_sW (rv_sU τ 30 g (nI (sp_key C q))) 31 g 0) 32 g 0) 33 g (nI 0)) 34 g 0).1 39 = τ.1 39 from fun _ => rfl, hgr2.1]
            refine nv_iconst hX (m := 1) (by decide) dX4_gatherAll_144 ?_
            first | refine nv_iadd hX dX4_gatherAll_145 ?_ | refine rv_iadd hX dX4_gatherAll_145 ?_
            refine mv_pi hX (k := 39) pX4_208_X4 (by decide) rfl rfl rfl dX4_gatherAll_146 ?_
            first
              | (have hin := hg3 (by omega)
                 have hks2 : sp_keys C (P ++ [q]) = sp_keys C P := by
                   rw [hks]
                   unfold sp_ddf
                   rw [if_pos (List.mem_of_getElem? hin)]
                 refine upd _ P (sp_keys C P) q g y T _ x5 hc2 (hdp.same hsm2 (by decide)) hm hgr2 (sp_dd_nd _) hin hy (fun τ' x' e1 e2 => ?_)
                 refine ih (P ++ [q]) T τ' _ _ x' (by have : T.length + 1 < n + 1 := hn; omega) (by rw [List.append_assoc]; exact hPR) (Or.inr ⟨q.1, q.2, hm.same e1 (by decide) (by decide)⟩) (hsm2.tr (e1.mn (by decide) (by decide))) (hc2.same e1 (by decide) (by decide)) (by rw [hks2]; exact e2))
              | (have hge : g = (sp_keys C P).length := by omega
                 have hni : sp_key C q ∉ sp_keys C P := fun hin => by
                   obtain ⟨i, hi⟩ := List.getElem?_of_mem hin
                   have := (List.getElem?_eq_some_iff.mp hi).1
                   exact hg2 i (by omega) hi
                 have hks2 : sp_keys C (P ++ [q]) = sp_keys C P ++ [sp_key C q] := by
                   rw [hks]
                   unfold sp_ddf
                   rw [if_neg hni]
                 have hnew := hgr2.new (sp_grp_nil hni) (by omega) hkey
                 have hNs := mNew.same τ_57 (sp_keys C P).length (sp_key C q) (nI ((sp_keys C P).length + 1))
                 rw [hge]
                 refine upd _ P (sp_keys C P ++ [sp_key C q]) q (sp_keys C P).length y T _ x5 (hc2.same hNs (by decide) (by decide)) (hdp.same (hsm2.tr (hNs.mn (by decide) (by decide))) (by decide)) (hm.same hNs (by decide) (by decide)) hnew (sp_nd_snoc (sp_dd_nd _) hni) (by rw [List.getElem?_append_right (Nat.le_refl _), Nat.sub_self]; rfl) hy (fun τ' x' e1 e2 => ?_)
                 refine ih (P ++ [q]) T τ' _ _ x' (by have : T.length + 1 < n + 1 := hn; omega) (by rw [List.append_assoc]; exact hPR) (Or.inr ⟨q.1, q.2, (hm.same hNs (by decide) (by decide)).same e1 (by decide) (by decide)⟩) ((hsm2.tr (hNs.mn (by decide) (by decide))).tr (e1.mn (by decide) (by decide))) ((hc2.same hNs (by decide) (by decide)).same e1 (by decide) (by decide)) (by rw [hks2]; exact e2))
  have hF0 : rv_same [39] [] σ (rv_sF σ 39 (nI 0)) := .f (by decide)
  refine rv_aload_n hX dX4_gatherAll_0 rfl ?_
  refine mv_ga hX (k := 5) (j := 5) gX4_22_X4 (by decide) rfl (by decide) dX4_gatherAll_1 ?_
  refine nv_iconst hX (m := 3) (by decide) dX4_gatherAll_4 ?_
  refine rv_iload_n hX dX4_gatherAll_5 rfl ?_
  first | refine nv_imul hX dX4_gatherAll_6 ?_ | refine rv_imul hX dX4_gatherAll_6 ?_
  refine rv_aload_n hX dX4_gatherAll_7 rfl ?_
  refine rv_iload_n hX dX4_gatherAll_8 rfl ?_
  refine mv_calli hX iX4_205 rfl mdX4_gatheredSlot (m_gatheredSlot hG (d := d - 1) hB.hd hB.2.2.2.1.hts) (by omega) rfl rfl (Nat.le_of_ble_eq_true rfl) dX4_gatherAll_9 (fun r_9 τ_9 h_9 => ?_)
  obtain ⟨rfl, rfl⟩ := h_9
  rw [hs]
  show rv_V X _ _ _ (.int (nI s) :: _)
  first | refine nv_iadd hX dX4_gatherAll_12 ?_ | refine rv_iadd hX dX4_gatherAll_12 ?_
  refine mv_ld hX (j := 5) (by decide) (by decide) rfl (by decide) (show _ < 51 by omega) dX4_gatherAll_13 ?_
  rw [hB.2.2.1.hts s t ht]
  refine nv_sipush hX (m := 200) (by decide) dX4_gatherAll_14 ?_
  first | refine nv_isub hX (by omega) dX4_gatherAll_17 ?_ | refine rv_isub hX dX4_gatherAll_17 ?_
  refine rv_istore_n hX dX4_gatherAll_18 (rv_st_2 rfl) ?_
  refine rv_aload_n hX dX4_gatherAll_19 rfl ?_
  refine nv_iconst hX (m := 0) (by decide) dX4_gatherAll_20 ?_
  refine mv_pi hX (k := 39) pX4_208_X4 (by decide) rfl rfl rfl dX4_gatherAll_21 ?_
  refine rv_aload_n hX dX4_gatherAll_24 rfl ?_
  refine mv_callv hX iX4_211 rfl mdX4_forget (m_forget hG (d := d - 1)) (by omega) rfl rfl (Nat.le_of_ble_eq_true rfl) dX4_gatherAll_25 (fun τ_25 h_25 => ?_)
  obtain ⟨f1, f2, f3⟩ := h_25
  refine rv_aload_n hX dX4_gatherAll_28 rfl ?_
  refine rv_iload_n hX dX4_gatherAll_29 rfl ?_
  refine rv_aload_n hX dX4_gatherAll_30 rfl ?_
  refine mv_ga hX (k := 6) (j := 6) gX4_25_X4 (by decide) rfl (by decide) dX4_gatherAll_31 ?_
  refine rv_iload_n hX dX4_gatherAll_34 rfl ?_
  refine mv_ld hX (j := 6) (by decide) (by decide) rfl (by decide) (show _ < 17 by omega) dX4_gatherAll_35 ?_
  rw [f3.2.1 6 (by decide), hF0.2.1 6 (by decide), hB.2.2.1.len]
  refine mv_callv hX iX4_214 rfl mdX4_beginMatches (m_beginMatches hG (d := d - 1)) (by omega) rfl rfl (Nat.le_of_ble_eq_true rfl) dX4_gatherAll_36 (fun τ_36 h_36 => ?_)
  obtain ⟨g1, g2, g3, g4, g5, g6⟩ := h_36
  have hS1 := (hF0.mn (fs' := [31, 32, 33, 34, 39]) (js' := [26, 27, 28, 29, 30, 31, 32, 33, 34]) (by decide) (by decide)).tr (f3.mn (by decide) (by decide))
  have hS2 := hS1.tr (g6.mn (by decide) (by decide))
  refine loop _ [] _ τ_36 none none none (Nat.lt_succ_self _) rfl (Or.inl ⟨fun _ => none, ⟨f1.same g6 (by decide), f2.same g6 (by decide), g3, g4, sp_snd.okA hB.2.2.2.1.its (sp_has_none _) hB.2.2.2.1.snd⟩, rfl⟩) hS2 ((hB.same hS2 (by decide)).cfg' g1 g2 g5) ?_
  refine ⟨?_, Nat.zero_le _, fun g key e => by cases e⟩
  rw [g6.1 39 (by decide), f3.1 39 (by decide), rv_sF_1, if_pos rfl]
  rfl
