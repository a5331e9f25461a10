/-! THE REFERENCE: whether a draft is sound, 2 -/
set_option maxRecDepth 100000
theorem sp_snd_drop {kn : Nat → Bool} {its : List sp_I} {i : Nat} {it : sp_I} (h : its[i]? = some it) : sp_snd kn (its.drop i) = (sp_okI kn it && sp_snd (sp_knI kn it) (its.drop (i + 1))) := by
  rw [sp_drop_get h]
  rfl
theorem sp_kn_drop {kn : Nat → Bool} {its : List sp_I} {i : Nat} {it : sp_I} (h : its[i]? = some it) : sp_kn kn (its.drop i) = sp_kn (sp_knI kn it) (its.drop (i + 1)) := by
  rw [sp_drop_get h]
  rfl
theorem m_isSound {G : rv_G} (hG : rv_GK G) {d : Nat} (hd : 2 ≤ d) {σ : rv_S} {S : List Nat} {dr : wDr} (hS : mRel σ S) (h : mDraft σ S dr) (hw : wfD S dr) (hwh : dr.whole S) : mC G d yX4_isSound wX4_isSound [] σ (mPz (fun r τ => τ = σ ∧ r = dr.sound)) := by
  refine mv_start hG (by decide +kernel) (Nat.le_of_ble_eq_true rfl) (fun X Hb o hX1 hX hE => ?_)
  subst hX1
  show rv_V X (rv_mh Hb o _) 0 [some (.ref o), none, none, none, none, none, none, none, none, none] []
  have hS8 := hS.2.1
  have hS3 := hS.2.2.1
  obtain ⟨hits, hhl⟩ := wDr.whole_wf hS3 hwh hw
  obtain ⟨h1, h2, h3, h4, h5, h6, h7⟩ := h.2.2.2.2.2 hwh.1
  have hwH := (hw.2.2.2 hwh.1).2.2.1
  have hrel := sp_S_getD h2
  have hrel3 := hS3 _ (List.mem_of_getElem? hrel)
  have heads : ∀ (n s : Nat) (K : Int32) (kn : Nat → Bool) (b : Bool) (x4 x5 x6 x7 x8 x9 : Option Value), s ≤ dr.hts.length → dr.hts.length - s < n → sp_knb K kn → kn = sp_kn sp_none dr.its → dr.sound = (b && (dr.hts.drop s).all (sp_hknT kn)) → rv_V X (rv_mh Hb o σ) 171 [some (.ref o), some (.int K), some (.int (rv_z b)), some (.int (nI s)), x4, x5, x6, x7, x8, x9] [] := by
    intro n
    induction n with
    | zero => intro s K kn b x4 x5 x6 x7 x8 x9 g1 g2; omega
    | succ n ih =>
      intro s K kn b x4 x5 x6 x7 x8 x9 g1 g2 g3 g4 g5
      refine rv_iload_n hX dX4_isSound_171 rfl ?_
      refine rv_aload_n hX dX4_isSound_172 rfl ?_
      refine mv_ga hX (k := 2) (j := 2) gX4_13_X4 (by decide) rfl (by decide) dX4_isSound_173 ?_
      refine rv_aload_n hX dX4_isSound_176 rfl ?_
      refine mv_ga hX (k := 4) (j := 4) gX4_19_X4 (by decide) rfl (by decide) dX4_isSound_177 ?_
      refine nv_bipush hX (m := 16) (by decide) dX4_isSound_180 ?_
      refine mv_ld hX (j := 4) (by decide) (by decide) rfl (by decide) (show _ < 17 by omega) dX4_isSound_182 ?_
      rw [h1]
      refine mv_ld hX (j := 2) (by decide) (by decide) rfl (by decide) (show _ < 8 by omega) dX4_isSound_183 ?_
      rw [hS.2.2.2 _ _ hrel]
      first | refine nv_icmp_ge hX 258 (by omega) (by omega) dX4_isSound_184 (by decide) (fun c_184 => ?_) (fun c_184 => ?_) | refine rv_icmp_ge hX 258 dX4_isSound_184 (by decide) (fun c_184 => ?_) (fun c_184 => ?_)
      · skip
        refine rv_iload_n hX dX4_isSound_258 rfl ?_
        refine mv_retz hX hE rfl dX4_isSound_259 ?_
        refine ⟨rfl, ?_⟩
        rw [g5, show s = dr.hts.length by omega, List.drop_length]
        simp
      · skip
        obtain ⟨t, ht⟩ : ∃ t, dr.hts[s]? = some t := ⟨dr.hts[s]'(by omega), List.getElem?_eq_getElem (by omega)⟩
        have ht2 := hwH.1 t (List.mem_of_getElem? ht)
        have hd9 := sp_drop_get ht
        rw [hd9, List.all_cons, ← Bool.and_assoc] at g5
        refine rv_aload_n hX dX4_isSound_187 rfl ?_
        refine mv_ga hX (k := 5) (j := 5) gX4_22_X4 (by decide) rfl (by decide) dX4_isSound_188 ?_
        refine nv_bipush hX (m := 48) (by decide) dX4_isSound_191 ?_
        refine rv_iload_n hX dX4_isSound_193 rfl ?_
        first | refine nv_iadd hX dX4_isSound_194 ?_ | refine rv_iadd hX dX4_isSound_194 ?_
        refine mv_ld hX (j := 5) (by decide) (by decide) rfl (by decide) (show _ < 51 by omega) dX4_isSound_195 ?_
        rw [h6 s (by omega), sp_getD ht]
        refine rv_istore hX dX4_isSound_196 (rv_st_4 rfl) ?_
        refine rv_iload hX dX4_isSound_198 rfl ?_
        refine nv_sipush hX (m := 200) (by decide) dX4_isSound_200 ?_
        first | refine nv_icmp_lt hX 218 (by omega) (by omega) dX4_isSound_203 (by decide) (fun c_203 => ?_) (fun c_203 => ?_) | refine rv_icmp_lt hX 218 dX4_isSound_203 (by decide) (fun c_203 => ?_) (fun c_203 => ?_)
        · skip
          refine rv_iload hX dX4_isSound_218 rfl ?_
          refine nv_bipush hX (m := 100) (by decide) dX4_isSound_220 ?_
          first | refine nv_isub hX (by omega) dX4_isSound_222 ?_ | refine rv_isub hX dX4_isSound_222 ?_
          refine rv_istore hX dX4_isSound_223 (rv_st_5 rfl) ?_
          refine rv_iload_n hX dX4_isSound_225 rfl ?_
          first | refine zv_if_eq hX 250 dX4_isSound_226 (by decide) (fun c_226 => ?_) (fun c_226 => ?_) | refine nv_if_eq hX 250 (by omega) dX4_isSound_226 (by decide) (fun c_226 => ?_) (fun c_226 => ?_) | refine rv_if_eq hX 250 dX4_isSound_226 (by decide) (fun c_226 => ?_) (fun c_226 => ?_)
          · skip
            refine nv_iconst hX (m := 0) (by decide) dX4_isSound_250 ?_
            refine rv_istore_n hX dX4_isSound_251 (rv_st_2 rfl) ?_
            first | refine nv_iinc hX (m := 1) dX4_isSound_252 rfl (by decide) (rv_st_3 rfl) ?_ | refine rv_iinc hX dX4_isSound_252 rfl rfl (rv_st_3 rfl) ?_
            refine rv_goto hX 171 dX4_isSound_255 (by decide) ?_
            first
            | (have hkt : sp_hknT kn t = true := by
                 unfold sp_hknT
                 rw [decide_eq_true (show t < 100 by omega)]
                 rfl
               refine ih (s + 1) K kn true _ _ _ _ _ _ (by omega) (by omega) g3 g4 ?_
               rw [g5, c_226, hkt]
               rfl)
            | (have hkt : sp_hknT kn t = true := by
                 unfold sp_hknT
                 rw [if_pos (show 200 ≤ t by omega), ← g3 _ (by omega), (ib_test (by omega) K).mp c_243]
                 simp
               refine ih (s + 1) K kn true _ _ _ _ _ _ (by omega) (by omega) g3 g4 ?_
               rw [g5, c_226, hkt]
               rfl)
            | (have hkt : sp_hknT kn t = true := by
                 unfold sp_hknT
                 rw [if_neg (show ¬ 200 ≤ t by omega), ← g3 _ (by omega), (ib_test (by omega) K).mp c_243]
                 simp
               refine ih (s + 1) K kn true _ _ _ _ _ _ (by omega) (by omega) g3 g4 ?_
               rw [g5, c_226, hkt]
               rfl)
            | (have hkt : sp_hknT kn t = false := by
                 unfold sp_hknT
                 rw [if_pos (show 200 ≤ t by omega), ← g3 _ (by omega), decide_eq_false (show ¬ t < 100 by omega), Bool.false_or]
                 cases e : ib K ((t - 200) % 8) with
                 | false => rfl
                 | true => exact absurd ((ib_test (by omega) K).mpr e) c_243
               refine ih (s + 1) K kn false _ _ _ _ _ _ (by omega) (by omega) g3 g4 ?_
               rw [g5, hkt]
               simp)
            | (have hkt : sp_hknT kn t = false := by
                 unfold sp_hknT
                 rw [if_neg (show ¬ 200 ≤ t by omega), ← g3 _ (by omega), decide_eq_false (show ¬ t < 100 by omega), Bool.false_or]
                 cases e : ib K (t - 100) with
                 | false => rfl
                 | true => exact absurd ((ib_test (by omega) K).mpr e) c_243
               refine ih (s + 1) K kn false _ _ _ _ _ _ (by omega) (by omega) g3 g4 ?_
               rw [g5, hkt]
               simp)
            | (refine ih (s + 1) K kn false _ _ _ _ _ _ (by omega) (by omega) g3 g4 ?_
               rw [g5, c_226]
               simp)
          · skip
            refine rv_iload hX dX4_isSound_229 rfl ?_
            refine nv_bipush hX (m := 100) (by decide) dX4_isSound_231 ?_
            first | refine nv_icmp_lt hX 246 (by omega) (by omega) dX4_isSound_233 (by decide) (fun c_233 => ?_) (fun c_233 => ?_) | refine rv_icmp_lt hX 246 dX4_isSound_233 (by decide) (fun c_233 => ?_) (fun c_233 => ?_)
            · skip
              refine nv_iconst hX (m := 1) (by decide) dX4_isSound_246 ?_
              refine rv_goto hX 251 dX4_isSound_247 (by decide) ?_
              refine rv_istore_n hX dX4_isSound_251 (rv_st_2 rfl) ?_
              first | refine nv_iinc hX (m := 1) dX4_isSound_252 rfl (by decide) (rv_st_3 rfl) ?_ | refine rv_iinc hX dX4_isSound_252 rfl rfl (rv_st_3 rfl) ?_
              refine rv_goto hX 171 dX4_isSound_255 (by decide) ?_
              first
              | (have hkt : sp_hknT kn t = true := by
                   unfold sp_hknT
                   rw [decide_eq_true (show t < 100 by omega)]
                   rfl
                 refine ih (s + 1) K kn true _ _ _ _ _ _ (by omega) (by omega) g3 g4 ?_
                 rw [g5, c_226, hkt]
                 rfl)
              | (have hkt : sp_hknT kn t = true := by
                   unfold sp_hknT
                   rw [if_pos (show 200 ≤ t by omega), ← g3 _ (by omega), (ib_test (by omega) K).mp c_243]
                   simp
                 refine ih (s + 1) K kn true _ _ _ _ _ _ (by omega) (by omega) g3 g4 ?_
                 rw [g5, c_226, hkt]
                 rfl)
              | (have hkt : sp_hknT kn t = true := by
                   unfold sp_hknT
                   rw [if_neg (show ¬ 200 ≤ t by omega), ← g3 _ (by omega), (ib_test (by omega) K).mp c_243]
                   simp
                 refine ih (s + 1) K kn true _ _ _ _ _ _ (by omega) (by omega) g3 g4 ?_
                 rw [g5, c_226, hkt]
                 rfl)
              | (have hkt : sp_hknT kn t = false := by
                   unfold sp_hknT
                   rw [if_pos (show 200 ≤ t by omega), ← g3 _ (by omega), decide_eq_false (show ¬ t < 100 by omega), Bool.false_or]
                   cases e : ib K ((t - 200) % 8) with
                   | false => rfl
                   | true => exact absurd ((ib_test (by omega) K).mpr e) c_243
                 refine ih (s + 1) K kn false _ _ _ _ _ _ (by omega) (by omega) g3 g4 ?_
                 rw [g5, hkt]
                 simp)
              | (have hkt : sp_hknT kn t = false := by
                   unfold sp_hknT
                   rw [if_neg (show ¬ 200 ≤ t by omega), ← g3 _ (by omega), decide_eq_false (show ¬ t < 100 by omega), Bool.false_or]
                   cases e : ib K (t - 100) with
                   | false => rfl
                   | true => exact absurd ((ib_test (by omega) K).mpr e) c_243
                 refine ih (s + 1) K kn false _ _ _ _ _ _ (by omega) (by omega) g3 g4 ?_
                 rw [g5, hkt]
                 simp)
              | (refine ih (s + 1) K kn false _ _ _ _ _ _ (by omega) (by omega) g3 g4 ?_
                 rw [g5, c_226]
                 simp)
            · skip
              refine rv_iload_n hX dX4_isSound_236 rfl ?_
              refine rv_iload hX dX4_isSound_237 rfl ?_
              try rw [pk_sub (by omega)]
              refine rv_ishr hX dX4_isSound_239 ?_
              refine nv_iconst hX (m := 1) (by decide) dX4_isSound_240 ?_
              refine rv_iand hX dX4_isSound_241 ?_
              refine nv_iconst hX (m := 1) (by decide) dX4_isSound_242 ?_
              first | refine nv_icmp_ne hX 250 (by omega) (by omega) dX4_isSound_243 (by decide) (fun c_243 => ?_) (fun c_243 => ?_) | refine rv_icmp_ne hX 250 dX4_isSound_243 (by decide) (fun c_243 => ?_) (fun c_243 => ?_)
              · skip
                refine nv_iconst hX (m := 0) (by decide) dX4_isSound_250 ?_
                refine rv_istore_n hX dX4_isSound_251 (rv_st_2 rfl) ?_
                first | refine nv_iinc hX (m := 1) dX4_isSound_252 rfl (by decide) (rv_st_3 rfl) ?_ | refine rv_iinc hX dX4_isSound_252 rfl rfl (rv_st_3 rfl) ?_
                refine rv_goto hX 171 dX4_isSound_255 (by decide) ?_
                first
                | (have hkt : sp_hknT kn t = true := by
                     unfold sp_hknT
                     rw [decide_eq_true (show t < 100 by omega)]
                     rfl
                   refine ih (s + 1) K kn true _ _ _ _ _ _ (by omega) (by omega) g3 g4 ?_
                   rw [g5, c_226, hkt]
                   rfl)
                | (have hkt : sp_hknT kn t = true := by
                     unfold sp_hknT
                     rw [if_pos (show 200 ≤ t by omega), ← g3 _ (by omega), (ib_test (by omega) K).mp c_243]
                     simp
                   refine ih (s + 1) K kn true _ _ _ _ _ _ (by omega) (by omega) g3 g4 ?_
                   rw [g5, c_226, hkt]
                   rfl)
                | (have hkt : sp_hknT kn t = true := by
                     unfold sp_hknT
                     rw [if_neg (show ¬ 200 ≤ t by omega), ← g3 _ (by omega), (ib_test (by omega) K).mp c_243]
                     simp
                   refine ih (s + 1) K kn true _ _ _ _ _ _ (by omega) (by omega) g3 g4 ?_
                   rw [g5, c_226, hkt]
                   rfl)
                | (have hkt : sp_hknT kn t = false := by
                     unfold sp_hknT
                     rw [if_pos (show 200 ≤ t by omega), ← g3 _ (by omega), decide_eq_false (show ¬ t < 100 by omega), Bool.false_or]
                     cases e : ib K ((t - 200) % 8) with
                     | false => rfl
                     | true => exact absurd ((ib_test (by omega) K).mpr e) c_243
                   refine ih (s + 1) K kn false _ _ _ _ _ _ (by omega) (by omega) g3 g4 ?_
                   rw [g5, hkt]
                   simp)
                | (have hkt : sp_hknT kn t = false := by
                     unfold sp_hknT
                     rw [if_neg (show ¬ 200 ≤ t by omega), ← g3 _ (by omega), decide_eq_false (show ¬ t < 100 by omega), Bool.false_or]
                     cases e : ib K (t - 100) with
                     | false => rfl
                     | true => exact absurd ((ib_test (by omega) K).mpr e) c_243
                   refine ih (s + 1) K kn false _ _ _ _ _ _ (by omega) (by omega) g3 g4 ?_
                   rw [g5, hkt]
                   simp)
                | (refine ih (s + 1) K kn false _ _ _ _ _ _ (by omega) (by omega) g3 g4 ?_
                   rw [g5, c_226]
                   simp)
              · skip
                refine nv_iconst hX (m := 1) (by decide) dX4_isSound_246 ?_
                refine rv_goto hX 251 dX4_isSound_247 (by decide) ?_
                refine rv_istore_n hX dX4_isSound_251 (rv_st_2 rfl) ?_
                first | refine nv_iinc hX (m := 1) dX4_isSound_252 rfl (by decide) (rv_st_3 rfl) ?_ | refine rv_iinc hX dX4_isSound_252 rfl rfl (rv_st_3 rfl) ?_
                refine rv_goto hX 171 dX4_isSound_255 (by decide) ?_
                first
                | (have hkt : sp_hknT kn t = true := by
                     unfold sp_hknT
                     rw [decide_eq_true (show t < 100 by omega)]
                     rfl
                   refine ih (s + 1) K kn true _ _ _ _ _ _ (by omega) (by omega) g3 g4 ?_
                   rw [g5, c_226, hkt]
                   rfl)
                | (have hkt : sp_hknT kn t = true := by
                     unfold sp_hknT
                     rw [if_pos (show 200 ≤ t by omega), ← g3 _ (by omega), (ib_test (by omega) K).mp c_243]
                     simp
                   refine ih (s + 1) K kn true _ _ _ _ _ _ (by omega) (by omega) g3 g4 ?_
                   rw [g5, c_226, hkt]
                   rfl)
                | (have hkt : sp_hknT kn t = true := by
                     unfold sp_hknT
                     rw [if_neg (show ¬ 200 ≤ t by omega), ← g3 _ (by omega), (ib_test (by omega) K).mp c_243]
                     simp
                   refine ih (s + 1) K kn true _ _ _ _ _ _ (by omega) (by omega) g3 g4 ?_
                   rw [g5, c_226, hkt]
                   rfl)
                | (have hkt : sp_hknT kn t = false := by
                     unfold sp_hknT
                     rw [if_pos (show 200 ≤ t by omega), ← g3 _ (by omega), decide_eq_false (show ¬ t < 100 by omega), Bool.false_or]
                     cases e : ib K ((t - 200) % 8) with
                     | false => rfl
                     | true => exact absurd ((ib_test (by omega) K).mpr e) c_243
                   refine ih (s + 1) K kn false _ _ _ _ _ _ (by omega) (by omega) g3 g4 ?_
                   rw [g5, hkt]
                   simp)
                | (have hkt : sp_hknT kn t = false := by
                     unfold sp_hknT
                     rw [if_neg (show ¬ 200 ≤ t by omega), ← g3 _ (by omega), decide_eq_false (show ¬ t < 100 by omega), Bool.false_or]
                     cases e : ib K (t - 100) with
                     | false => rfl
                     | true => exact absurd ((ib_test (by omega) K).mpr e) c_243
                   refine ih (s + 1) K kn false _ _ _ _ _ _ (by omega) (by omega) g3 g4 ?_
                   rw [g5, hkt]
                   simp)
                | (refine ih (s + 1) K kn false _ _ _ _ _ _ (by omega) (by omega) g3 g4 ?_
                   rw [g5, c_226]
                   simp)
        · skip
          refine rv_iload hX dX4_isSound_206 rfl ?_
          refine nv_sipush hX (m := 200) (by decide) dX4_isSound_208 ?_
          first | refine nv_isub hX (by omega) dX4_isSound_211 ?_ | refine rv_isub hX dX4_isSound_211 ?_
          refine nv_bipush hX (m := 8) (by decide) dX4_isSound_212 ?_
          first | refine nv_irem hX (by omega) (by omega) (by omega) dX4_isSound_214 ?_ | refine rv_irem hX dX4_isSound_214 (by decide) ?_
          refine rv_goto hX 223 dX4_isSound_215 (by decide) ?_
          refine rv_istore hX dX4_isSound_223 (rv_st_5 rfl) ?_
          refine rv_iload_n hX dX4_isSound_225 rfl ?_
          first | refine zv_if_eq hX 250 dX4_isSound_226 (by decide) (fun c_226 => ?_) (fun c_226 => ?_) | refine nv_if_eq hX 250 (by omega) dX4_isSound_226 (by decide) (fun c_226 => ?_) (fun c_226 => ?_) | refine rv_if_eq hX 250 dX4_isSound_226 (by decide) (fun c_226 => ?_) (fun c_226 => ?_)
          · skip
            refine nv_iconst hX (m := 0) (by decide) dX4_isSound_250 ?_
            refine rv_istore_n hX dX4_isSound_251 (rv_st_2 rfl) ?_
            first | refine nv_iinc hX (m := 1) dX4_isSound_252 rfl (by decide) (rv_st_3 rfl) ?_ | refine rv_iinc hX dX4_isSound_252 rfl rfl (rv_st_3 rfl) ?_
            refine rv_goto hX 171 dX4_isSound_255 (by decide) ?_
            first
            | (have hkt : sp_hknT kn t = true := by
                 unfold sp_hknT
                 rw [decide_eq_true (show t < 100 by omega)]
                 rfl
               refine ih (s + 1) K kn true _ _ _ _ _ _ (by omega) (by omega) g3 g4 ?_
               rw [g5, c_226, hkt]
               rfl)
            | (have hkt : sp_hknT kn t = true := by
                 unfold sp_hknT
                 rw [if_pos (show 200 ≤ t by omega), ← g3 _ (by omega), (ib_test (by omega) K).mp c_243]
                 simp
               refine ih (s + 1) K kn true _ _ _ _ _ _ (by omega) (by omega) g3 g4 ?_
               rw [g5, c_226, hkt]
               rfl)
            | (have hkt : sp_hknT kn t = true := by
                 unfold sp_hknT
                 rw [if_neg (show ¬ 200 ≤ t by omega), ← g3 _ (by omega), (ib_test (by omega) K).mp c_243]
                 simp
               refine ih (s + 1) K kn true _ _ _ _ _ _ (by omega) (by omega) g3 g4 ?_
               rw [g5, c_226, hkt]
               rfl)
            | (have hkt : sp_hknT kn t = false := by
                 unfold sp_hknT
                 rw [if_pos (show 200 ≤ t by omega), ← g3 _ (by omega), decide_eq_false (show ¬ t < 100 by omega), Bool.false_or]
                 cases e : ib K ((t - 200) % 8) with
                 | false => rfl
                 | true => exact absurd ((ib_test (by omega) K).mpr e) c_243
               refine ih (s + 1) K kn false _ _ _ _ _ _ (by omega) (by omega) g3 g4 ?_
               rw [g5, hkt]
               simp)
            | (have hkt : sp_hknT kn t = false := by
                 unfold sp_hknT
                 rw [if_neg (show ¬ 200 ≤ t by omega), ← g3 _ (by omega), decide_eq_false (show ¬ t < 100 by omega), Bool.false_or]
                 cases e : ib K (t - 100) with
                 | false => rfl
                 | true => exact absurd ((ib_test (by omega) K).mpr e) c_243
               refine ih (s + 1) K kn false _ _ _ _ _ _ (by omega) (by omega) g3 g4 ?_
               rw [g5, hkt]
               simp)
            | (refine ih (s + 1) K kn false _ _ _ _ _ _ (by omega) (by omega) g3 g4 ?_
               rw [g5, c_226]
               simp)
          · skip
            refine rv_iload hX dX4_isSound_229 rfl ?_
            refine nv_bipush hX (m := 100) (by decide) dX4_isSound_231 ?_
            first | refine nv_icmp_lt hX 246 (by omega) (by omega) dX4_isSound_233 (by decide) (fun c_233 => ?_) (fun c_233 => ?_) | refine rv_icmp_lt hX 246 dX4_isSound_233 (by decide) (fun c_233 => ?_) (fun c_233 => ?_)
            · skip
              refine nv_iconst hX (m := 1) (by decide) dX4_isSound_246 ?_
              refine rv_goto hX 251 dX4_isSound_247 (by decide) ?_
              refine rv_istore_n hX dX4_isSound_251 (rv_st_2 rfl) ?_
              first | refine nv_iinc hX (m := 1) dX4_isSound_252 rfl (by decide) (rv_st_3 rfl) ?_ | refine rv_iinc hX dX4_isSound_252 rfl rfl (rv_st_3 rfl) ?_
              refine rv_goto hX 171 dX4_isSound_255 (by decide) ?_
              first
              | (have hkt : sp_hknT kn t = true := by
                   unfold sp_hknT
                   rw [decide_eq_true (show t < 100 by omega)]
                   rfl
                 refine ih (s + 1) K kn true _ _ _ _ _ _ (by omega) (by omega) g3 g4 ?_
                 rw [g5, c_226, hkt]
                 rfl)
              | (have hkt : sp_hknT kn t = true := by
                   unfold sp_hknT
                   rw [if_pos (show 200 ≤ t by omega), ← g3 _ (by omega), (ib_test (by omega) K).mp c_243]
                   simp
                 refine ih (s + 1) K kn true _ _ _ _ _ _ (by omega) (by omega) g3 g4 ?_
                 rw [g5, c_226, hkt]
                 rfl)
              | (have hkt : sp_hknT kn t = true := by
                   unfold sp_hknT
                   rw [if_neg (show ¬ 200 ≤ t by omega), ← g3 _ (by omega), (ib_test (by omega) K).mp c_243]
                   simp
                 refine ih (s + 1) K kn true _ _ _ _ _ _ (by omega) (by omega) g3 g4 ?_
                 rw [g5, c_226, hkt]
                 rfl)
              | (have hkt : sp_hknT kn t = false := by
                   unfold sp_hknT
                   rw [if_pos (show 200 ≤ t by omega), ← g3 _ (by omega), decide_eq_false (show ¬ t < 100 by omega), Bool.false_or]
                   cases e : ib K ((t - 200) % 8) with
                   | false => rfl
                   | true => exact absurd ((ib_test (by omega) K).mpr e) c_243
                 refine ih (s + 1) K kn false _ _ _ _ _ _ (by omega) (by omega) g3 g4 ?_
                 rw [g5, hkt]
                 simp)
              | (have hkt : sp_hknT kn t = false := by
                   unfold sp_hknT
                   rw [if_neg (show ¬ 200 ≤ t by omega), ← g3 _ (by omega), decide_eq_false (show ¬ t < 100 by omega), Bool.false_or]
                   cases e : ib K (t - 100) with
                   | false => rfl
                   | true => exact absurd ((ib_test (by omega) K).mpr e) c_243
                 refine ih (s + 1) K kn false _ _ _ _ _ _ (by omega) (by omega) g3 g4 ?_
                 rw [g5, hkt]
                 simp)
              | (refine ih (s + 1) K kn false _ _ _ _ _ _ (by omega) (by omega) g3 g4 ?_
                 rw [g5, c_226]
                 simp)
            · skip
              refine rv_iload_n hX dX4_isSound_236 rfl ?_
              refine rv_iload hX dX4_isSound_237 rfl ?_
              try rw [pk_sub (by omega)]
              refine rv_ishr hX dX4_isSound_239 ?_
              refine nv_iconst hX (m := 1) (by decide) dX4_isSound_240 ?_
              refine rv_iand hX dX4_isSound_241 ?_
              refine nv_iconst hX (m := 1) (by decide) dX4_isSound_242 ?_
              first | refine nv_icmp_ne hX 250 (by omega) (by omega) dX4_isSound_243 (by decide) (fun c_243 => ?_) (fun c_243 => ?_) | refine rv_icmp_ne hX 250 dX4_isSound_243 (by decide) (fun c_243 => ?_) (fun c_243 => ?_)
              · skip
                refine nv_iconst hX (m := 0) (by decide) dX4_isSound_250 ?_
                refine rv_istore_n hX dX4_isSound_251 (rv_st_2 rfl) ?_
                first | refine nv_iinc hX (m := 1) dX4_isSound_252 rfl (by decide) (rv_st_3 rfl) ?_ | refine rv_iinc hX dX4_isSound_252 rfl rfl (rv_st_3 rfl) ?_
                refine rv_goto hX 171 dX4_isSound_255 (by decide) ?_
                first
                | (have hkt : sp_hknT kn t = true := by
                     unfold sp_hknT
                     rw [decide_eq_true (show t < 100 by omega)]
                     rfl
                   refine ih (s + 1) K kn true _ _ _ _ _ _ (by omega) (by omega) g3 g4 ?_
                   rw [g5, c_226, hkt]
                   rfl)
                | (have hkt : sp_hknT kn t = true := by
                     unfold sp_hknT
                     rw [if_pos (show 200 ≤ t by omega), ← g3 _ (by omega), (ib_test (by omega) K).mp c_243]
                     simp
                   refine ih (s + 1) K kn true _ _ _ _ _ _ (by omega) (by omega) g3 g4 ?_
                   rw [g5, c_226, hkt]
                   rfl)
                | (have hkt : sp_hknT kn t = true := by
                     unfold sp_hknT
                     rw [if_neg (show ¬ 200 ≤ t by omega), ← g3 _ (by omega), (ib_test (by omega) K).mp c_243]
                     simp
                   refine ih (s + 1) K kn true _ _ _ _ _ _ (by omega) (by omega) g3 g4 ?_
                   rw [g5, c_226, hkt]
                   rfl)
                | (have hkt : sp_hknT kn t = false := by
                     unfold sp_hknT
                     rw [if_pos (show 200 ≤ t by omega), ← g3 _ (by omega), decide_eq_false (show ¬ t < 100 by omega), Bool.false_or]
                     cases e : ib K ((t - 200) % 8) with
                     | false => rfl
                     | true => exact absurd ((ib_test (by omega) K).mpr e) c_243
                   refine ih (s + 1) K kn false _ _ _ _ _ _ (by omega) (by omega) g3 g4 ?_
                   rw [g5, hkt]
                   simp)
                | (have hkt : sp_hknT kn t = false := by
                     unfold sp_hknT
                     rw [if_neg (show ¬ 200 ≤ t by omega), ← g3 _ (by omega), decide_eq_false (show ¬ t < 100 by omega), Bool.false_or]
                     cases e : ib K (t - 100) with
                     | false => rfl
                     | true => exact absurd ((ib_test (by omega) K).mpr e) c_243
                   refine ih (s + 1) K kn false _ _ _ _ _ _ (by omega) (by omega) g3 g4 ?_
                   rw [g5, hkt]
                   simp)
                | (refine ih (s + 1) K kn false _ _ _ _ _ _ (by omega) (by omega) g3 g4 ?_
                   rw [g5, c_226]
                   simp)
              · skip
                refine nv_iconst hX (m := 1) (by decide) dX4_isSound_246 ?_
                refine rv_goto hX 251 dX4_isSound_247 (by decide) ?_
                refine rv_istore_n hX dX4_isSound_251 (rv_st_2 rfl) ?_
                first | refine nv_iinc hX (m := 1) dX4_isSound_252 rfl (by decide) (rv_st_3 rfl) ?_ | refine rv_iinc hX dX4_isSound_252 rfl rfl (rv_st_3 rfl) ?_
                refine rv_goto hX 171 dX4_isSound_255 (by decide) ?_
                first
                | (have hkt : sp_hknT kn t = true := by
                     unfold sp_hknT
                     rw [decide_eq_true (show t < 100 by omega)]
                     rfl
                   refine ih (s + 1) K kn true _ _ _ _ _ _ (by omega) (by omega) g3 g4 ?_
                   rw [g5, c_226, hkt]
                   rfl)
                | (have hkt : sp_hknT kn t = true := by
                     unfold sp_hknT
                     rw [if_pos (show 200 ≤ t by omega), ← g3 _ (by omega), (ib_test (by omega) K).mp c_243]
                     simp
                   refine ih (s + 1) K kn true _ _ _ _ _ _ (by omega) (by omega) g3 g4 ?_
                   rw [g5, c_226, hkt]
                   rfl)
                | (have hkt : sp_hknT kn t = true := by
                     unfold sp_hknT
                     rw [if_neg (show ¬ 200 ≤ t by omega), ← g3 _ (by omega), (ib_test (by omega) K).mp c_243]
                     simp
                   refine ih (s + 1) K kn true _ _ _ _ _ _ (by omega) (by omega) g3 g4 ?_
                   rw [g5, c_226, hkt]
                   rfl)
                | (have hkt : sp_hknT kn t = false := by
                     unfold sp_hknT
                     rw [if_pos (show 200 ≤ t by omega), ← g3 _ (by omega), decide_eq_false (show ¬ t < 100 by omega), Bool.false_or]
                     cases e : ib K ((t - 200) % 8) with
                     | false => rfl
                     | true => exact absurd ((ib_test (by omega) K).mpr e) c_243
                   refine ih (s + 1) K kn false _ _ _ _ _ _ (by omega) (by omega) g3 g4 ?_
                   rw [g5, hkt]
                   simp)
                | (have hkt : sp_hknT kn t = false := by
                     unfold sp_hknT
                     rw [if_neg (show ¬ 200 ≤ t by omega), ← g3 _ (by omega), decide_eq_false (show ¬ t < 100 by omega), Bool.false_or]
                     cases e : ib K (t - 100) with
                     | false => rfl
                     | true => exact absurd ((ib_test (by omega) K).mpr e) c_243
                   refine ih (s + 1) K kn false _ _ _ _ _ _ (by omega) (by omega) g3 g4 ?_
                   rw [g5, hkt]
                   simp)
                | (refine ih (s + 1) K kn false _ _ _ _ _ _ (by omega) (by omega) g3 g4 ?_
                   rw [g5, c_226]
                   simp)
  have items : ∀ (n i : Nat) (K : Int32) (kn : Nat → Bool) (b : Bool) (x4 x5 x6 x7 x8 x9 : Option Value), i ≤ dr.its.length → dr.its.length - i < n → sp_knb K kn → sp_kn kn (dr.its.drop i) = sp_kn sp_none dr.its → sp_snd sp_none dr.its = (b && sp_snd kn (dr.its.drop i)) → rv_V X (rv_mh Hb o σ) 6 [some (.ref o), some (.int K), some (.int (rv_z b)), some (.int (nI i)), x4, x5, x6, x7, x8, x9] [] := by
    intro n
    induction n with
    | zero => intro i K kn b x4 x5 x6 x7 x8 x9 g1 g2; omega
    | succ n ih =>
      intro i K kn b x4 x5 x6 x7 x8 x9 g1 g2 g3 g4 g5
      refine rv_iload_n hX dX4_isSound_6 rfl ?_
      refine rv_aload_n hX dX4_isSound_7 rfl ?_
      refine mv_ga hX (k := 6) (j := 6) gX4_25_X4 (by decide) rfl (by decide) dX4_isSound_8 ?_
      refine nv_bipush hX (m := 16) (by decide) dX4_isSound_11 ?_
      refine mv_ld hX (j := 6) (by decide) (by decide) rfl (by decide) (show _ < 17 by omega) dX4_isSound_13 ?_
      rw [h3]
      first | refine nv_icmp_ge hX 169 (by omega) (by omega) dX4_isSound_14 (by decide) (fun c_14 => ?_) (fun c_14 => ?_) | refine rv_icmp_ge hX 169 dX4_isSound_14 (by decide) (fun c_14 => ?_) (fun c_14 => ?_)
      · skip
        refine nv_iconst hX (m := 0) (by decide) dX4_isSound_169 ?_
        refine rv_istore_n hX dX4_isSound_170 (rv_st_3 rfl) ?_
        have hie : i = dr.its.length := by omega
        rw [hie, List.drop_length] at g4 g5
        refine heads _ 0 K kn b _ _ _ _ _ _ (Nat.zero_le _) (Nat.lt_succ_self _) g3 g4 ?_
        unfold wDr.sound
        rw [g5, ← g4, List.drop_zero]
        simp [sp_snd, sp_kn]
      · skip
        obtain ⟨it, hit⟩ : ∃ it, dr.its[i]? = some it := ⟨dr.its[i], List.getElem?_eq_getElem (by omega)⟩
        have hI := h7 i it hit
        have hwI := hits it (List.mem_of_getElem? hit)
        have hk3 := hwI.1
        refine rv_aload_n hX dX4_isSound_17 rfl ?_
        refine nv_bipush hX (m := 16) (by decide) dX4_isSound_18 ?_
        refine rv_iload_n hX dX4_isSound_20 rfl ?_
        refine mv_calli hX iX4_148 rfl mdX4_kindOf (m_kindOf hG (d := d - 1) (by omega)) (by omega) rfl rfl (Nat.le_of_ble_eq_true rfl) dX4_isSound_21 (fun r_21 τ_21 h_21 => ?_)
        obtain ⟨e21, rfl⟩ := h_21
        rw [e21, hI.1]
        refine rv_istore hX dX4_isSound_24 (rv_st_4 rfl) ?_
        refine nv_iconst hX (m := 0) (by decide) dX4_isSound_26 ?_
        refine rv_istore hX dX4_isSound_27 (rv_st_5 rfl) ?_
        refine nv_iconst hX (m := 0) (by decide) dX4_isSound_29 ?_
        refine rv_istore hX dX4_isSound_30 (rv_st_6 rfl) ?_
        have hlen := hwI.len hS3
        rw [sp_kn_drop hit] at g4
        rw [sp_snd_drop hit, ← Bool.and_assoc] at g5
        have terms : ∀ (m j : Nat) (O : Int32) (c : Bool) (x7 x8 x9 : Option Value), j ≤ it.2.2.length → it.2.2.length - j < m → (∀ x, x < 8 → ib O x = sp_ownj it j x) → c = (b && sp_okj kn it j) → rv_V X (rv_mh Hb o σ) 32 [some (.ref o), some (.int K), some (.int (rv_z c)), some (.int (nI i)), some (.int (nI it.1)), some (.int O), some (.int (nI j)), x7, x8, x9] [] := by
          intro m
          induction m with
          | zero => intro j O c x7 x8 x9 e1 e2; omega
          | succ m ihm =>
            intro j O c x7 x8 x9 e1 e2 e3 e4
            have hown := fun x => sp_ownj_succ it j x
            have hok := sp_okj_succ kn it j
            refine rv_iload hX dX4_isSound_32 rfl ?_
            refine rv_aload_n hX dX4_isSound_34 rfl ?_
            refine nv_bipush hX (m := 16) (by decide) dX4_isSound_35 ?_
            refine rv_iload_n hX dX4_isSound_37 rfl ?_
            refine mv_calli hX iX4_299 rfl mdX4_termsOf (m_termsOf hG (d := d - 1) (by omega) (by omega) hS hI hwI) (by omega) rfl rfl (Nat.le_of_ble_eq_true rfl) dX4_isSound_38 (fun r_38 τ_38 h_38 => ?_)
            obtain ⟨e38, rfl⟩ := h_38
            rw [e38]
            first | refine nv_icmp_ge hX 158 (by omega) (by omega) dX4_isSound_41 (by decide) (fun c_41 => ?_) (fun c_41 => ?_) | refine rv_icmp_ge hX 158 dX4_isSound_41 (by decide) (fun c_41 => ?_) (fun c_41 => ?_)
            · skip
              refine rv_iload_n hX dX4_isSound_158 rfl ?_
              refine rv_iload hX dX4_isSound_159 rfl ?_
              refine rv_ior hX dX4_isSound_161 ?_
              refine rv_istore_n hX dX4_isSound_162 (rv_st_1 rfl) ?_
              first | refine nv_iinc hX (m := 1) dX4_isSound_163 rfl (by decide) (rv_st_3 rfl) ?_ | refine rv_iinc hX dX4_isSound_163 rfl rfl (rv_st_3 rfl) ?_
              refine rv_goto hX 6 dX4_isSound_166 (by decide) ?_
              have hje : j = it.2.2.length := by omega
              refine ih (i + 1) (K ||| O) (sp_knI kn it) c _ _ _ _ _ _ (by omega) (by omega) (fun x hx => ?_) g4 ?_
              · rw [ib_or, g3 x hx, e3 x hx, hje]
                exact sp_ownj_all hwI kn x
              · rw [g5, e4, hje, sp_okj_all hwI]
            · skip
              obtain ⟨t, ht⟩ : ∃ t, it.2.2[j]? = some t := ⟨it.2.2[j]'(by omega), List.getElem?_eq_getElem (by omega)⟩
              have ht8 := hwI.2.2.2.2 t (List.mem_of_getElem? ht)
              rw [sp_getD ht] at hok
              refine rv_aload_n hX dX4_isSound_44 rfl ?_
              refine nv_bipush hX (m := 16) (by decide) dX4_isSound_45 ?_
              refine rv_iload_n hX dX4_isSound_47 rfl ?_
              refine rv_iload hX dX4_isSound_48 rfl ?_
              refine mv_calli hX iX4_172 rfl mdX4_termOf (m_termOf hG (d := d - 1) (by omega)) (by omega) rfl rfl (Nat.le_of_ble_eq_true rfl) dX4_isSound_50 (fun r_50 τ_50 h_50 => ?_)
              obtain ⟨e50, rfl⟩ := h_50
              rw [e50, hI.2.2 j t ht]
              refine rv_istore hX dX4_isSound_53 (rv_st_7 rfl) ?_
              refine rv_iload hX dX4_isSound_55 rfl ?_
              refine nv_bipush hX (m := 100) (by decide) dX4_isSound_57 ?_
              first | refine nv_icmp_lt hX 66 (by omega) (by omega) dX4_isSound_59 (by decide) (fun c_59 => ?_) (fun c_59 => ?_) | refine rv_icmp_lt hX 66 dX4_isSound_59 (by decide) (fun c_59 => ?_) (fun c_59 => ?_)
              · skip
                refine nv_iconst hX (m := 0) (by decide) dX4_isSound_66 ?_
                refine rv_istore hX dX4_isSound_67 (rv_st_8 rfl) ?_
                refine rv_iload hX dX4_isSound_69 rfl ?_
                first | refine zv_if_eq hX 86 dX4_isSound_71 (by decide) (fun c_71 => ?_) (fun c_71 => ?_) | refine nv_if_eq hX 86 (by omega) dX4_isSound_71 (by decide) (fun c_71 => ?_) (fun c_71 => ?_) | refine rv_if_eq hX 86 dX4_isSound_71 (by decide) (fun c_71 => ?_) (fun c_71 => ?_)
                · skip
                  have hB : sp_bnd it j = true := by
                    unfold sp_bnd
                    simp <;> omega
                  refine nv_iconst hX (m := 1) (by decide) dX4_isSound_86 ?_
                  refine rv_goto hX 91 dX4_isSound_87 (by decide) ?_
                  refine rv_istore hX dX4_isSound_91 (rv_st_9 rfl) ?_
                  refine rv_iload_n hX dX4_isSound_93 rfl ?_
                  first | refine zv_if_eq hX 124 dX4_isSound_94 (by decide) (fun c_94 => ?_) (fun c_94 => ?_) | refine nv_if_eq hX 124 (by omega) dX4_isSound_94 (by decide) (fun c_94 => ?_) (fun c_94 => ?_) | refine rv_if_eq hX 124 dX4_isSound_94 (by decide) (fun c_94 => ?_) (fun c_94 => ?_)
                  · skip
                    refine nv_iconst hX (m := 0) (by decide) dX4_isSound_124 ?_
                    refine rv_istore_n hX dX4_isSound_125 (rv_st_2 rfl) ?_
                    refine rv_iload hX dX4_isSound_126 rfl ?_
                    refine rv_iload hX dX4_isSound_128 rfl ?_
                    refine rv_if_eq hX 148 dX4_isSound_130 (by decide) (fun _ => ?_) (fun q => absurd q (by decide))
                    refine nv_iconst hX (m := 0) (by decide) dX4_isSound_148 ?_
                    refine rv_ior hX dX4_isSound_149 ?_
                    refine rv_istore hX dX4_isSound_150 (rv_st_5 rfl) ?_
                    first | refine nv_iinc hX (m := 1) dX4_isSound_152 rfl (by decide) (rv_st_6 rfl) ?_ | refine rv_iinc hX dX4_isSound_152 rfl rfl (rv_st_6 rfl) ?_
                    refine rv_goto hX 32 dX4_isSound_155 (by decide) ?_
                    rw [hB] at hok
                    first
                      | (refine ihm (j + 1) _ true _ _ _ (by omega) (by omega) (fun x hx => ?_) ?_
                         · rw [hown, sp_getD ht, hB, ib_or, e3 x hx]
                           congr 1
                           first
                             | (rw [ib_one (by omega), Bool.true_and]
                                simp <;> omega)
                             | (rw [show nI 0 = (0 : Int32) from rfl, ib_0]
                                simp <;> omega)
                         · rw [hok, ← Bool.and_assoc, ← e4, c_94]
                           first
                             | rfl
                             | (unfold sp_knT
                                rw [decide_eq_true (show t < 100 by omega)]
                                rfl)
                             | (unfold sp_knT
                                rw [← g3 _ (by omega), (ib_test (by omega) K).mp c_117]
                                simp))
                      | (refine ihm (j + 1) _ false _ _ _ (by omega) (by omega) (fun x hx => ?_) ?_
                         · rw [hown, sp_getD ht, hB, ib_or, e3 x hx]
                           congr 1
                           first
                             | (rw [ib_one (by omega), Bool.true_and]
                                simp <;> omega)
                             | (rw [show nI 0 = (0 : Int32) from rfl, ib_0]
                                simp <;> omega)
                         · rw [hok, ← Bool.and_assoc, ← e4, c_94]
                           first
                             | rfl
                             | (unfold sp_knT
                                rw [← g3 _ (by omega), decide_eq_false (show ¬ t < 100 by omega)]
                                cases e : ib K (t - 100) with
                                | false => rfl
                                | true => exact absurd ((ib_test (by omega) K).mpr e) c_117))
                  · skip
                    refine rv_iload hX dX4_isSound_97 rfl ?_
                    refine rv_if_eq hX 120 dX4_isSound_99 (by decide) (fun _ => ?_) (fun q => absurd q (by decide))
                    refine nv_iconst hX (m := 1) (by decide) dX4_isSound_120 ?_
                    refine rv_goto hX 125 dX4_isSound_121 (by decide) ?_
                    refine rv_istore_n hX dX4_isSound_125 (rv_st_2 rfl) ?_
                    refine rv_iload hX dX4_isSound_126 rfl ?_
                    refine rv_iload hX dX4_isSound_128 rfl ?_
                    refine rv_if_eq hX 148 dX4_isSound_130 (by decide) (fun _ => ?_) (fun q => absurd q (by decide))
                    refine nv_iconst hX (m := 0) (by decide) dX4_isSound_148 ?_
                    refine rv_ior hX dX4_isSound_149 ?_
                    refine rv_istore hX dX4_isSound_150 (rv_st_5 rfl) ?_
                    first | refine nv_iinc hX (m := 1) dX4_isSound_152 rfl (by decide) (rv_st_6 rfl) ?_ | refine rv_iinc hX dX4_isSound_152 rfl rfl (rv_st_6 rfl) ?_
                    refine rv_goto hX 32 dX4_isSound_155 (by decide) ?_
                    rw [hB] at hok
                    first
                      | (refine ihm (j + 1) _ true _ _ _ (by omega) (by omega) (fun x hx => ?_) ?_
                         · rw [hown, sp_getD ht, hB, ib_or, e3 x hx]
                           congr 1
                           first
                             | (rw [ib_one (by omega), Bool.true_and]
                                simp <;> omega)
                             | (rw [show nI 0 = (0 : Int32) from rfl, ib_0]
                                simp <;> omega)
                         · rw [hok, ← Bool.and_assoc, ← e4, c_94]
                           first
                             | rfl
                             | (unfold sp_knT
                                rw [decide_eq_true (show t < 100 by omega)]
                                rfl)
                             | (unfold sp_knT
                                rw [← g3 _ (by omega), (ib_test (by omega) K).mp c_117]
                                simp))
                      | (refine ihm (j + 1) _ false _ _ _ (by omega) (by omega) (fun x hx => ?_) ?_
                         · rw [hown, sp_getD ht, hB, ib_or, e3 x hx]
                           congr 1
                           first
                             | (rw [ib_one (by omega), Bool.true_and]
                                simp <;> omega)
                             | (rw [show nI 0 = (0 : Int32) from rfl, ib_0]
                                simp <;> omega)
                         · rw [hok, ← Bool.and_assoc, ← e4, c_94]
                           first
                             | rfl
                             | (unfold sp_knT
                                rw [← g3 _ (by omega), decide_eq_false (show ¬ t < 100 by omega)]
                                cases e : ib K (t - 100) with
                                | false => rfl
                                | true => exact absurd ((ib_test (by omega) K).mpr e) c_117))
                · skip
                  refine rv_iload hX dX4_isSound_74 rfl ?_
                  refine nv_iconst hX (m := 3) (by decide) dX4_isSound_76 ?_
                  first | refine nv_icmp_ne hX 90 (by omega) (by omega) dX4_isSound_77 (by decide) (fun c_77 => ?_) (fun c_77 => ?_) | refine rv_icmp_ne hX 90 dX4_isSound_77 (by decide) (fun c_77 => ?_) (fun c_77 => ?_)
                  · skip
                    have hB : sp_bnd it j = false := by
                      unfold sp_bnd
                      simp <;> omega
                    refine nv_iconst hX (m := 0) (by decide) dX4_isSound_90 ?_
                    refine rv_istore hX dX4_isSound_91 (rv_st_9 rfl) ?_
                    refine rv_iload_n hX dX4_isSound_93 rfl ?_
                    first | refine zv_if_eq hX 124 dX4_isSound_94 (by decide) (fun c_94 => ?_) (fun c_94 => ?_) | refine nv_if_eq hX 124 (by omega) dX4_isSound_94 (by decide) (fun c_94 => ?_) (fun c_94 => ?_) | refine rv_if_eq hX 124 dX4_isSound_94 (by decide) (fun c_94 => ?_) (fun c_94 => ?_)
                    · skip
                      refine nv_iconst hX (m := 0) (by decide) dX4_isSound_124 ?_
                      refine rv_istore_n hX dX4_isSound_125 (rv_st_2 rfl) ?_
                      refine rv_iload hX dX4_isSound_126 rfl ?_
                      refine rv_iload hX dX4_isSound_128 rfl ?_
                      refine rv_if_eq hX 148 dX4_isSound_130 (by decide) (fun _ => ?_) (fun q => absurd q (by decide))
                      refine nv_iconst hX (m := 0) (by decide) dX4_isSound_148 ?_
                      refine rv_ior hX dX4_isSound_149 ?_
                      refine rv_istore hX dX4_isSound_150 (rv_st_5 rfl) ?_
                      first | refine nv_iinc hX (m := 1) dX4_isSound_152 rfl (by decide) (rv_st_6 rfl) ?_ | refine rv_iinc hX dX4_isSound_152 rfl rfl (rv_st_6 rfl) ?_
                      refine rv_goto hX 32 dX4_isSound_155 (by decide) ?_
                      rw [hB] at hok
                      first
                        | (refine ihm (j + 1) _ true _ _ _ (by omega) (by omega) (fun x hx => ?_) ?_
                           · rw [hown, sp_getD ht, hB, ib_or, e3 x hx]
                             congr 1
                             first
                               | (rw [ib_one (by omega), Bool.true_and]
                                  simp <;> omega)
                               | (rw [show nI 0 = (0 : Int32) from rfl, ib_0]
                                  simp <;> omega)
                           · rw [hok, ← Bool.and_assoc, ← e4, c_94]
                             first
                               | rfl
                               | (unfold sp_knT
                                  rw [decide_eq_true (show t < 100 by omega)]
                                  rfl)
                               | (unfold sp_knT
                                  rw [← g3 _ (by omega), (ib_test (by omega) K).mp c_117]
                                  simp))
                        | (refine ihm (j + 1) _ false _ _ _ (by omega) (by omega) (fun x hx => ?_) ?_
                           · rw [hown, sp_getD ht, hB, ib_or, e3 x hx]
                             congr 1
                             first
                               | (rw [ib_one (by omega), Bool.true_and]
                                  simp <;> omega)
                               | (rw [show nI 0 = (0 : Int32) from rfl, ib_0]
                                  simp <;> omega)
                           · rw [hok, ← Bool.and_assoc, ← e4, c_94]
                             first
                               | rfl
                               | (unfold sp_knT
                                  rw [← g3 _ (by omega), decide_eq_false (show ¬ t < 100 by omega)]
                                  cases e : ib K (t - 100) with
                                  | false => rfl
                                  | true => exact absurd ((ib_test (by omega) K).mpr e) c_117))
                    · skip
                      refine rv_iload hX dX4_isSound_97 rfl ?_
                      refine rv_if_eq hX 120 dX4_isSound_99 (by decide) (fun _ => ?_) (fun q => absurd q (by decide))
                      refine nv_iconst hX (m := 1) (by decide) dX4_isSound_120 ?_
                      refine rv_goto hX 125 dX4_isSound_121 (by decide) ?_
                      refine rv_istore_n hX dX4_isSound_125 (rv_st_2 rfl) ?_
                      refine rv_iload hX dX4_isSound_126 rfl ?_
                      refine rv_iload hX dX4_isSound_128 rfl ?_
                      refine rv_if_eq hX 148 dX4_isSound_130 (by decide) (fun _ => ?_) (fun q => absurd q (by decide))
                      refine nv_iconst hX (m := 0) (by decide) dX4_isSound_148 ?_
                      refine rv_ior hX dX4_isSound_149 ?_
                      refine rv_istore hX dX4_isSound_150 (rv_st_5 rfl) ?_
                      first | refine nv_iinc hX (m := 1) dX4_isSound_152 rfl (by decide) (rv_st_6 rfl) ?_ | refine rv_iinc hX dX4_isSound_152 rfl rfl (rv_st_6 rfl) ?_
                      refine rv_goto hX 32 dX4_isSound_155 (by decide) ?_
                      rw [hB] at hok
                      first
                        | (refine ihm (j + 1) _ true _ _ _ (by omega) (by omega) (fun x hx => ?_) ?_
                           · rw [hown, sp_getD ht, hB, ib_or, e3 x hx]
                             congr 1
                             first
                               | (rw [ib_one (by omega), Bool.true_and]
                                  simp <;> omega)
                               | (rw [show nI 0 = (0 : Int32) from rfl, ib_0]
                                  simp <;> omega)
                           · rw [hok, ← Bool.and_assoc, ← e4, c_94]
                             first
                               | rfl
                               | (unfold sp_knT
                                  rw [decide_eq_true (show t < 100 by omega)]
                                  rfl)
                               | (unfold sp_knT
                                  rw [← g3 _ (by omega), (ib_test (by omega) K).mp c_117]
                                  simp))
                        | (refine ihm (j + 1) _ false _ _ _ (by omega) (by omega) (fun x hx => ?_) ?_
                           · rw [hown, sp_getD ht, hB, ib_or, e3 x hx]
                             congr 1
                             first
                               | (rw [ib_one (by omega), Bool.true_and]
                                  simp <;> omega)
                               | (rw [show nI 0 = (0 : Int32) from rfl, ib_0]
                                  simp <;> omega)
                           · rw [hok, ← Bool.and_assoc, ← e4, c_94]
                             first
                               | rfl
                               | (unfold sp_knT
                                  rw [← g3 _ (by omega), decide_eq_false (show ¬ t < 100 by omega)]
                                  cases e : ib K (t - 100) with
                                  | false => rfl
                                  | true => exact absurd ((ib_test (by omega) K).mpr e) c_117))
                  · skip
                    refine rv_iload hX dX4_isSound_80 rfl ?_
                    refine nv_iconst hX (m := 2) (by decide) dX4_isSound_82 ?_
                    first | refine nv_icmp_ne hX 90 (by omega) (by omega) dX4_isSound_83 (by decide) (fun c_83 => ?_) (fun c_83 => ?_) | refine rv_icmp_ne hX 90 dX4_isSound_83 (by decide) (fun c_83 => ?_) (fun c_83 => ?_)
                    · skip
                      have hB : sp_bnd it j = false := by
                        unfold sp_bnd
                        simp <;> omega
                      refine nv_iconst hX (m := 0) (by decide) dX4_isSound_90 ?_
                      refine rv_istore hX dX4_isSound_91 (rv_st_9 rfl) ?_
                      refine rv_iload_n hX dX4_isSound_93 rfl ?_
                      first | refine zv_if_eq hX 124 dX4_isSound_94 (by decide) (fun c_94 => ?_) (fun c_94 => ?_) | refine nv_if_eq hX 124 (by omega) dX4_isSound_94 (by decide) (fun c_94 => ?_) (fun c_94 => ?_) | refine rv_if_eq hX 124 dX4_isSound_94 (by decide) (fun c_94 => ?_) (fun c_94 => ?_)
                      · skip
                        refine nv_iconst hX (m := 0) (by decide) dX4_isSound_124 ?_
                        refine rv_istore_n hX dX4_isSound_125 (rv_st_2 rfl) ?_
                        refine rv_iload hX dX4_isSound_126 rfl ?_
                        refine rv_iload hX dX4_isSound_128 rfl ?_
                        refine rv_if_eq hX 148 dX4_isSound_130 (by decide) (fun _ => ?_) (fun q => absurd q (by decide))
                        refine nv_iconst hX (m := 0) (by decide) dX4_isSound_148 ?_
                        refine rv_ior hX dX4_isSound_149 ?_
                        refine rv_istore hX dX4_isSound_150 (rv_st_5 rfl) ?_
                        first | refine nv_iinc hX (m := 1) dX4_isSound_152 rfl (by decide) (rv_st_6 rfl) ?_ | refine rv_iinc hX dX4_isSound_152 rfl rfl (rv_st_6 rfl) ?_
                        refine rv_goto hX 32 dX4_isSound_155 (by decide) ?_
                        rw [hB] at hok
                        first
                          | (refine ihm (j + 1) _ true _ _ _ (by omega) (by omega) (fun x hx => ?_) ?_
                             · rw [hown, sp_getD ht, hB, ib_or, e3 x hx]
                               congr 1
                               first
                                 | (rw [ib_one (by omega), Bool.true_and]
                                    simp <;> omega)
                                 | (rw [show nI 0 = (0 : Int32) from rfl, ib_0]
                                    simp <;> omega)
                             · rw [hok, ← Bool.and_assoc, ← e4, c_94]
                               first
                                 | rfl
                                 | (unfold sp_knT
                                    rw [decide_eq_true (show t < 100 by omega)]
                                    rfl)
                                 | (unfold sp_knT
                                    rw [← g3 _ (by omega), (ib_test (by omega) K).mp c_117]
                                    simp))
                          | (refine ihm (j + 1) _ false _ _ _ (by omega) (by omega) (fun x hx => ?_) ?_
                             · rw [hown, sp_getD ht, hB, ib_or, e3 x hx]
                               congr 1
                               first
                                 | (rw [ib_one (by omega), Bool.true_and]
                                    simp <;> omega)
                                 | (rw [show nI 0 = (0 : Int32) from rfl, ib_0]
                                    simp <;> omega)
                             · rw [hok, ← Bool.and_assoc, ← e4, c_94]
                               first
                                 | rfl
                                 | (unfold sp_knT
                                    rw [← g3 _ (by omega), decide_eq_false (show ¬ t < 100 by omega)]
                                    cases e : ib K (t - 100) with
                                    | false => rfl
                                    | true => exact absurd ((ib_test (by omega) K).mpr e) c_117))
                      · skip
                        refine rv_iload hX dX4_isSound_97 rfl ?_
                        refine rv_if_eq hX 120 dX4_isSound_99 (by decide) (fun _ => ?_) (fun q => absurd q (by decide))
                        refine nv_iconst hX (m := 1) (by decide) dX4_isSound_120 ?_
                        refine rv_goto hX 125 dX4_isSound_121 (by decide) ?_
                        refine rv_istore_n hX dX4_isSound_125 (rv_st_2 rfl) ?_
                        refine rv_iload hX dX4_isSound_126 rfl ?_
                        refine rv_iload hX dX4_isSound_128 rfl ?_
                        refine rv_if_eq hX 148 dX4_isSound_130 (by decide) (fun _ => ?_) (fun q => absurd q (by decide))
                        refine nv_iconst hX (m := 0) (by decide) dX4_isSound_148 ?_
                        refine rv_ior hX dX4_isSound_149 ?_
                        refine rv_istore hX dX4_isSound_150 (rv_st_5 rfl) ?_
                        first | refine nv_iinc hX (m := 1) dX4_isSound_152 rfl (by decide) (rv_st_6 rfl) ?_ | refine rv_iinc hX dX4_isSound_152 rfl rfl (rv_st_6 rfl) ?_
                        refine rv_goto hX 32 dX4_isSound_155 (by decide) ?_
                        rw [hB] at hok
                        first
                          | (refine ihm (j + 1) _ true _ _ _ (by omega) (by omega) (fun x hx => ?_) ?_
                             · rw [hown, sp_getD ht, hB, ib_or, e3 x hx]
                               congr 1
                               first
                                 | (rw [ib_one (by omega), Bool.true_and]
                                    simp <;> omega)
                                 | (rw [show nI 0 = (0 : Int32) from rfl, ib_0]
                                    simp <;> omega)
                             · rw [hok, ← Bool.and_assoc, ← e4, c_94]
                               first
                                 | rfl
                                 | (unfold sp_knT
                                    rw [decide_eq_true (show t < 100 by omega)]
                                    rfl)
                                 | (unfold sp_knT
                                    rw [← g3 _ (by omega), (ib_test (by omega) K).mp c_117]
                                    simp))
                          | (refine ihm (j + 1) _ false _ _ _ (by omega) (by omega) (fun x hx => ?_) ?_
                             · rw [hown, sp_getD ht, hB, ib_or, e3 x hx]
                               congr 1
                               first
                                 | (rw [ib_one (by omega), Bool.true_and]
                                    simp <;> omega)
                                 | (rw [show nI 0 = (0 : Int32) from rfl, ib_0]
                                    simp <;> omega)
                             · rw [hok, ← Bool.and_assoc, ← e4, c_94]
                               first
                                 | rfl
                                 | (unfold sp_knT
                                    rw [← g3 _ (by omega), decide_eq_false (show ¬ t < 100 by omega)]
                                    cases e : ib K (t - 100) with
                                    | false => rfl
                                    | true => exact absurd ((ib_test (by omega) K).mpr e) c_117))
                    · skip
                      have hB : sp_bnd it j = true := by
                        unfold sp_bnd
                        simp <;> omega
                      refine nv_iconst hX (m := 1) (by decide) dX4_isSound_86 ?_
                      refine rv_goto hX 91 dX4_isSound_87 (by decide) ?_
                      refine rv_istore hX dX4_isSound_91 (rv_st_9 rfl) ?_
                      refine rv_iload_n hX dX4_isSound_93 rfl ?_
                      first | refine zv_if_eq hX 124 dX4_isSound_94 (by decide) (fun c_94 => ?_) (fun c_94 => ?_) | refine nv_if_eq hX 124 (by omega) dX4_isSound_94 (by decide) (fun c_94 => ?_) (fun c_94 => ?_) | refine rv_if_eq hX 124 dX4_isSound_94 (by decide) (fun c_94 => ?_) (fun c_94 => ?_)
                      · skip
                        refine nv_iconst hX (m := 0) (by decide) dX4_isSound_124 ?_
                        refine rv_istore_n hX dX4_isSound_125 (rv_st_2 rfl) ?_
                        refine rv_iload hX dX4_isSound_126 rfl ?_
                        refine rv_iload hX dX4_isSound_128 rfl ?_
                        refine rv_if_eq hX 148 dX4_isSound_130 (by decide) (fun _ => ?_) (fun q => absurd q (by decide))
                        refine nv_iconst hX (m := 0) (by decide) dX4_isSound_148 ?_
                        refine rv_ior hX dX4_isSound_149 ?_
                        refine rv_istore hX dX4_isSound_150 (rv_st_5 rfl) ?_
                        first | refine nv_iinc hX (m := 1) dX4_isSound_152 rfl (by decide) (rv_st_6 rfl) ?_ | refine rv_iinc hX dX4_isSound_152 rfl rfl (rv_st_6 rfl) ?_
                        refine rv_goto hX 32 dX4_isSound_155 (by decide) ?_
                        rw [hB] at hok
                        first
                          | (refine ihm (j + 1) _ true _ _ _ (by omega) (by omega) (fun x hx => ?_) ?_
                             · rw [hown, sp_getD ht, hB, ib_or, e3 x hx]
                               congr 1
                               first
                                 | (rw [ib_one (by omega), Bool.true_and]
                                    simp <;> omega)
                                 | (rw [show nI 0 = (0 : Int32) from rfl, ib_0]
                                    simp <;> omega)
                             · rw [hok, ← Bool.and_assoc, ← e4, c_94]
                               first
                                 | rfl
                                 | (unfold sp_knT
                                    rw [decide_eq_true (show t < 100 by omega)]
                                    rfl)
                                 | (unfold sp_knT
                                    rw [← g3 _ (by omega), (ib_test (by omega) K).mp c_117]
                                    simp))
                          | (refine ihm (j + 1) _ false _ _ _ (by omega) (by omega) (fun x hx => ?_) ?_
                             · rw [hown, sp_getD ht, hB, ib_or, e3 x hx]
                               congr 1
                               first
                                 | (rw [ib_one (by omega), Bool.true_and]
                                    simp <;> omega)
                                 | (rw [show nI 0 = (0 : Int32) from rfl, ib_0]
                                    simp <;> omega)
                             · rw [hok, ← Bool.and_assoc, ← e4, c_94]
                               first
                                 | rfl
                                 | (unfold sp_knT
                                    rw [← g3 _ (by omega), decide_eq_false (show ¬ t < 100 by omega)]
                                    cases e : ib K (t - 100) with
                                    | false => rfl
                                    | true => exact absurd ((ib_test (by omega) K).mpr e) c_117))
                      · skip
                        refine rv_iload hX dX4_isSound_97 rfl ?_
                        refine rv_if_eq hX 120 dX4_isSound_99 (by decide) (fun _ => ?_) (fun q => absurd q (by decide))
                        refine nv_iconst hX (m := 1) (by decide) dX4_isSound_120 ?_
                        refine rv_goto hX 125 dX4_isSound_121 (by decide) ?_
                        refine rv_istore_n hX dX4_isSound_125 (rv_st_2 rfl) ?_
                        refine rv_iload hX dX4_isSound_126 rfl ?_
                        refine rv_iload hX dX4_isSound_128 rfl ?_
                        refine rv_if_eq hX 148 dX4_isSound_130 (by decide) (fun _ => ?_) (fun q => absurd q (by decide))
                        refine nv_iconst hX (m := 0) (by decide) dX4_isSound_148 ?_
                        refine rv_ior hX dX4_isSound_149 ?_
                        refine rv_istore hX dX4_isSound_150 (rv_st_5 rfl) ?_
                        first | refine nv_iinc hX (m := 1) dX4_isSound_152 rfl (by decide) (rv_st_6 rfl) ?_ | refine rv_iinc hX dX4_isSound_152 rfl rfl (rv_st_6 rfl) ?_
                        refine rv_goto hX 32 dX4_isSound_155 (by decide) ?_
                        rw [hB] at hok
                        first
                          | (refine ihm (j + 1) _ true _ _ _ (by omega) (by omega) (fun x hx => ?_) ?_
                             · rw [hown, sp_getD ht, hB, ib_or, e3 x hx]
                               congr 1
                               first
                                 | (rw [ib_one (by omega), Bool.true_and]
                                    simp <;> omega)
                                 | (rw [show nI 0 = (0 : Int32) from rfl, ib_0]
                                    simp <;> omega)
                             · rw [hok, ← Bool.and_assoc, ← e4, c_94]
                               first
                                 | rfl
                                 | (unfold sp_knT
                                    rw [decide_eq_true (show t < 100 by omega)]
                                    rfl)
                                 | (unfold sp_knT
                                    rw [← g3 _ (by omega), (ib_test (by omega) K).mp c_117]
                                    simp))
                          | (refine ihm (j + 1) _ false _ _ _ (by omega) (by omega) (fun x hx => ?_) ?_
                             · rw [hown, sp_getD ht, hB, ib_or, e3 x hx]
                               congr 1
                               first
                                 | (rw [ib_one (by omega), Bool.true_and]
                                    simp <;> omega)
                                 | (rw [show nI 0 = (0 : Int32) from rfl, ib_0]
                                    simp <;> omega)
                             · rw [hok, ← Bool.and_assoc, ← e4, c_94]
                               first
                                 | rfl
                                 | (unfold sp_knT
                                    rw [← g3 _ (by omega), decide_eq_false (show ¬ t < 100 by omega)]
                                    cases e : ib K (t - 100) with
                                    | false => rfl
                                    | true => exact absurd ((ib_test (by omega) K).mpr e) c_117))
              · skip
                refine nv_iconst hX (m := 1) (by decide) dX4_isSound_62 ?_
                refine rv_goto hX 67 dX4_isSound_63 (by decide) ?_
                refine rv_istore hX dX4_isSound_67 (rv_st_8 rfl) ?_
                refine rv_iload hX dX4_isSound_69 rfl ?_
                first | refine zv_if_eq hX 86 dX4_isSound_71 (by decide) (fun c_71 => ?_) (fun c_71 => ?_) | refine nv_if_eq hX 86 (by omega) dX4_isSound_71 (by decide) (fun c_71 => ?_) (fun c_71 => ?_) | refine rv_if_eq hX 86 dX4_isSound_71 (by decide) (fun c_71 => ?_) (fun c_71 => ?_)
                · skip
                  have hB : sp_bnd it j = true := by
                    unfold sp_bnd
                    simp <;> omega
                  refine nv_iconst hX (m := 1) (by decide) dX4_isSound_86 ?_
                  refine rv_goto hX 91 dX4_isSound_87 (by decide) ?_
                  refine rv_istore hX dX4_isSound_91 (rv_st_9 rfl) ?_
                  refine rv_iload_n hX dX4_isSound_93 rfl ?_
                  first | refine zv_if_eq hX 124 dX4_isSound_94 (by decide) (fun c_94 => ?_) (fun c_94 => ?_) | refine nv_if_eq hX 124 (by omega) dX4_isSound_94 (by decide) (fun c_94 => ?_) (fun c_94 => ?_) | refine rv_if_eq hX 124 dX4_isSound_94 (by decide) (fun c_94 => ?_) (fun c_94 => ?_)
                  · skip
                    refine nv_iconst hX (m := 0) (by decide) dX4_isSound_124 ?_
                    refine rv_istore_n hX dX4_isSound_125 (rv_st_2 rfl) ?_
                    refine rv_iload hX dX4_isSound_126 rfl ?_
                    refine rv_iload hX dX4_isSound_128 rfl ?_
                    refine rv_if_eq hX 148 dX4_isSound_130 (by decide) (fun q => absurd q (by decide)) (fun _ => ?_)
                    refine rv_iload hX dX4_isSound_133 rfl ?_
                    refine rv_if_eq hX 148 dX4_isSound_135 (by decide) (fun q => absurd q (by decide)) (fun _ => ?_)
                    refine nv_iconst hX (m := 1) (by decide) dX4_isSound_138 ?_
                    refine rv_iload hX dX4_isSound_139 rfl ?_
                    refine nv_bipush hX (m := 100) (by decide) dX4_isSound_141 ?_
                    first | refine nv_isub hX (by omega) dX4_isSound_143 ?_ | refine rv_isub hX dX4_isSound_143 ?_
                    refine rv_ishl hX dX4_isSound_144 ?_
                    refine rv_goto hX 149 dX4_isSound_145 (by decide) ?_
                    refine rv_ior hX dX4_isSound_149 ?_
                    refine rv_istore hX dX4_isSound_150 (rv_st_5 rfl) ?_
                    first | refine nv_iinc hX (m := 1) dX4_isSound_152 rfl (by decide) (rv_st_6 rfl) ?_ | refine rv_iinc hX dX4_isSound_152 rfl rfl (rv_st_6 rfl) ?_
                    refine rv_goto hX 32 dX4_isSound_155 (by decide) ?_
                    rw [hB] at hok
                    first
                      | (refine ihm (j + 1) _ true _ _ _ (by omega) (by omega) (fun x hx => ?_) ?_
                         · rw [hown, sp_getD ht, hB, ib_or, e3 x hx]
                           congr 1
                           first
                             | (rw [ib_one (by omega), Bool.true_and]
                                simp <;> omega)
                             | (rw [show nI 0 = (0 : Int32) from rfl, ib_0]
                                simp <;> omega)
                         · rw [hok, ← Bool.and_assoc, ← e4, c_94]
                           first
                             | rfl
                             | (unfold sp_knT
                                rw [decide_eq_true (show t < 100 by omega)]
                                rfl)
                             | (unfold sp_knT
                                rw [← g3 _ (by omega), (ib_test (by omega) K).mp c_117]
                                simp))
                      | (refine ihm (j + 1) _ false _ _ _ (by omega) (by omega) (fun x hx => ?_) ?_
                         · rw [hown, sp_getD ht, hB, ib_or, e3 x hx]
                           congr 1
                           first
                             | (rw [ib_one (by omega), Bool.true_and]
                                simp <;> omega)
                             | (rw [show nI 0 = (0 : Int32) from rfl, ib_0]
                                simp <;> omega)
                         · rw [hok, ← Bool.and_assoc, ← e4, c_94]
                           first
                             | rfl
                             | (unfold sp_knT
                                rw [← g3 _ (by omega), decide_eq_false (show ¬ t < 100 by omega)]
                                cases e : ib K (t - 100) with
                                | false => rfl
                                | true => exact absurd ((ib_test (by omega) K).mpr e) c_117))
                  · skip
                    refine rv_iload hX dX4_isSound_97 rfl ?_
                    refine rv_if_eq hX 120 dX4_isSound_99 (by decide) (fun q => absurd q (by decide)) (fun _ => ?_)
                    refine rv_iload hX dX4_isSound_102 rfl ?_
                    refine rv_if_ne hX 120 dX4_isSound_104 (by decide) (fun _ => ?_) (fun q => absurd q (by decide))
                    refine nv_iconst hX (m := 1) (by decide) dX4_isSound_120 ?_
                    refine rv_goto hX 125 dX4_isSound_121 (by decide) ?_
                    refine rv_istore_n hX dX4_isSound_125 (rv_st_2 rfl) ?_
                    refine rv_iload hX dX4_isSound_126 rfl ?_
                    refine rv_iload hX dX4_isSound_128 rfl ?_
                    refine rv_if_eq hX 148 dX4_isSound_130 (by decide) (fun q => absurd q (by decide)) (fun _ => ?_)
                    refine rv_iload hX dX4_isSound_133 rfl ?_
                    refine rv_if_eq hX 148 dX4_isSound_135 (by decide) (fun q => absurd q (by decide)) (fun _ => ?_)
                    refine nv_iconst hX (m := 1) (by decide) dX4_isSound_138 ?_
                    refine rv_iload hX dX4_isSound_139 rfl ?_
                    refine nv_bipush hX (m := 100) (by decide) dX4_isSound_141 ?_
                    first | refine nv_isub hX (by omega) dX4_isSound_143 ?_ | refine rv_isub hX dX4_isSound_143 ?_
                    refine rv_ishl hX dX4_isSound_144 ?_
                    refine rv_goto hX 149 dX4_isSound_145 (by decide) ?_
                    refine rv_ior hX dX4_isSound_149 ?_
                    refine rv_istore hX dX4_isSound_150 (rv_st_5 rfl) ?_
                    first | refine nv_iinc hX (m := 1) dX4_isSound_152 rfl (by decide) (rv_st_6 rfl) ?_ | refine rv_iinc hX dX4_isSound_152 rfl rfl (rv_st_6 rfl) ?_
                    refine rv_goto hX 32 dX4_isSound_155 (by decide) ?_
                    rw [hB] at hok
                    first
                      | (refine ihm (j + 1) _ true _ _ _ (by omega) (by omega) (fun x hx => ?_) ?_
                         · rw [hown, sp_getD ht, hB, ib_or, e3 x hx]
                           congr 1
                           first
                             | (rw [ib_one (by omega), Bool.true_and]
                                simp <;> omega)
                             | (rw [show nI 0 = (0 : Int32) from rfl, ib_0]
                                simp <;> omega)
                         · rw [hok, ← Bool.and_assoc, ← e4, c_94]
                           first
                             | rfl
                             | (unfold sp_knT
                                rw [decide_eq_true (show t < 100 by omega)]
                                rfl)
                             | (unfold sp_knT
                                rw [← g3 _ (by omega), (ib_test (by omega) K).mp c_117]
                                simp))
                      | (refine ihm (j + 1) _ false _ _ _ (by omega) (by omega) (fun x hx => ?_) ?_
                         · rw [hown, sp_getD ht, hB, ib_or, e3 x hx]
                           congr 1
                           first
                             | (rw [ib_one (by omega), Bool.true_and]
                                simp <;> omega)
                             | (rw [show nI 0 = (0 : Int32) from rfl, ib_0]
                                simp <;> omega)
                         · rw [hok, ← Bool.and_assoc, ← e4, c_94]
                           first
                             | rfl
                             | (unfold sp_knT
                                rw [← g3 _ (by omega), decide_eq_false (show ¬ t < 100 by omega)]
                                cases e : ib K (t - 100) with
                                | false => rfl
                                | true => exact absurd ((ib_test (by omega) K).mpr e) c_117))
                · skip
                  refine rv_iload hX dX4_isSound_74 rfl ?_
                  refine nv_iconst hX (m := 3) (by decide) dX4_isSound_76 ?_
                  first | refine nv_icmp_ne hX 90 (by omega) (by omega) dX4_isSound_77 (by decide) (fun c_77 => ?_) (fun c_77 => ?_) | refine rv_icmp_ne hX 90 dX4_isSound_77 (by decide) (fun c_77 => ?_) (fun c_77 => ?_)
                  · skip
                    have hB : sp_bnd it j = false := by
                      unfold sp_bnd
                      simp <;> omega
                    refine nv_iconst hX (m := 0) (by decide) dX4_isSound_90 ?_
                    refine rv_istore hX dX4_isSound_91 (rv_st_9 rfl) ?_
                    refine rv_iload_n hX dX4_isSound_93 rfl ?_
                    first | refine zv_if_eq hX 124 dX4_isSound_94 (by decide) (fun c_94 => ?_) (fun c_94 => ?_) | refine nv_if_eq hX 124 (by omega) dX4_isSound_94 (by decide) (fun c_94 => ?_) (fun c_94 => ?_) | refine rv_if_eq hX 124 dX4_isSound_94 (by decide) (fun c_94 => ?_) (fun c_94 => ?_)
                    · skip
                      refine nv_iconst hX (m := 0) (by decide) dX4_isSound_124 ?_
                      refine rv_istore_n hX dX4_isSound_125 (rv_st_2 rfl) ?_
                      refine rv_iload hX dX4_isSound_126 rfl ?_
                      refine rv_iload hX dX4_isSound_128 rfl ?_
                      refine rv_if_eq hX 148 dX4_isSound_130 (by decide) (fun q => absurd q (by decide)) (fun _ => ?_)
                      refine rv_iload hX dX4_isSound_133 rfl ?_
                      refine rv_if_eq hX 148 dX4_isSound_135 (by decide) (fun _ => ?_) (fun q => absurd q (by decide))
                      refine nv_iconst hX (m := 0) (by decide) dX4_isSound_148 ?_
                      refine rv_ior hX dX4_isSound_149 ?_
                      refine rv_istore hX dX4_isSound_150 (rv_st_5 rfl) ?_
                      first | refine nv_iinc hX (m := 1) dX4_isSound_152 rfl (by decide) (rv_st_6 rfl) ?_ | refine rv_iinc hX dX4_isSound_152 rfl rfl (rv_st_6 rfl) ?_
                      refine rv_goto hX 32 dX4_isSound_155 (by decide) ?_
                      rw [hB] at hok
                      first
                        | (refine ihm (j + 1) _ true _ _ _ (by omega) (by omega) (fun x hx => ?_) ?_
                           · rw [hown, sp_getD ht, hB, ib_or, e3 x hx]
                             congr 1
                             first
                               | (rw [ib_one (by omega), Bool.true_and]
                                  simp <;> omega)
                               | (rw [show nI 0 = (0 : Int32) from rfl, ib_0]
                                  simp <;> omega)
                           · rw [hok, ← Bool.and_assoc, ← e4, c_94]
                             first
                               | rfl
                               | (unfold sp_knT
                                  rw [decide_eq_true (show t < 100 by omega)]
                                  rfl)
                               | (unfold sp_knT
                                  rw [← g3 _ (by omega), (ib_test (by omega) K).mp c_117]
                                  simp))
                        | (refine ihm (j + 1) _ false _ _ _ (by omega) (by omega) (fun x hx => ?_) ?_
                           · rw [hown, sp_getD ht, hB, ib_or, e3 x hx]
                             congr 1
                             first
                               | (rw [ib_one (by omega), Bool.true_and]
                                  simp <;> omega)
                               | (rw [show nI 0 = (0 : Int32) from rfl, ib_0]
                                  simp <;> omega)
                           · rw [hok, ← Bool.and_assoc, ← e4, c_94]
                             first
                               | rfl
                               | (unfold sp_knT
                                  rw [← g3 _ (by omega), decide_eq_false (show ¬ t < 100 by omega)]
                                  cases e : ib K (t - 100) with
                                  | false => rfl
                                  | true => exact absurd ((ib_test (by omega) K).mpr e) c_117))
                    · skip
                      refine rv_iload hX dX4_isSound_97 rfl ?_
                      refine rv_if_eq hX 120 dX4_isSound_99 (by decide) (fun q => absurd q (by decide)) (fun _ => ?_)
                      refine rv_iload hX dX4_isSound_102 rfl ?_
                      refine rv_if_ne hX 120 dX4_isSound_104 (by decide) (fun q => absurd q (by decide)) (fun _ => ?_)
                      refine rv_iload_n hX dX4_isSound_107 rfl ?_
                      refine rv_iload hX dX4_isSound_108 rfl ?_
                      refine nv_bipush hX (m := 100) (by decide) dX4_isSound_110 ?_
                      first | refine nv_isub hX (by omega) dX4_isSound_112 ?_ | refine rv_isub hX dX4_isSound_112 ?_
                      refine rv_ishr hX dX4_isSound_113 ?_
                      refine nv_iconst hX (m := 1) (by decide) dX4_isSound_114 ?_
                      refine rv_iand hX dX4_isSound_115 ?_
                      refine nv_iconst hX (m := 1) (by decide) dX4_isSound_116 ?_
                      first | refine nv_icmp_ne hX 124 (by omega) (by omega) dX4_isSound_117 (by decide) (fun c_117 => ?_) (fun c_117 => ?_) | refine rv_icmp_ne hX 124 dX4_isSound_117 (by decide) (fun c_117 => ?_) (fun c_117 => ?_)
                      · skip
                        refine nv_iconst hX (m := 0) (by decide) dX4_isSound_124 ?_
                        refine rv_istore_n hX dX4_isSound_125 (rv_st_2 rfl) ?_
                        refine rv_iload hX dX4_isSound_126 rfl ?_
                        refine rv_iload hX dX4_isSound_128 rfl ?_
                        refine rv_if_eq hX 148 dX4_isSound_130 (by decide) (fun q => absurd q (by decide)) (fun _ => ?_)
                        refine rv_iload hX dX4_isSound_133 rfl ?_
                        refine rv_if_eq hX 148 dX4_isSound_135 (by decide) (fun _ => ?_) (fun q => absurd q (by decide))
                        refine nv_iconst hX (m := 0) (by decide) dX4_isSound_148 ?_
                        refine rv_ior hX dX4_isSound_149 ?_
                        refine rv_istore hX dX4_isSound_150 (rv_st_5 rfl) ?_
                        first | refine nv_iinc hX (m := 1) dX4_isSound_152 rfl (by decide) (rv_st_6 rfl) ?_ | refine rv_iinc hX dX4_isSound_152 rfl rfl (rv_st_6 rfl) ?_
                        refine rv_goto hX 32 dX4_isSound_155 (by decide) ?_
                        rw [hB] at hok
                        first
                          | (refine ihm (j + 1) _ true _ _ _ (by omega) (by omega) (fun x hx => ?_) ?_
                             · rw [hown, sp_getD ht, hB, ib_or, e3 x hx]
                               congr 1
                               first
                                 | (rw [ib_one (by omega), Bool.true_and]
                                    simp <;> omega)
                                 | (rw [show nI 0 = (0 : Int32) from rfl, ib_0]
                                    simp <;> omega)
                             · rw [hok, ← Bool.and_assoc, ← e4, c_94]
                               first
                                 | rfl
                                 | (unfold sp_knT
                                    rw [decide_eq_true (show t < 100 by omega)]
                                    rfl)
                                 | (unfold sp_knT
                                    rw [← g3 _ (by omega), (ib_test (by omega) K).mp c_117]
                                    simp))
                          | (refine ihm (j + 1) _ false _ _ _ (by omega) (by omega) (fun x hx => ?_) ?_
                             · rw [hown, sp_getD ht, hB, ib_or, e3 x hx]
                               congr 1
                               first
                                 | (rw [ib_one (by omega), Bool.true_and]
                                    simp <;> omega)
                                 | (rw [show nI 0 = (0 : Int32) from rfl, ib_0]
                                    simp <;> omega)
                             · rw [hok, ← Bool.and_assoc, ← e4, c_94]
                               first
                                 | rfl
                                 | (unfold sp_knT
                                    rw [← g3 _ (by omega), decide_eq_false (show ¬ t < 100 by omega)]
                                    cases e : ib K (t - 100) with
                                    | false => rfl
                                    | true => exact absurd ((ib_test (by omega) K).mpr e) c_117))
                      · skip
                        refine nv_iconst hX (m := 1) (by decide) dX4_isSound_120 ?_
                        refine rv_goto hX 125 dX4_isSound_121 (by decide) ?_
                        refine rv_istore_n hX dX4_isSound_125 (rv_st_2 rfl) ?_
                        refine rv_iload hX dX4_isSound_126 rfl ?_
                        refine rv_iload hX dX4_isSound_128 rfl ?_
                        refine rv_if_eq hX 148 dX4_isSound_130 (by decide) (fun q => absurd q (by decide)) (fun _ => ?_)
                        refine rv_iload hX dX4_isSound_133 rfl ?_
                        refine rv_if_eq hX 148 dX4_isSound_135 (by decide) (fun _ => ?_) (fun q => absurd q (by decide))
                        refine nv_iconst hX (m := 0) (by decide) dX4_isSound_148 ?_
                        refine rv_ior hX dX4_isSound_149 ?_
                        refine rv_istore hX dX4_isSound_150 (rv_st_5 rfl) ?_
                        first | refine nv_iinc hX (m := 1) dX4_isSound_152 rfl (by decide) (rv_st_6 rfl) ?_ | refine rv_iinc hX dX4_isSound_152 rfl rfl (rv_st_6 rfl) ?_
                        refine rv_goto hX 32 dX4_isSound_155 (by decide) ?_
                        rw [hB] at hok
                        first
                          | (refine ihm (j + 1) _ true _ _ _ (by omega) (by omega) (fun x hx => ?_) ?_
                             · rw [hown, sp_getD ht, hB, ib_or, e3 x hx]
                               congr 1
                               first
                                 | (rw [ib_one (by omega), Bool.true_and]
                                    simp <;> omega)
                                 | (rw [show nI 0 = (0 : Int32) from rfl, ib_0]
                                    simp <;> omega)
                             · rw [hok, ← Bool.and_assoc, ← e4, c_94]
                               first
                                 | rfl
                                 | (unfold sp_knT
                                    rw [decide_eq_true (show t < 100 by omega)]
                                    rfl)
                                 | (unfold sp_knT
                                    rw [← g3 _ (by omega), (ib_test (by omega) K).mp c_117]
                                    simp))
                          | (refine ihm (j + 1) _ false _ _ _ (by omega) (by omega) (fun x hx => ?_) ?_
                             · rw [hown, sp_getD ht, hB, ib_or, e3 x hx]
                               congr 1
                               first
                                 | (rw [ib_one (by omega), Bool.true_and]
                                    simp <;> omega)
                                 | (rw [show nI 0 = (0 : Int32) from rfl, ib_0]
                                    simp <;> omega)
                             · rw [hok, ← Bool.and_assoc, ← e4, c_94]
                               first
                                 | rfl
                                 | (unfold sp_knT
                                    rw [← g3 _ (by omega), decide_eq_false (show ¬ t < 100 by omega)]
                                    cases e : ib K (t - 100) with
                                    | false => rfl
                                    | true => exact absurd ((ib_test (by omega) K).mpr e) c_117))
                  · skip
                    refine rv_iload hX dX4_isSound_80 rfl ?_
                    refine nv_iconst hX (m := 2) (by decide) dX4_isSound_82 ?_
                    first | refine nv_icmp_ne hX 90 (by omega) (by omega) dX4_isSound_83 (by decide) (fun c_83 => ?_) (fun c_83 => ?_) | refine rv_icmp_ne hX 90 dX4_isSound_83 (by decide) (fun c_83 => ?_) (fun c_83 => ?_)
                    · skip
                      have hB : sp_bnd it j = false := by
                        unfold sp_bnd
                        simp <;> omega
                      refine nv_iconst hX (m := 0) (by decide) dX4_isSound_90 ?_
                      refine rv_istore hX dX4_isSound_91 (rv_st_9 rfl) ?_
                      refine rv_iload_n hX dX4_isSound_93 rfl ?_
                      first | refine zv_if_eq hX 124 dX4_isSound_94 (by decide) (fun c_94 => ?_) (fun c_94 => ?_) | refine nv_if_eq hX 124 (by omega) dX4_isSound_94 (by decide) (fun c_94 => ?_) (fun c_94 => ?_) | refine rv_if_eq hX 124 dX4_isSound_94 (by decide) (fun c_94 => ?_) (fun c_94 => ?_)
                      · skip
                        refine nv_iconst hX (m := 0) (by decide) dX4_isSound_124 ?_
                        refine rv_istore_n hX dX4_isSound_125 (rv_st_2 rfl) ?_
                        refine rv_iload hX dX4_isSound_126 rfl ?_
                        refine rv_iload hX dX4_isSound_128 rfl ?_
                        refine rv_if_eq hX 148 dX4_isSound_130 (by decide) (fun q => absurd q (by decide)) (fun _ => ?_)
                        refine rv_iload hX dX4_isSound_133 rfl ?_
                        refine rv_if_eq hX 148 dX4_isSound_135 (by decide) (fun _ => ?_) (fun q => absurd q (by decide))
                        refine nv_iconst hX (m := 0) (by decide) dX4_isSound_148 ?_
                        refine rv_ior hX dX4_isSound_149 ?_
                        refine rv_istore hX dX4_isSound_150 (rv_st_5 rfl) ?_
                        first | refine nv_iinc hX (m := 1) dX4_isSound_152 rfl (by decide) (rv_st_6 rfl) ?_ | refine rv_iinc hX dX4_isSound_152 rfl rfl (rv_st_6 rfl) ?_
                        refine rv_goto hX 32 dX4_isSound_155 (by decide) ?_
                        rw [hB] at hok
                        first
                          | (refine ihm (j + 1) _ true _ _ _ (by omega) (by omega) (fun x hx => ?_) ?_
                             · rw [hown, sp_getD ht, hB, ib_or, e3 x hx]
                               congr 1
                               first
                                 | (rw [ib_one (by omega), Bool.true_and]
                                    simp <;> omega)
                                 | (rw [show nI 0 = (0 : Int32) from rfl, ib_0]
                                    simp <;> omega)
                             · rw [hok, ← Bool.and_assoc, ← e4, c_94]
                               first
                                 | rfl
                                 | (unfold sp_knT
                                    rw [decide_eq_true (show t < 100 by omega)]
                                    rfl)
                                 | (unfold sp_knT
                                    rw [← g3 _ (by omega), (ib_test (by omega) K).mp c_117]
                                    simp))
                          | (refine ihm (j + 1) _ false _ _ _ (by omega) (by omega) (fun x hx => ?_) ?_
                             · rw [hown, sp_getD ht, hB, ib_or, e3 x hx]
                               congr 1
                               first
                                 | (rw [ib_one (by omega), Bool.true_and]
                                    simp <;> omega)
                                 | (rw [show nI 0 = (0 : Int32) from rfl, ib_0]
                                    simp <;> omega)
                             · rw [hok, ← Bool.and_assoc, ← e4, c_94]
                               first
                                 | rfl
                                 | (unfold sp_knT
                                    rw [← g3 _ (by omega), decide_eq_false (show ¬ t < 100 by omega)]
                                    cases e : ib K (t - 100) with
                                    | false => rfl
                                    | true => exact absurd ((ib_test (by omega) K).mpr e) c_117))
                      · skip
                        refine rv_iload hX dX4_isSound_97 rfl ?_
                        refine rv_if_eq hX 120 dX4_isSound_99 (by decide) (fun q => absurd q (by decide)) (fun _ => ?_)
                        refine rv_iload hX dX4_isSound_102 rfl ?_
                        refine rv_if_ne hX 120 dX4_isSound_104 (by decide) (fun q => absurd q (by decide)) (fun _ => ?_)
                        refine rv_iload_n hX dX4_isSound_107 rfl ?_
                        refine rv_iload hX dX4_isSound_108 rfl ?_
                        refine nv_bipush hX (m := 100) (by decide) dX4_isSound_110 ?_
                        first | refine nv_isub hX (by omega) dX4_isSound_112 ?_ | refine rv_isub hX dX4_isSound_112 ?_
                        refine rv_ishr hX dX4_isSound_113 ?_
                        refine nv_iconst hX (m := 1) (by decide) dX4_isSound_114 ?_
                        refine rv_iand hX dX4_isSound_115 ?_
                        refine nv_iconst hX (m := 1) (by decide) dX4_isSound_116 ?_
                        first | refine nv_icmp_ne hX 124 (by omega) (by omega) dX4_isSound_117 (by decide) (fun c_117 => ?_) (fun c_117 => ?_) | refine rv_icmp_ne hX 124 dX4_isSound_117 (by decide) (fun c_117 => ?_) (fun c_117 => ?_)
                        · skip
                          refine nv_iconst hX (m := 0) (by decide) dX4_isSound_124 ?_
                          refine rv_istore_n hX dX4_isSound_125 (rv_st_2 rfl) ?_
                          refine rv_iload hX dX4_isSound_126 rfl ?_
                          refine rv_iload hX dX4_isSound_128 rfl ?_
                          refine rv_if_eq hX 148 dX4_isSound_130 (by decide) (fun q => absurd q (by decide)) (fun _ => ?_)
                          refine rv_iload hX dX4_isSound_133 rfl ?_
                          refine rv_if_eq hX 148 dX4_isSound_135 (by decide) (fun _ => ?_) (fun q => absurd q (by decide))
                          refine nv_iconst hX (m := 0) (by decide) dX4_isSound_148 ?_
                          refine rv_ior hX dX4_isSound_149 ?_
                          refine rv_istore hX dX4_isSound_150 (rv_st_5 rfl) ?_
                          first | refine nv_iinc hX (m := 1) dX4_isSound_152 rfl (by decide) (rv_st_6 rfl) ?_ | refine rv_iinc hX dX4_isSound_152 rfl rfl (rv_st_6 rfl) ?_
                          refine rv_goto hX 32 dX4_isSound_155 (by decide) ?_
                          rw [hB] at hok
                          first
                            | (refine ihm (j + 1) _ true _ _ _ (by omega) (by omega) (fun x hx => ?_) ?_
                               · rw [hown, sp_getD ht, hB, ib_or, e3 x hx]
                                 congr 1
                                 first
                                   | (rw [ib_one (by omega), Bool.true_and]
                                      simp <;> omega)
                                   | (rw [show nI 0 = (0 : Int32) from rfl, ib_0]
                                      simp <;> omega)
                               · rw [hok, ← Bool.and_assoc, ← e4, c_94]
                                 first
                                   | rfl
                                   | (unfold sp_knT
                                      rw [decide_eq_true (show t < 100 by omega)]
                                      rfl)
                                   | (unfold sp_knT
                                      rw [← g3 _ (by omega), (ib_test (by omega) K).mp c_117]
                                      simp))
                            | (refine ihm (j + 1) _ false _ _ _ (by omega) (by omega) (fun x hx => ?_) ?_
                               · rw [hown, sp_getD ht, hB, ib_or, e3 x hx]
                                 congr 1
                                 first
                                   | (rw [ib_one (by omega), Bool.true_and]
                                      simp <;> omega)
                                   | (rw [show nI 0 = (0 : Int32) from rfl, ib_0]
                                      simp <;> omega)
                               · rw [hok, ← Bool.and_assoc, ← e4, c_94]
                                 first
                                   | rfl
                                   | (unfold sp_knT
                                      rw [← g3 _ (by omega), decide_eq_false (show ¬ t < 100 by omega)]
                                      cases e : ib K (t - 100) with
                                      | false => rfl
                                      | true => exact absurd ((ib_test (by omega) K).mpr e) c_117))
                        · skip
                          refine nv_iconst hX (m := 1) (by decide) dX4_isSound_120 ?_
                          refine rv_goto hX 125 dX4_isSound_121 (by decide) ?_
                          refine rv_istore_n hX dX4_isSound_125 (rv_st_2 rfl) ?_
                          refine rv_iload hX dX4_isSound_126 rfl ?_
                          refine rv_iload hX dX4_isSound_128 rfl ?_
                          refine rv_if_eq hX 148 dX4_isSound_130 (by decide) (fun q => absurd q (by decide)) (fun _ => ?_)
                          refine rv_iload hX dX4_isSound_133 rfl ?_
                          refine rv_if_eq hX 148 dX4_isSound_135 (by decide) (fun _ => ?_) (fun q => absurd q (by decide))
                          refine nv_iconst hX (m := 0) (by decide) dX4_isSound_148 ?_
                          refine rv_ior hX dX4_isSound_149 ?_
                          refine rv_istore hX dX4_isSound_150 (rv_st_5 rfl) ?_
                          first | refine nv_iinc hX (m := 1) dX4_isSound_152 rfl (by decide) (rv_st_6 rfl) ?_ | refine rv_iinc hX dX4_isSound_152 rfl rfl (rv_st_6 rfl) ?_
                          refine rv_goto hX 32 dX4_isSound_155 (by decide) ?_
                          rw [hB] at hok
                          first
                            | (refine ihm (j + 1) _ true _ _ _ (by omega) (by omega) (fun x hx => ?_) ?_
                               · rw [hown, sp_getD ht, hB, ib_or, e3 x hx]
                                 congr 1
                                 first
                                   | (rw [ib_one (by omega), Bool.true_and]
                                      simp <;> omega)
                                   | (rw [show nI 0 = (0 : Int32) from rfl, ib_0]
                                      simp <;> omega)
                               · rw [hok, ← Bool.and_assoc, ← e4, c_94]
                                 first
                                   | rfl
                                   | (unfold sp_knT
                                      rw [decide_eq_true (show t < 100 by omega)]
                                      rfl)
                                   | (unfold sp_knT
                                      rw [← g3 _ (by omega), (ib_test (by omega) K).mp c_117]
                                      simp))
                            | (refine ihm (j + 1) _ false _ _ _ (by omega) (by omega) (fun x hx => ?_) ?_
                               · rw [hown, sp_getD ht, hB, ib_or, e3 x hx]
                                 congr 1
                                 first
                                   | (rw [ib_one (by omega), Bool.true_and]
                                      simp <;> omega)
                                   | (rw [show nI 0 = (0 : Int32) from rfl, ib_0]
                                      simp <;> omega)
                               · rw [hok, ← Bool.and_assoc, ← e4, c_94]
                                 first
                                   | rfl
                                   | (unfold sp_knT
                                      rw [← g3 _ (by omega), decide_eq_false (show ¬ t < 100 by omega)]
                                      cases e : ib K (t - 100) with
                                      | false => rfl
                                      | true => exact absurd ((ib_test (by omega) K).mpr e) c_117))
                    · skip
                      have hB : sp_bnd it j = true := by
                        unfold sp_bnd
                        simp <;> omega
                      refine nv_iconst hX (m := 1) (by decide) dX4_isSound_86 ?_
                      refine rv_goto hX 91 dX4_isSound_87 (by decide) ?_
                      refine rv_istore hX dX4_isSound_91 (rv_st_9 rfl) ?_
                      refine rv_iload_n hX dX4_isSound_93 rfl ?_
                      first | refine zv_if_eq hX 124 dX4_isSound_94 (by decide) (fun c_94 => ?_) (fun c_94 => ?_) | refine nv_if_eq hX 124 (by omega) dX4_isSound_94 (by decide) (fun c_94 => ?_) (fun c_94 => ?_) | refine rv_if_eq hX 124 dX4_isSound_94 (by decide) (fun c_94 => ?_) (fun c_94 => ?_)
                      · skip
                        refine nv_iconst hX (m := 0) (by decide) dX4_isSound_124 ?_
                        refine rv_istore_n hX dX4_isSound_125 (rv_st_2 rfl) ?_
                        refine rv_iload hX dX4_isSound_126 rfl ?_
                        refine rv_iload hX dX4_isSound_128 rfl ?_
                        refine rv_if_eq hX 148 dX4_isSound_130 (by decide) (fun q => absurd q (by decide)) (fun _ => ?_)
                        refine rv_iload hX dX4_isSound_133 rfl ?_
                        refine rv_if_eq hX 148 dX4_isSound_135 (by decide) (fun q => absurd q (by decide)) (fun _ => ?_)
                        refine nv_iconst hX (m := 1) (by decide) dX4_isSound_138 ?_
                        refine rv_iload hX dX4_isSound_139 rfl ?_
                        refine nv_bipush hX (m := 100) (by decide) dX4_isSound_141 ?_
                        first | refine nv_isub hX (by omega) dX4_isSound_143 ?_ | refine rv_isub hX dX4_isSound_143 ?_
                        refine rv_ishl hX dX4_isSound_144 ?_
                        refine rv_goto hX 149 dX4_isSound_145 (by decide) ?_
                        refine rv_ior hX dX4_isSound_149 ?_
                        refine rv_istore hX dX4_isSound_150 (rv_st_5 rfl) ?_
                        first | refine nv_iinc hX (m := 1) dX4_isSound_152 rfl (by decide) (rv_st_6 rfl) ?_ | refine rv_iinc hX dX4_isSound_152 rfl rfl (rv_st_6 rfl) ?_
                        refine rv_goto hX 32 dX4_isSound_155 (by decide) ?_
                        rw [hB] at hok
                        first
                          | (refine ihm (j + 1) _ true _ _ _ (by omega) (by omega) (fun x hx => ?_) ?_
                             · rw [hown, sp_getD ht, hB, ib_or, e3 x hx]
                               congr 1
                               first
                                 | (rw [ib_one (by omega), Bool.true_and]
                                    simp <;> omega)
                                 | (rw [show nI 0 = (0 : Int32) from rfl, ib_0]
                                    simp <;> omega)
                             · rw [hok, ← Bool.and_assoc, ← e4, c_94]
                               first
                                 | rfl
                                 | (unfold sp_knT
                                    rw [decide_eq_true (show t < 100 by omega)]
                                    rfl)
                                 | (unfold sp_knT
                                    rw [← g3 _ (by omega), (ib_test (by omega) K).mp c_117]
                                    simp))
                          | (refine ihm (j + 1) _ false _ _ _ (by omega) (by omega) (fun x hx => ?_) ?_
                             · rw [hown, sp_getD ht, hB, ib_or, e3 x hx]
                               congr 1
                               first
                                 | (rw [ib_one (by omega), Bool.true_and]
                                    simp <;> omega)
                                 | (rw [show nI 0 = (0 : Int32) from rfl, ib_0]
                                    simp <;> omega)
                             · rw [hok, ← Bool.and_assoc, ← e4, c_94]
                               first
                                 | rfl
                                 | (unfold sp_knT
                                    rw [← g3 _ (by omega), decide_eq_false (show ¬ t < 100 by omega)]
                                    cases e : ib K (t - 100) with
                                    | false => rfl
                                    | true => exact absurd ((ib_test (by omega) K).mpr e) c_117))
                      · skip
                        refine rv_iload hX dX4_isSound_97 rfl ?_
                        refine rv_if_eq hX 120 dX4_isSound_99 (by decide) (fun q => absurd q (by decide)) (fun _ => ?_)
                        refine rv_iload hX dX4_isSound_102 rfl ?_
                        refine rv_if_ne hX 120 dX4_isSound_104 (by decide) (fun _ => ?_) (fun q => absurd q (by decide))
                        refine nv_iconst hX (m := 1) (by decide) dX4_isSound_120 ?_
                        refine rv_goto hX 125 dX4_isSound_121 (by decide) ?_
                        refine rv_istore_n hX dX4_isSound_125 (rv_st_2 rfl) ?_
                        refine rv_iload hX dX4_isSound_126 rfl ?_
                        refine rv_iload hX dX4_isSound_128 rfl ?_
                        refine rv_if_eq hX 148 dX4_isSound_130 (by decide) (fun q => absurd q (by decide)) (fun _ => ?_)
                        refine rv_iload hX dX4_isSound_133 rfl ?_
                        refine rv_if_eq hX 148 dX4_isSound_135 (by decide) (fun q => absurd q (by decide)) (fun _ => ?_)
                        refine nv_iconst hX (m := 1) (by decide) dX4_isSound_138 ?_
                        refine rv_iload hX dX4_isSound_139 rfl ?_
                        refine nv_bipush hX (m := 100) (by decide) dX4_isSound_141 ?_
                        first | refine nv_isub hX (by omega) dX4_isSound_143 ?_ | refine rv_isub hX dX4_isSound_143 ?_
                        refine rv_ishl hX dX4_isSound_144 ?_
                        refine rv_goto hX 149 dX4_isSound_145 (by decide) ?_
                        refine rv_ior hX dX4_isSound_149 ?_
                        refine rv_istore hX dX4_isSound_150 (rv_st_5 rfl) ?_
                        first | refine nv_iinc hX (m := 1) dX4_isSound_152 rfl (by decide) (rv_st_6 rfl) ?_ | refine rv_iinc hX dX4_isSound_152 rfl rfl (rv_st_6 rfl) ?_
                        refine rv_goto hX 32 dX4_isSound_155 (by decide) ?_
                        rw [hB] at hok
                        first
                          | (refine ihm (j + 1) _ true _ _ _ (by omega) (by omega) (fun x hx => ?_) ?_
                             · rw [hown, sp_getD ht, hB, ib_or, e3 x hx]
                               congr 1
                               first
                                 | (rw [ib_one (by omega), Bool.true_and]
                                    simp <;> omega)
                                 | (rw [show nI 0 = (0 : Int32) from rfl, ib_0]
                                    simp <;> omega)
                             · rw [hok, ← Bool.and_assoc, ← e4, c_94]
                               first
                                 | rfl
                                 | (unfold sp_knT
                                    rw [decide_eq_true (show t < 100 by omega)]
                                    rfl)
                                 | (unfold sp_knT
                                    rw [← g3 _ (by omega), (ib_test (by omega) K).mp c_117]
                                    simp))
                          | (refine ihm (j + 1) _ false _ _ _ (by omega) (by omega) (fun x hx => ?_) ?_
                             · rw [hown, sp_getD ht, hB, ib_or, e3 x hx]
                               congr 1
                               first
                                 | (rw [ib_one (by omega), Bool.true_and]
                                    simp <;> omega)
                                 | (rw [show nI 0 = (0 : Int32) from rfl, ib_0]
                                    simp <;> omega)
                             · rw [hok, ← Bool.and_assoc, ← e4, c_94]
                               first
                                 | rfl
                                 | (unfold sp_knT
                                    rw [← g3 _ (by omega), decide_eq_false (show ¬ t < 100 by omega)]
                                    cases e : ib K (t - 100) with
                                    | false => rfl
                                    | true => exact absurd ((ib_test (by omega) K).mpr e) c_117))
        exact terms _ 0 0 b _ _ _ (Nat.zero_le _) (Nat.lt_succ_self _) (fun x _ => by rw [ib_0]; rfl) (by unfold sp_okj; simp)
  refine nv_iconst hX (m := 0) (by decide) dX4_isSound_0 ?_
  refine rv_istore_n hX dX4_isSound_1 (rv_st_1 rfl) ?_
  refine nv_iconst hX (m := 1) (by decide) dX4_isSound_2 ?_
  refine rv_istore_n hX dX4_isSound_3 (rv_st_2 rfl) ?_
  refine nv_iconst hX (m := 0) (by decide) dX4_isSound_4 ?_
  refine rv_istore_n hX dX4_isSound_5 (rv_st_3 rfl) ?_
  exact items _ 0 0 sp_none true _ _ _ _ _ _ (Nat.zero_le _) (Nat.lt_succ_self _) (fun x _ => by rw [ib_0]; rfl) (by rw [List.drop_zero]) (by rw [List.drop_zero]; rfl)
