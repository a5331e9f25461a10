/-! THE REFERENCE: the fact of a group -/
set_option maxRecDepth 100000
theorem sp_agg_step {has : Nat → Bool} {v : Nat} (h : has v = true) : sp_many has (v + 1) = sp_many has v + 1 ∧ sp_sumv has (v + 1) = sp_sumv has v + v ∧ sp_great has (v + 1) = v := by
  refine ⟨?_, ?_, ?_⟩
  · show sp_many has v + (if has v = true then 1 else 0) = _
    rw [if_pos h]
  · show sp_sumv has v + (if has v = true then v else 0) = _
    rw [if_pos h]
  · show (if has v = true then v else sp_great has v) = _
    rw [if_pos h]
theorem sp_agg_skip {has : Nat → Bool} {v : Nat} (h : has v = false) : sp_many has (v + 1) = sp_many has v + 0 ∧ sp_sumv has (v + 1) = sp_sumv has v + 0 ∧ sp_great has (v + 1) = sp_great has v ∧ sp_least has (v + 1) = sp_least has v := by
  have h' : ¬ has v = true := by rw [h]; decide
  refine ⟨?_, ?_, ?_, ?_⟩
  · show sp_many has v + (if has v = true then 1 else 0) = _
    rw [if_neg h']
  · show sp_sumv has v + (if has v = true then v else 0) = _
    rw [if_neg h']
  · show (if has v = true then v else sp_great has v) = _
    rw [if_neg h']
  · show (match sp_least has v with
      | some a => some a
      | none => if has v = true then some v else none) = _
    cases sp_least has v with
    | some a => rfl
    | none => show (if has v = true then some v else none) = _; rw [if_neg h']
theorem sp_least_new {has : Nat → Bool} {v : Nat} (h : has v = true) (e : sp_least has v = none) : sp_least has (v + 1) = some v := by
  show (match sp_least has v with
      | some a => some a
      | none => if has v = true then some v else none) = _
  rw [e]
  show (if has v = true then some v else none) = _
  rw [if_pos h]
theorem sp_least_old {has : Nat → Bool} {v : Nat} (e : sp_least has v ≠ none) : sp_least has (v + 1) = sp_least has v := by
  show (match sp_least has v with
      | some a => some a
      | none => if has v = true then some v else none) = _
  cases h : sp_least has v with
  | some a => rfl
  | none => exact absurd h e
def sp_min99 (a : Nat) : Nat := if 99 < a then 99 else a
theorem m_groupFact {G : rv_G} (hG : rv_GK G) {d : Nat} (hd : 1 ≤ d) {σ : rv_S} {S : List Nat} {b s t g key : Nat} {rel : Nat} {hts : List Nat} {has : Nat → Bool} (hh : mHd σ S b rel hts) (hw : sp_wfH hts) (hs : sp_gslot hts 0 = some s) (ht : hts[s]? = some t) (hg : g < 62) (hkey : key < 8000000) (hk : σ.2.1 30 g = nI key) (hlo : ∀ a, a < 50 → lb (σ.2.2 31 g) a = has a) (hhi : ∀ a, a < 50 → lb (σ.2.2 32 g) a = has (50 + a)) (hex : ∃ a, a < 100 ∧ has a = true) : mC G d yX4_groupFact wX4_groupFact [.int (nI b), .int (nI g)] σ (mPi (fun r τ => τ = σ ∧ r = nI (key + sp_wt s * sp_min99 (sp_agg ((t - 200) / 8) has)))) := by
  refine mv_start hG (by decide +kernel) (Nat.le_of_ble_eq_true rfl) (fun X Hb o hX1 hX hE => ?_)
  subst hX1
  show rv_V X (rv_mh Hb o _) 0 [some (.ref o), some (.int (nI b)), some (.int (nI g)), none, none, none, none, none, none, none, none] []
  obtain ⟨_, t', ht', ht2⟩ := sp_gslot_get hs
  have ht200 : 200 ≤ t := by
    rw [Nat.sub_zero] at ht'
    rw [ht] at ht'
    cases ht'
    exact ht2
  have hb17 := hh.2.1
  have htm := List.mem_of_getElem? ht
  have ht232 := hw.1 t htm
  have hs3 := (List.getElem?_eq_some_iff.mp ht).1
  have hbds := hh.bds
  have hm := sp_many_le has 100
  have hsu := sp_sumv_le has 100
  have hgr := sp_great_le has 100
  have fin : ∀ x, rv_V X (rv_mh Hb o σ) 40 [some (.ref o), some (.int (nI b)), some (.int (nI g)), some (.int (nI s)), some (.int (nI ((t - 200) / 8))), some (.int (nI (sp_many has 100))), some (.int (nI (sp_sumv has 100))), some (.int (rv_oi (sp_least has 100))), some (.int (nI (sp_great has 100))), some (.int (nI 100)), x] [] := by
    intro x
    obtain ⟨a, ha, hb⟩ := hex
    obtain ⟨a', ha'⟩ := sp_least_some hb ha
    have hal := sp_least_lt ha'
    rw [ha']
    show rv_V X (rv_mh Hb o σ) 40 [some (.ref o), some (.int (nI b)), some (.int (nI g)), some (.int (nI s)), some (.int (nI ((t - 200) / 8))), some (.int (nI (sp_many has 100))), some (.int (nI (sp_sumv has 100))), some (.int (nI a')), some (.int (nI (sp_great has 100))), some (.int (nI 100)), x] []
    refine rv_iload hX dX4_groupFact_40 rfl ?_
    refine nv_bipush hX (m := 100) (by decide) dX4_groupFact_42 ?_
    first | refine nv_icmp_ge hX 175 (by omega) (by omega) dX4_groupFact_44 (by decide) (fun c_44 => ?_) (fun c_44 => ?_) | refine rv_icmp_ge hX 175 dX4_groupFact_44 (by decide) (fun c_44 => ?_) (fun c_44 => ?_)
    · skip
      refine rv_iload hX dX4_groupFact_175 rfl ?_
      first | refine zv_if_ne hX 185 dX4_groupFact_177 (by decide) (fun c_177 => ?_) (fun c_177 => ?_) | refine nv_if_ne hX 185 (by omega) dX4_groupFact_177 (by decide) (fun c_177 => ?_) (fun c_177 => ?_) | refine rv_if_ne hX 185 dX4_groupFact_177 (by decide) (fun c_177 => ?_) (fun c_177 => ?_)
      · skip
        refine rv_iload hX dX4_groupFact_185 rfl ?_
        refine nv_iconst hX (m := 1) (by decide) dX4_groupFact_187 ?_
        first | refine nv_icmp_ne hX 196 (by omega) (by omega) dX4_groupFact_188 (by decide) (fun c_188 => ?_) (fun c_188 => ?_) | refine rv_icmp_ne hX 196 dX4_groupFact_188 (by decide) (fun c_188 => ?_) (fun c_188 => ?_)
        · skip
          refine rv_iload hX dX4_groupFact_196 rfl ?_
          refine nv_iconst hX (m := 2) (by decide) dX4_groupFact_198 ?_
          first | refine nv_icmp_ne hX 207 (by omega) (by omega) dX4_groupFact_199 (by decide) (fun c_199 => ?_) (fun c_199 => ?_) | refine rv_icmp_ne hX 207 dX4_groupFact_199 (by decide) (fun c_199 => ?_) (fun c_199 => ?_)
          · skip
            refine rv_iload hX dX4_groupFact_207 rfl ?_
            refine rv_istore hX dX4_groupFact_209 (rv_st_9 rfl) ?_
            refine rv_aload_n hX dX4_groupFact_211 rfl ?_
            refine mv_ga hX (k := 40) (j := 30) gX4_97_X4 (by decide) rfl (by decide) dX4_groupFact_212 ?_
            refine rv_iload_n hX dX4_groupFact_215 rfl ?_
            refine mv_ld hX (j := 30) (by decide) (by decide) rfl (by decide) (show _ < 62 by omega) dX4_groupFact_216 ?_
            rw [hk]
            refine rv_iload_n hX dX4_groupFact_217 rfl ?_
            refine sv_calli hX iX4_189 mdX4_weight (m_weight hG (d := d - 1) (by omega)) (by omega) rfl rfl (Nat.le_of_ble_eq_true rfl) dX4_groupFact_218 (fun r_218 h_218 => ?_)
            obtain rfl := h_218
            refine rv_iload hX dX4_groupFact_221 rfl ?_
            refine nv_bipush hX (m := 99) (by decide) dX4_groupFact_223 ?_
            first | refine nv_icmp_le hX 233 (by omega) (by omega) dX4_groupFact_225 (by decide) (fun c_225 => ?_) (fun c_225 => ?_) | refine rv_icmp_le hX 233 dX4_groupFact_225 (by decide) (fun c_225 => ?_) (fun c_225 => ?_)
            · skip
              refine rv_iload hX dX4_groupFact_233 rfl ?_
              first | refine nv_imul hX dX4_groupFact_235 ?_ | refine rv_imul hX dX4_groupFact_235 ?_
              first | refine nv_iadd hX dX4_groupFact_236 ?_ | refine rv_iadd hX dX4_groupFact_236 ?_
              refine mv_reti hX hE dX4_groupFact_237 ?_
              refine ⟨rfl, ?_⟩
              congr 2
              congr 1
              first
                | (have e : sp_agg ((t - 200) / 8) has = sp_many has 100 := by
                     unfold sp_agg
                     rw [if_pos (by omega)]
                   rw [e]
                   unfold sp_min99
                   first
                     | rw [if_pos (by omega)]
                     | rw [if_neg (by omega)])
                | (have e : sp_agg ((t - 200) / 8) has = sp_sumv has 100 := by
                     unfold sp_agg
                     rw [if_neg (by omega), if_pos (by omega)]
                   rw [e]
                   unfold sp_min99
                   first
                     | rw [if_pos (by omega)]
                     | rw [if_neg (by omega)])
                | (have e : sp_agg ((t - 200) / 8) has = a' := by
                     unfold sp_agg
                     rw [if_neg (by omega), if_neg (by omega), if_pos (by omega), ha']
                     rfl
                   rw [e]
                   unfold sp_min99
                   first
                     | rw [if_pos (by omega)]
                     | rw [if_neg (by omega)])
                | (have e : sp_agg ((t - 200) / 8) has = sp_great has 100 := by
                     unfold sp_agg
                     rw [if_neg (by omega), if_neg (by omega), if_neg (by omega)]
                   rw [e]
                   unfold sp_min99
                   first
                     | rw [if_pos (by omega)]
                     | rw [if_neg (by omega)])
            · skip
              refine nv_bipush hX (m := 99) (by decide) dX4_groupFact_228 ?_
              refine rv_goto hX 235 dX4_groupFact_230 (by decide) ?_
              first | refine nv_imul hX dX4_groupFact_235 ?_ | refine rv_imul hX dX4_groupFact_235 ?_
              first | refine nv_iadd hX dX4_groupFact_236 ?_ | refine rv_iadd hX dX4_groupFact_236 ?_
              refine mv_reti hX hE dX4_groupFact_237 ?_
              refine ⟨rfl, ?_⟩
              congr 2
              congr 1
              first
                | (have e : sp_agg ((t - 200) / 8) has = sp_many has 100 := by
                     unfold sp_agg
                     rw [if_pos (by omega)]
                   rw [e]
                   unfold sp_min99
                   first
                     | rw [if_pos (by omega)]
                     | rw [if_neg (by omega)])
                | (have e : sp_agg ((t - 200) / 8) has = sp_sumv has 100 := by
                     unfold sp_agg
                     rw [if_neg (by omega), if_pos (by omega)]
                   rw [e]
                   unfold sp_min99
                   first
                     | rw [if_pos (by omega)]
                     | rw [if_neg (by omega)])
                | (have e : sp_agg ((t - 200) / 8) has = a' := by
                     unfold sp_agg
                     rw [if_neg (by omega), if_neg (by omega), if_pos (by omega), ha']
                     rfl
                   rw [e]
                   unfold sp_min99
                   first
                     | rw [if_pos (by omega)]
                     | rw [if_neg (by omega)])
                | (have e : sp_agg ((t - 200) / 8) has = sp_great has 100 := by
                     unfold sp_agg
                     rw [if_neg (by omega), if_neg (by omega), if_neg (by omega)]
                   rw [e]
                   unfold sp_min99
                   first
                     | rw [if_pos (by omega)]
                     | rw [if_neg (by omega)])
          · skip
            refine rv_iload hX dX4_groupFact_202 rfl ?_
            refine rv_goto hX 209 dX4_groupFact_204 (by decide) ?_
            refine rv_istore hX dX4_groupFact_209 (rv_st_9 rfl) ?_
            refine rv_aload_n hX dX4_groupFact_211 rfl ?_
            refine mv_ga hX (k := 40) (j := 30) gX4_97_X4 (by decide) rfl (by decide) dX4_groupFact_212 ?_
            refine rv_iload_n hX dX4_groupFact_215 rfl ?_
            refine mv_ld hX (j := 30) (by decide) (by decide) rfl (by decide) (show _ < 62 by omega) dX4_groupFact_216 ?_
            rw [hk]
            refine rv_iload_n hX dX4_groupFact_217 rfl ?_
            refine sv_calli hX iX4_189 mdX4_weight (m_weight hG (d := d - 1) (by omega)) (by omega) rfl rfl (Nat.le_of_ble_eq_true rfl) dX4_groupFact_218 (fun r_218 h_218 => ?_)
            obtain rfl := h_218
            refine rv_iload hX dX4_groupFact_221 rfl ?_
            refine nv_bipush hX (m := 99) (by decide) dX4_groupFact_223 ?_
            first | refine nv_icmp_le hX 233 (by omega) (by omega) dX4_groupFact_225 (by decide) (fun c_225 => ?_) (fun c_225 => ?_) | refine rv_icmp_le hX 233 dX4_groupFact_225 (by decide) (fun c_225 => ?_) (fun c_225 => ?_)
            · skip
              refine rv_iload hX dX4_groupFact_233 rfl ?_
              first | refine nv_imul hX dX4_groupFact_235 ?_ | refine rv_imul hX dX4_groupFact_235 ?_
              first | refine nv_iadd hX dX4_groupFact_236 ?_ | refine rv_iadd hX dX4_groupFact_236 ?_
              refine mv_reti hX hE dX4_groupFact_237 ?_
              refine ⟨rfl, ?_⟩
              congr 2
              congr 1
              first
                | (have e : sp_agg ((t - 200) / 8) has = sp_many has 100 := by
                     unfold sp_agg
                     rw [if_pos (by omega)]
                   rw [e]
                   unfold sp_min99
                   first
                     | rw [if_pos (by omega)]
                     | rw [if_neg (by omega)])
                | (have e : sp_agg ((t - 200) / 8) has = sp_sumv has 100 := by
                     unfold sp_agg
                     rw [if_neg (by omega), if_pos (by omega)]
                   rw [e]
                   unfold sp_min99
                   first
                     | rw [if_pos (by omega)]
                     | rw [if_neg (by omega)])
                | (have e : sp_agg ((t - 200) / 8) has = a' := by
                     unfold sp_agg
                     rw [if_neg (by omega), if_neg (by omega), if_pos (by omega), ha']
                     rfl
                   rw [e]
                   unfold sp_min99
                   first
                     | rw [if_pos (by omega)]
                     | rw [if_neg (by omega)])
                | (have e : sp_agg ((t - 200) / 8) has = sp_great has 100 := by
                     unfold sp_agg
                     rw [if_neg (by omega), if_neg (by omega), if_neg (by omega)]
                   rw [e]
                   unfold sp_min99
                   first
                     | rw [if_pos (by omega)]
                     | rw [if_neg (by omega)])
            · skip
              refine nv_bipush hX (m := 99) (by decide) dX4_groupFact_228 ?_
              refine rv_goto hX 235 dX4_groupFact_230 (by decide) ?_
              first | refine nv_imul hX dX4_groupFact_235 ?_ | refine rv_imul hX dX4_groupFact_235 ?_
              first | refine nv_iadd hX dX4_groupFact_236 ?_ | refine rv_iadd hX dX4_groupFact_236 ?_
              refine mv_reti hX hE dX4_groupFact_237 ?_
              refine ⟨rfl, ?_⟩
              congr 2
              congr 1
              first
                | (have e : sp_agg ((t - 200) / 8) has = sp_many has 100 := by
                     unfold sp_agg
                     rw [if_pos (by omega)]
                   rw [e]
                   unfold sp_min99
                   first
                     | rw [if_pos (by omega)]
                     | rw [if_neg (by omega)])
                | (have e : sp_agg ((t - 200) / 8) has = sp_sumv has 100 := by
                     unfold sp_agg
                     rw [if_neg (by omega), if_pos (by omega)]
                   rw [e]
                   unfold sp_min99
                   first
                     | rw [if_pos (by omega)]
                     | rw [if_neg (by omega)])
                | (have e : sp_agg ((t - 200) / 8) has = a' := by
                     unfold sp_agg
                     rw [if_neg (by omega), if_neg (by omega), if_pos (by omega), ha']
                     rfl
                   rw [e]
                   unfold sp_min99
                   first
                     | rw [if_pos (by omega)]
                     | rw [if_neg (by omega)])
                | (have e : sp_agg ((t - 200) / 8) has = sp_great has 100 := by
                     unfold sp_agg
                     rw [if_neg (by omega), if_neg (by omega), if_neg (by omega)]
                   rw [e]
                   unfold sp_min99
                   first
                     | rw [if_pos (by omega)]
                     | rw [if_neg (by omega)])
        · skip
          refine rv_iload hX dX4_groupFact_191 rfl ?_
          refine rv_goto hX 209 dX4_groupFact_193 (by decide) ?_
          refine rv_istore hX dX4_groupFact_209 (rv_st_9 rfl) ?_
          refine rv_aload_n hX dX4_groupFact_211 rfl ?_
          refine mv_ga hX (k := 40) (j := 30) gX4_97_X4 (by decide) rfl (by decide) dX4_groupFact_212 ?_
          refine rv_iload_n hX dX4_groupFact_215 rfl ?_
          refine mv_ld hX (j := 30) (by decide) (by decide) rfl (by decide) (show _ < 62 by omega) dX4_groupFact_216 ?_
          rw [hk]
          refine rv_iload_n hX dX4_groupFact_217 rfl ?_
          refine sv_calli hX iX4_189 mdX4_weight (m_weight hG (d := d - 1) (by omega)) (by omega) rfl rfl (Nat.le_of_ble_eq_true rfl) dX4_groupFact_218 (fun r_218 h_218 => ?_)
          obtain rfl := h_218
          refine rv_iload hX dX4_groupFact_221 rfl ?_
          refine nv_bipush hX (m := 99) (by decide) dX4_groupFact_223 ?_
          first | refine nv_icmp_le hX 233 (by omega) (by omega) dX4_groupFact_225 (by decide) (fun c_225 => ?_) (fun c_225 => ?_) | refine rv_icmp_le hX 233 dX4_groupFact_225 (by decide) (fun c_225 => ?_) (fun c_225 => ?_)
          · skip
            refine rv_iload hX dX4_groupFact_233 rfl ?_
            first | refine nv_imul hX dX4_groupFact_235 ?_ | refine rv_imul hX dX4_groupFact_235 ?_
            first | refine nv_iadd hX dX4_groupFact_236 ?_ | refine rv_iadd hX dX4_groupFact_236 ?_
            refine mv_reti hX hE dX4_groupFact_237 ?_
            refine ⟨rfl, ?_⟩
            congr 2
            congr 1
            first
              | (have e : sp_agg ((t - 200) / 8) has = sp_many has 100 := by
                   unfold sp_agg
                   rw [if_pos (by omega)]
                 rw [e]
                 unfold sp_min99
                 first
                   | rw [if_pos (by omega)]
                   | rw [if_neg (by omega)])
              | (have e : sp_agg ((t - 200) / 8) has = sp_sumv has 100 := by
                   unfold sp_agg
                   rw [if_neg (by omega), if_pos (by omega)]
                 rw [e]
                 unfold sp_min99
                 first
                   | rw [if_pos (by omega)]
                   | rw [if_neg (by omega)])
              | (have e : sp_agg ((t - 200) / 8) has = a' := by
                   unfold sp_agg
                   rw [if_neg (by omega), if_neg (by omega), if_pos (by omega), ha']
                   rfl
                 rw [e]
                 unfold sp_min99
                 first
                   | rw [if_pos (by omega)]
                   | rw [if_neg (by omega)])
              | (have e : sp_agg ((t - 200) / 8) has = sp_great has 100 := by
                   unfold sp_agg
                   rw [if_neg (by omega), if_neg (by omega), if_neg (by omega)]
                 rw [e]
                 unfold sp_min99
                 first
                   | rw [if_pos (by omega)]
                   | rw [if_neg (by omega)])
          · skip
            refine nv_bipush hX (m := 99) (by decide) dX4_groupFact_228 ?_
            refine rv_goto hX 235 dX4_groupFact_230 (by decide) ?_
            first | refine nv_imul hX dX4_groupFact_235 ?_ | refine rv_imul hX dX4_groupFact_235 ?_
            first | refine nv_iadd hX dX4_groupFact_236 ?_ | refine rv_iadd hX dX4_groupFact_236 ?_
            refine mv_reti hX hE dX4_groupFact_237 ?_
            refine ⟨rfl, ?_⟩
            congr 2
            congr 1
            first
              | (have e : sp_agg ((t - 200) / 8) has = sp_many has 100 := by
                   unfold sp_agg
                   rw [if_pos (by omega)]
                 rw [e]
                 unfold sp_min99
                 first
                   | rw [if_pos (by omega)]
                   | rw [if_neg (by omega)])
              | (have e : sp_agg ((t - 200) / 8) has = sp_sumv has 100 := by
                   unfold sp_agg
                   rw [if_neg (by omega), if_pos (by omega)]
                 rw [e]
                 unfold sp_min99
                 first
                   | rw [if_pos (by omega)]
                   | rw [if_neg (by omega)])
              | (have e : sp_agg ((t - 200) / 8) has = a' := by
                   unfold sp_agg
                   rw [if_neg (by omega), if_neg (by omega), if_pos (by omega), ha']
                   rfl
                 rw [e]
                 unfold sp_min99
                 first
                   | rw [if_pos (by omega)]
                   | rw [if_neg (by omega)])
              | (have e : sp_agg ((t - 200) / 8) has = sp_great has 100 := by
                   unfold sp_agg
                   rw [if_neg (by omega), if_neg (by omega), if_neg (by omega)]
                 rw [e]
                 unfold sp_min99
                 first
                   | rw [if_pos (by omega)]
                   | rw [if_neg (by omega)])
      · skip
        refine rv_iload hX dX4_groupFact_180 rfl ?_
        refine rv_goto hX 209 dX4_groupFact_182 (by decide) ?_
        refine rv_istore hX dX4_groupFact_209 (rv_st_9 rfl) ?_
        refine rv_aload_n hX dX4_groupFact_211 rfl ?_
        refine mv_ga hX (k := 40) (j := 30) gX4_97_X4 (by decide) rfl (by decide) dX4_groupFact_212 ?_
        refine rv_iload_n hX dX4_groupFact_215 rfl ?_
        refine mv_ld hX (j := 30) (by decide) (by decide) rfl (by decide) (show _ < 62 by omega) dX4_groupFact_216 ?_
        rw [hk]
        refine rv_iload_n hX dX4_groupFact_217 rfl ?_
        refine sv_calli hX iX4_189 mdX4_weight (m_weight hG (d := d - 1) (by omega)) (by omega) rfl rfl (Nat.le_of_ble_eq_true rfl) dX4_groupFact_218 (fun r_218 h_218 => ?_)
        obtain rfl := h_218
        refine rv_iload hX dX4_groupFact_221 rfl ?_
        refine nv_bipush hX (m := 99) (by decide) dX4_groupFact_223 ?_
        first | refine nv_icmp_le hX 233 (by omega) (by omega) dX4_groupFact_225 (by decide) (fun c_225 => ?_) (fun c_225 => ?_) | refine rv_icmp_le hX 233 dX4_groupFact_225 (by decide) (fun c_225 => ?_) (fun c_225 => ?_)
        · skip
          refine rv_iload hX dX4_groupFact_233 rfl ?_
          first | refine nv_imul hX dX4_groupFact_235 ?_ | refine rv_imul hX dX4_groupFact_235 ?_
          first | refine nv_iadd hX dX4_groupFact_236 ?_ | refine rv_iadd hX dX4_groupFact_236 ?_
          refine mv_reti hX hE dX4_groupFact_237 ?_
          refine ⟨rfl, ?_⟩
          congr 2
          congr 1
          first
            | (have e : sp_agg ((t - 200) / 8) has = sp_many has 100 := by
                 unfold sp_agg
                 rw [if_pos (by omega)]
               rw [e]
               unfold sp_min99
               first
                 | rw [if_pos (by omega)]
                 | rw [if_neg (by omega)])
            | (have e : sp_agg ((t - 200) / 8) has = sp_sumv has 100 := by
                 unfold sp_agg
                 rw [if_neg (by omega), if_pos (by omega)]
               rw [e]
               unfold sp_min99
               first
                 | rw [if_pos (by omega)]
                 | rw [if_neg (by omega)])
            | (have e : sp_agg ((t - 200) / 8) has = a' := by
                 unfold sp_agg
                 rw [if_neg (by omega), if_neg (by omega), if_pos (by omega), ha']
                 rfl
               rw [e]
               unfold sp_min99
               first
                 | rw [if_pos (by omega)]
                 | rw [if_neg (by omega)])
            | (have e : sp_agg ((t - 200) / 8) has = sp_great has 100 := by
                 unfold sp_agg
                 rw [if_neg (by omega), if_neg (by omega), if_neg (by omega)]
               rw [e]
               unfold sp_min99
               first
                 | rw [if_pos (by omega)]
                 | rw [if_neg (by omega)])
        · skip
          refine nv_bipush hX (m := 99) (by decide) dX4_groupFact_228 ?_
          refine rv_goto hX 235 dX4_groupFact_230 (by decide) ?_
          first | refine nv_imul hX dX4_groupFact_235 ?_ | refine rv_imul hX dX4_groupFact_235 ?_
          first | refine nv_iadd hX dX4_groupFact_236 ?_ | refine rv_iadd hX dX4_groupFact_236 ?_
          refine mv_reti hX hE dX4_groupFact_237 ?_
          refine ⟨rfl, ?_⟩
          congr 2
          congr 1
          first
            | (have e : sp_agg ((t - 200) / 8) has = sp_many has 100 := by
                 unfold sp_agg
                 rw [if_pos (by omega)]
               rw [e]
               unfold sp_min99
               first
                 | rw [if_pos (by omega)]
                 | rw [if_neg (by omega)])
            | (have e : sp_agg ((t - 200) / 8) has = sp_sumv has 100 := by
                 unfold sp_agg
                 rw [if_neg (by omega), if_pos (by omega)]
               rw [e]
               unfold sp_min99
               first
                 | rw [if_pos (by omega)]
                 | rw [if_neg (by omega)])
            | (have e : sp_agg ((t - 200) / 8) has = a' := by
                 unfold sp_agg
                 rw [if_neg (by omega), if_neg (by omega), if_pos (by omega), ha']
                 rfl
               rw [e]
               unfold sp_min99
               first
                 | rw [if_pos (by omega)]
                 | rw [if_neg (by omega)])
            | (have e : sp_agg ((t - 200) / 8) has = sp_great has 100 := by
                 unfold sp_agg
                 rw [if_neg (by omega), if_neg (by omega), if_neg (by omega)]
               rw [e]
               unfold sp_min99
               first
                 | rw [if_pos (by omega)]
                 | rw [if_neg (by omega)])
    · skip
      exact absurd c_44 (by omega)
      --done
  have loop : ∀ (n v : Nat) (x : Option Value), v ≤ 100 → 100 - v < n → rv_V X (rv_mh Hb o σ) 40 [some (.ref o), some (.int (nI b)), some (.int (nI g)), some (.int (nI s)), some (.int (nI ((t - 200) / 8))), some (.int (nI (sp_many has v))), some (.int (nI (sp_sumv has v))), some (.int (rv_oi (sp_least has v))), some (.int (nI (sp_great has v))), some (.int (nI v)), x] [] := by
    intro n
    induction n with
    | zero => intro v x h1 h2; omega
    | succ n ih =>
      intro v x hv hn
      by_cases hv100 : v = 100
      · subst hv100
        exact fin x
      refine rv_iload hX dX4_groupFact_40 rfl ?_
      refine nv_bipush hX (m := 100) (by decide) dX4_groupFact_42 ?_
      first | refine nv_icmp_ge hX 175 (by omega) (by omega) dX4_groupFact_44 (by decide) (fun c_44 => ?_) (fun c_44 => ?_) | refine rv_icmp_ge hX 175 dX4_groupFact_44 (by decide) (fun c_44 => ?_) (fun c_44 => ?_)
      · skip
        exact absurd c_44 (by omega)
        --done
      · skip
        refine rv_iload hX dX4_groupFact_47 rfl ?_
        refine nv_bipush hX (m := 50) (by decide) dX4_groupFact_49 ?_
        first | refine nv_icmp_ge hX 78 (by omega) (by omega) dX4_groupFact_51 (by decide) (fun c_51 => ?_) (fun c_51 => ?_) | refine rv_icmp_ge hX 78 dX4_groupFact_51 (by decide) (fun c_51 => ?_) (fun c_51 => ?_)
        · skip
          refine rv_aload_n hX dX4_groupFact_78 rfl ?_
          refine mv_ga hX (k := 42) (j := 32) gX4_104_X4 (by decide) rfl (by decide) dX4_groupFact_79 ?_
          refine rv_iload_n hX dX4_groupFact_82 rfl ?_
          refine mv_lld hX (j := 32) (by decide) (by decide) rfl (by decide) (show _ < 62 by omega) dX4_groupFact_83 ?_
          refine rv_iload hX dX4_groupFact_84 rfl ?_
          refine nv_bipush hX (m := 50) (by decide) dX4_groupFact_86 ?_
          first | refine nv_isub hX (by omega) dX4_groupFact_88 ?_ | refine rv_isub hX dX4_groupFact_88 ?_
          refine rv_lshr hX dX4_groupFact_89 ?_
          refine rv_lconst hX (v := 1) dX4_groupFact_90 rfl ?_
          refine rv_land hX dX4_groupFact_91 ?_
          refine rv_lconst hX (v := 1) dX4_groupFact_92 rfl ?_
          refine rv_lcmp hX dX4_groupFact_93 ?_
          first | refine zv_if_ne hX 101 dX4_groupFact_94 (by decide) (fun c_94 => ?_) (fun c_94 => ?_) | refine nv_if_ne hX 101 (by omega) dX4_groupFact_94 (by decide) (fun c_94 => ?_) (fun c_94 => ?_) | refine rv_if_ne hX 101 dX4_groupFact_94 (by decide) (fun c_94 => ?_) (fun c_94 => ?_)
          · skip
            have hb : has v = false := by
              have q : ¬ lb (σ.2.2 32 g) (v - 50) = true := fun e => c_94 ((lb_cmp _ _).mpr ((lb_test (by omega) _).mpr e))
              rw [hhi (v - 50) (by omega), show 50 + (v - 50) = v by omega] at q
              simpa using q
            refine nv_iconst hX (m := 0) (by decide) dX4_groupFact_101 ?_
            refine rv_istore hX dX4_groupFact_102 (rv_st_10 rfl) ?_
            refine rv_iload hX dX4_groupFact_104 rfl ?_
            refine rv_iload hX dX4_groupFact_106 rfl ?_
            refine rv_if_eq hX 115 dX4_groupFact_108 (by decide) (fun _ => ?_) (fun q => absurd q (by decide))
            refine nv_iconst hX (m := 0) (by decide) dX4_groupFact_115 ?_
            first | refine nv_iadd hX dX4_groupFact_116 ?_ | refine rv_iadd hX dX4_groupFact_116 ?_
            refine rv_istore hX dX4_groupFact_117 (rv_st_5 rfl) ?_
            refine rv_iload hX dX4_groupFact_119 rfl ?_
            refine rv_iload hX dX4_groupFact_121 rfl ?_
            refine rv_if_eq hX 131 dX4_groupFact_123 (by decide) (fun _ => ?_) (fun q => absurd q (by decide))
            refine nv_iconst hX (m := 0) (by decide) dX4_groupFact_131 ?_
            first | refine nv_iadd hX dX4_groupFact_132 ?_ | refine rv_iadd hX dX4_groupFact_132 ?_
            refine rv_istore hX dX4_groupFact_133 (rv_st_6 rfl) ?_
            refine rv_iload hX dX4_groupFact_135 rfl ?_
            refine rv_if_eq hX 151 dX4_groupFact_137 (by decide) (fun _ => ?_) (fun q => absurd q (by decide))
            refine rv_iload hX dX4_groupFact_151 rfl ?_
            refine rv_istore hX dX4_groupFact_153 (rv_st_7 rfl) ?_
            refine rv_iload hX dX4_groupFact_155 rfl ?_
            refine rv_if_eq hX 165 dX4_groupFact_157 (by decide) (fun _ => ?_) (fun q => absurd q (by decide))
            refine rv_iload hX dX4_groupFact_165 rfl ?_
            refine rv_istore hX dX4_groupFact_167 (rv_st_8 rfl) ?_
            first | refine nv_iinc hX (m := 1) dX4_groupFact_169 rfl (by decide) (rv_st_9 rfl) ?_ | refine rv_iinc hX dX4_groupFact_169 rfl rfl (rv_st_9 rfl) ?_
            refine rv_goto hX 40 dX4_groupFact_172 (by decide) ?_
            first
              | (obtain ⟨e1, e2, e3⟩ := sp_agg_step hb
                 first
                   | (have e4 := sp_least_new hb ((rv_oi_m1 (fun a e => by have := sp_least_lt e; omega)).mp c_143)
                      have h9 := fun x => ih (v + 1) x (by omega) (by omega)
                      rw [e1, e2, e3, e4] at h9
                      exact h9 _)
                   | (have e4 := sp_least_old (has := has) (v := v) (fun e => c_143 ((rv_oi_m1 (fun a e => by have := sp_least_lt e; omega)).mpr e))
                      have h9 := fun x => ih (v + 1) x (by omega) (by omega)
                      rw [e1, e2, e3, e4] at h9
                      exact h9 _))
              | (obtain ⟨e1, e2, e3, e4⟩ := sp_agg_skip hb
                 have h9 := fun x => ih (v + 1) x (by omega) (by omega)
                 rw [e1, e2, e3, e4] at h9
                 exact h9 _)
          · skip
            have hb : has v = true := by
              have q := (lb_test (v := v - 50) (by omega) _).mp ((lb_cmp _ _).mp c_94)
              rw [hhi (v - 50) (by omega), show 50 + (v - 50) = v by omega] at q
              exact q
            refine nv_iconst hX (m := 1) (by decide) dX4_groupFact_97 ?_
            refine rv_goto hX 102 dX4_groupFact_98 (by decide) ?_
            refine rv_istore hX dX4_groupFact_102 (rv_st_10 rfl) ?_
            refine rv_iload hX dX4_groupFact_104 rfl ?_
            refine rv_iload hX dX4_groupFact_106 rfl ?_
            refine rv_if_eq hX 115 dX4_groupFact_108 (by decide) (fun q => absurd q (by decide)) (fun _ => ?_)
            refine nv_iconst hX (m := 1) (by decide) dX4_groupFact_111 ?_
            refine rv_goto hX 116 dX4_groupFact_112 (by decide) ?_
            first | refine nv_iadd hX dX4_groupFact_116 ?_ | refine rv_iadd hX dX4_groupFact_116 ?_
            refine rv_istore hX dX4_groupFact_117 (rv_st_5 rfl) ?_
            refine rv_iload hX dX4_groupFact_119 rfl ?_
            refine rv_iload hX dX4_groupFact_121 rfl ?_
            refine rv_if_eq hX 131 dX4_groupFact_123 (by decide) (fun q => absurd q (by decide)) (fun _ => ?_)
            refine rv_iload hX dX4_groupFact_126 rfl ?_
            refine rv_goto hX 132 dX4_groupFact_128 (by decide) ?_
            first | refine nv_iadd hX dX4_groupFact_132 ?_ | refine rv_iadd hX dX4_groupFact_132 ?_
            refine rv_istore hX dX4_groupFact_133 (rv_st_6 rfl) ?_
            refine rv_iload hX dX4_groupFact_135 rfl ?_
            refine rv_if_eq hX 151 dX4_groupFact_137 (by decide) (fun q => absurd q (by decide)) (fun _ => ?_)
            refine rv_iload hX dX4_groupFact_140 rfl ?_
            refine rv_iconst hX (v := -1) dX4_groupFact_142 (by decide) ?_
            first | refine nv_icmp_ne hX 151 (by omega) (by omega) dX4_groupFact_143 (by decide) (fun c_143 => ?_) (fun c_143 => ?_) | refine rv_icmp_ne hX 151 dX4_groupFact_143 (by decide) (fun c_143 => ?_) (fun c_143 => ?_)
            · skip
              refine rv_iload hX dX4_groupFact_151 rfl ?_
              refine rv_istore hX dX4_groupFact_153 (rv_st_7 rfl) ?_
              refine rv_iload hX dX4_groupFact_155 rfl ?_
              refine rv_if_eq hX 165 dX4_groupFact_157 (by decide) (fun q => absurd q (by decide)) (fun _ => ?_)
              refine rv_iload hX dX4_groupFact_160 rfl ?_
              refine rv_goto hX 167 dX4_groupFact_162 (by decide) ?_
              refine rv_istore hX dX4_groupFact_167 (rv_st_8 rfl) ?_
              first | refine nv_iinc hX (m := 1) dX4_groupFact_169 rfl (by decide) (rv_st_9 rfl) ?_ | refine rv_iinc hX dX4_groupFact_169 rfl rfl (rv_st_9 rfl) ?_
              refine rv_goto hX 40 dX4_groupFact_172 (by decide) ?_
              first
                | (obtain ⟨e1, e2, e3⟩ := sp_agg_step hb
                   first
                     | (have e4 := sp_least_new hb ((rv_oi_m1 (fun a e => by have := sp_least_lt e; omega)).mp c_143)
                        have h9 := fun x => ih (v + 1) x (by omega) (by omega)
                        rw [e1, e2, e3, e4] at h9
                        exact h9 _)
                     | (have e4 := sp_least_old (has := has) (v := v) (fun e => c_143 ((rv_oi_m1 (fun a e => by have := sp_least_lt e; omega)).mpr e))
                        have h9 := fun x => ih (v + 1) x (by omega) (by omega)
                        rw [e1, e2, e3, e4] at h9
                        exact h9 _))
                | (obtain ⟨e1, e2, e3, e4⟩ := sp_agg_skip hb
                   have h9 := fun x => ih (v + 1) x (by omega) (by omega)
                   rw [e1, e2, e3, e4] at h9
                   exact h9 _)
            · skip
              refine rv_iload hX dX4_groupFact_146 rfl ?_
              refine rv_goto hX 153 dX4_groupFact_148 (by decide) ?_
              refine rv_istore hX dX4_groupFact_153 (rv_st_7 rfl) ?_
              refine rv_iload hX dX4_groupFact_155 rfl ?_
              refine rv_if_eq hX 165 dX4_groupFact_157 (by decide) (fun q => absurd q (by decide)) (fun _ => ?_)
              refine rv_iload hX dX4_groupFact_160 rfl ?_
              refine rv_goto hX 167 dX4_groupFact_162 (by decide) ?_
              refine rv_istore hX dX4_groupFact_167 (rv_st_8 rfl) ?_
              first | refine nv_iinc hX (m := 1) dX4_groupFact_169 rfl (by decide) (rv_st_9 rfl) ?_ | refine rv_iinc hX dX4_groupFact_169 rfl rfl (rv_st_9 rfl) ?_
              refine rv_goto hX 40 dX4_groupFact_172 (by decide) ?_
              first
                | (obtain ⟨e1, e2, e3⟩ := sp_agg_step hb
                   first
                     | (have e4 := sp_least_new hb ((rv_oi_m1 (fun a e => by have := sp_least_lt e; omega)).mp c_143)
                        have h9 := fun x => ih (v + 1) x (by omega) (by omega)
                        rw [e1, e2, e3, e4] at h9
                        exact h9 _)
                     | (have e4 := sp_least_old (has := has) (v := v) (fun e => c_143 ((rv_oi_m1 (fun a e => by have := sp_least_lt e; omega)).mpr e))
                        have h9 := fun x => ih (v + 1) x (by omega) (by omega)
                        rw [e1, e2, e3, e4] at h9
                        exact h9 _))
                | (obtain ⟨e1, e2, e3, e4⟩ := sp_agg_skip hb
                   have h9 := fun x => ih (v + 1) x (by omega) (by omega)
                   rw [e1, e2, e3, e4] at h9
                   exact h9 _)
        · skip
          refine rv_aload_n hX dX4_groupFact_54 rfl ?_
          refine mv_ga hX (k := 41) (j := 31) gX4_100_X4 (by decide) rfl (by decide) dX4_groupFact_55 ?_
          refine rv_iload_n hX dX4_groupFact_58 rfl ?_
          refine mv_lld hX (j := 31) (by decide) (by decide) rfl (by decide) (show _ < 62 by omega) dX4_groupFact_59 ?_
          refine rv_iload hX dX4_groupFact_60 rfl ?_
          refine rv_lshr hX dX4_groupFact_62 ?_
          refine rv_lconst hX (v := 1) dX4_groupFact_63 rfl ?_
          refine rv_land hX dX4_groupFact_64 ?_
          refine rv_lconst hX (v := 1) dX4_groupFact_65 rfl ?_
          refine rv_lcmp hX dX4_groupFact_66 ?_
          first | refine zv_if_ne hX 74 dX4_groupFact_67 (by decide) (fun c_67 => ?_) (fun c_67 => ?_) | refine nv_if_ne hX 74 (by omega) dX4_groupFact_67 (by decide) (fun c_67 => ?_) (fun c_67 => ?_) | refine rv_if_ne hX 74 dX4_groupFact_67 (by decide) (fun c_67 => ?_) (fun c_67 => ?_)
          · skip
            have hb : has v = false := by
              have q : ¬ lb (σ.2.2 31 g) v = true := fun e => c_67 ((lb_cmp _ _).mpr ((lb_test (by omega) _).mpr e))
              rw [hlo v (by omega)] at q
              simpa using q
            refine nv_iconst hX (m := 0) (by decide) dX4_groupFact_74 ?_
            refine rv_goto hX 102 dX4_groupFact_75 (by decide) ?_
            refine rv_istore hX dX4_groupFact_102 (rv_st_10 rfl) ?_
            refine rv_iload hX dX4_groupFact_104 rfl ?_
            refine rv_iload hX dX4_groupFact_106 rfl ?_
            refine rv_if_eq hX 115 dX4_groupFact_108 (by decide) (fun _ => ?_) (fun q => absurd q (by decide))
            refine nv_iconst hX (m := 0) (by decide) dX4_groupFact_115 ?_
            first | refine nv_iadd hX dX4_groupFact_116 ?_ | refine rv_iadd hX dX4_groupFact_116 ?_
            refine rv_istore hX dX4_groupFact_117 (rv_st_5 rfl) ?_
            refine rv_iload hX dX4_groupFact_119 rfl ?_
            refine rv_iload hX dX4_groupFact_121 rfl ?_
            refine rv_if_eq hX 131 dX4_groupFact_123 (by decide) (fun _ => ?_) (fun q => absurd q (by decide))
            refine nv_iconst hX (m := 0) (by decide) dX4_groupFact_131 ?_
            first | refine nv_iadd hX dX4_groupFact_132 ?_ | refine rv_iadd hX dX4_groupFact_132 ?_
            refine rv_istore hX dX4_groupFact_133 (rv_st_6 rfl) ?_
            refine rv_iload hX dX4_groupFact_135 rfl ?_
            refine rv_if_eq hX 151 dX4_groupFact_137 (by decide) (fun _ => ?_) (fun q => absurd q (by decide))
            refine rv_iload hX dX4_groupFact_151 rfl ?_
            refine rv_istore hX dX4_groupFact_153 (rv_st_7 rfl) ?_
            refine rv_iload hX dX4_groupFact_155 rfl ?_
            refine rv_if_eq hX 165 dX4_groupFact_157 (by decide) (fun _ => ?_) (fun q => absurd q (by decide))
            refine rv_iload hX dX4_groupFact_165 rfl ?_
            refine rv_istore hX dX4_groupFact_167 (rv_st_8 rfl) ?_
            first | refine nv_iinc hX (m := 1) dX4_groupFact_169 rfl (by decide) (rv_st_9 rfl) ?_ | refine rv_iinc hX dX4_groupFact_169 rfl rfl (rv_st_9 rfl) ?_
            refine rv_goto hX 40 dX4_groupFact_172 (by decide) ?_
            first
              | (obtain ⟨e1, e2, e3⟩ := sp_agg_step hb
                 first
                   | (have e4 := sp_least_new hb ((rv_oi_m1 (fun a e => by have := sp_least_lt e; omega)).mp c_143)
                      have h9 := fun x => ih (v + 1) x (by omega) (by omega)
                      rw [e1, e2, e3, e4] at h9
                      exact h9 _)
                   | (have e4 := sp_least_old (has := has) (v := v) (fun e => c_143 ((rv_oi_m1 (fun a e => by have := sp_least_lt e; omega)).mpr e))
                      have h9 := fun x => ih (v + 1) x (by omega) (by omega)
                      rw [e1, e2, e3, e4] at h9
                      exact h9 _))
              | (obtain ⟨e1, e2, e3, e4⟩ := sp_agg_skip hb
                 have h9 := fun x => ih (v + 1) x (by omega) (by omega)
                 rw [e1, e2, e3, e4] at h9
                 exact h9 _)
          · skip
            have hb : has v = true := by rw [← hlo v (by omega)]; exact (lb_test (by omega) _).mp ((lb_cmp _ _).mp c_67)
            refine nv_iconst hX (m := 1) (by decide) dX4_groupFact_70 ?_
            refine rv_goto hX 102 dX4_groupFact_71 (by decide) ?_
            refine rv_istore hX dX4_groupFact_102 (rv_st_10 rfl) ?_
            refine rv_iload hX dX4_groupFact_104 rfl ?_
            refine rv_iload hX dX4_groupFact_106 rfl ?_
            refine rv_if_eq hX 115 dX4_groupFact_108 (by decide) (fun q => absurd q (by decide)) (fun _ => ?_)
            refine nv_iconst hX (m := 1) (by decide) dX4_groupFact_111 ?_
            refine rv_goto hX 116 dX4_groupFact_112 (by decide) ?_
            first | refine nv_iadd hX dX4_groupFact_116 ?_ | refine rv_iadd hX dX4_groupFact_116 ?_
            refine rv_istore hX dX4_groupFact_117 (rv_st_5 rfl) ?_
            refine rv_iload hX dX4_groupFact_119 rfl ?_
            refine rv_iload hX dX4_groupFact_121 rfl ?_
            refine rv_if_eq hX 131 dX4_groupFact_123 (by decide) (fun q => absurd q (by decide)) (fun _ => ?_)
            refine rv_iload hX dX4_groupFact_126 rfl ?_
            refine rv_goto hX 132 dX4_groupFact_128 (by decide) ?_
            first | refine nv_iadd hX dX4_groupFact_132 ?_ | refine rv_iadd hX dX4_groupFact_132 ?_
            refine rv_istore hX dX4_groupFact_133 (rv_st_6 rfl) ?_
            refine rv_iload hX dX4_groupFact_135 rfl ?_
            refine rv_if_eq hX 151 dX4_groupFact_137 (by decide) (fun q => absurd q (by decide)) (fun _ => ?_)
            refine rv_iload hX dX4_groupFact_140 rfl ?_
            refine rv_iconst hX (v := -1) dX4_groupFact_142 (by decide) ?_
            first | refine nv_icmp_ne hX 151 (by omega) (by omega) dX4_groupFact_143 (by decide) (fun c_143 => ?_) (fun c_143 => ?_) | refine rv_icmp_ne hX 151 dX4_groupFact_143 (by decide) (fun c_143 => ?_) (fun c_143 => ?_)
            · skip
              refine rv_iload hX dX4_groupFact_151 rfl ?_
              refine rv_istore hX dX4_groupFact_153 (rv_st_7 rfl) ?_
              refine rv_iload hX dX4_groupFact_155 rfl ?_
              refine rv_if_eq hX 165 dX4_groupFact_157 (by decide) (fun q => absurd q (by decide)) (fun _ => ?_)
              refine rv_iload hX dX4_groupFact_160 rfl ?_
              refine rv_goto hX 167 dX4_groupFact_162 (by decide) ?_
              refine rv_istore hX dX4_groupFact_167 (rv_st_8 rfl) ?_
              first | refine nv_iinc hX (m := 1) dX4_groupFact_169 rfl (by decide) (rv_st_9 rfl) ?_ | refine rv_iinc hX dX4_groupFact_169 rfl rfl (rv_st_9 rfl) ?_
              refine rv_goto hX 40 dX4_groupFact_172 (by decide) ?_
              first
                | (obtain ⟨e1, e2, e3⟩ := sp_agg_step hb
                   first
                     | (have e4 := sp_least_new hb ((rv_oi_m1 (fun a e => by have := sp_least_lt e; omega)).mp c_143)
                        have h9 := fun x => ih (v + 1) x (by omega) (by omega)
                        rw [e1, e2, e3, e4] at h9
                        exact h9 _)
                     | (have e4 := sp_least_old (has := has) (v := v) (fun e => c_143 ((rv_oi_m1 (fun a e => by have := sp_least_lt e; omega)).mpr e))
                        have h9 := fun x => ih (v + 1) x (by omega) (by omega)
                        rw [e1, e2, e3, e4] at h9
                        exact h9 _))
                | (obtain ⟨e1, e2, e3, e4⟩ := sp_agg_skip hb
                   have h9 := fun x => ih (v + 1) x (by omega) (by omega)
                   rw [e1, e2, e3, e4] at h9
                   exact h9 _)
            · skip
              refine rv_iload hX dX4_groupFact_146 rfl ?_
              refine rv_goto hX 153 dX4_groupFact_148 (by decide) ?_
              refine rv_istore hX dX4_groupFact_153 (rv_st_7 rfl) ?_
              refine rv_iload hX dX4_groupFact_155 rfl ?_
              refine rv_if_eq hX 165 dX4_groupFact_157 (by decide) (fun q => absurd q (by decide)) (fun _ => ?_)
              refine rv_iload hX dX4_groupFact_160 rfl ?_
              refine rv_goto hX 167 dX4_groupFact_162 (by decide) ?_
              refine rv_istore hX dX4_groupFact_167 (rv_st_8 rfl) ?_
              first | refine nv_iinc hX (m := 1) dX4_groupFact_169 rfl (by decide) (rv_st_9 rfl) ?_ | refine rv_iinc hX dX4_groupFact_169 rfl rfl (rv_st_9 rfl) ?_
              refine rv_goto hX 40 dX4_groupFact_172 (by decide) ?_
              first
                | (obtain ⟨e1, e2, e3⟩ := sp_agg_step hb
                   first
                     | (have e4 := sp_least_new hb ((rv_oi_m1 (fun a e => by have := sp_least_lt e; omega)).mp c_143)
                        have h9 := fun x => ih (v + 1) x (by omega) (by omega)
                        rw [e1, e2, e3, e4] at h9
                        exact h9 _)
                     | (have e4 := sp_least_old (has := has) (v := v) (fun e => c_143 ((rv_oi_m1 (fun a e => by have := sp_least_lt e; omega)).mpr e))
                        have h9 := fun x => ih (v + 1) x (by omega) (by omega)
                        rw [e1, e2, e3, e4] at h9
                        exact h9 _))
                | (obtain ⟨e1, e2, e3, e4⟩ := sp_agg_skip hb
                   have h9 := fun x => ih (v + 1) x (by omega) (by omega)
                   rw [e1, e2, e3, e4] at h9
                   exact h9 _)
  refine rv_aload_n hX dX4_groupFact_0 rfl ?_
  refine rv_iload_n hX dX4_groupFact_1 rfl ?_
  refine mv_calli hX iX4_205 rfl mdX4_gatheredSlot (m_gatheredSlot hG (d := d - 1) hh hw) (by omega) rfl rfl (Nat.le_of_ble_eq_true rfl) dX4_groupFact_2 (fun r_2 τ_2 h_2 => ?_)
  obtain ⟨rfl, rfl⟩ := h_2
  rw [hs]
  show rv_V X _ _ _ (.int (nI s) :: _)
  refine rv_istore_n hX dX4_groupFact_5 (rv_st_3 rfl) ?_
  refine rv_aload_n hX dX4_groupFact_6 rfl ?_
  refine mv_ga hX (k := 5) (j := 5) gX4_22_X4 (by decide) rfl (by decide) dX4_groupFact_7 ?_
  refine nv_iconst hX (m := 3) (by decide) dX4_groupFact_10 ?_
  refine rv_iload_n hX dX4_groupFact_11 rfl ?_
  first | refine nv_imul hX dX4_groupFact_12 ?_ | refine rv_imul hX dX4_groupFact_12 ?_
  refine rv_iload_n hX dX4_groupFact_13 rfl ?_
  first | refine nv_iadd hX dX4_groupFact_14 ?_ | refine rv_iadd hX dX4_groupFact_14 ?_
  refine mv_ld hX (j := 5) (by decide) (by decide) rfl (by decide) (show _ < 51 by omega) dX4_groupFact_15 ?_
  rw [hh.2.2.2.2.1 s t ht]
  refine nv_sipush hX (m := 200) (by decide) dX4_groupFact_16 ?_
  first | refine nv_isub hX (by omega) dX4_groupFact_19 ?_ | refine rv_isub hX dX4_groupFact_19 ?_
  refine nv_bipush hX (m := 8) (by decide) dX4_groupFact_20 ?_
  first | refine nv_idiv hX (by omega) (by omega) (by omega) dX4_groupFact_22 ?_ | refine rv_idiv hX dX4_groupFact_22 (by decide) ?_
  refine rv_istore hX dX4_groupFact_23 (rv_st_4 rfl) ?_
  refine nv_iconst hX (m := 0) (by decide) dX4_groupFact_25 ?_
  refine rv_istore hX dX4_groupFact_26 (rv_st_5 rfl) ?_
  refine nv_iconst hX (m := 0) (by decide) dX4_groupFact_28 ?_
  refine rv_istore hX dX4_groupFact_29 (rv_st_6 rfl) ?_
  refine rv_iconst hX (v := -1) dX4_groupFact_31 (by decide) ?_
  refine rv_istore hX dX4_groupFact_32 (rv_st_7 rfl) ?_
  refine nv_iconst hX (m := 0) (by decide) dX4_groupFact_34 ?_
  refine rv_istore hX dX4_groupFact_35 (rv_st_8 rfl) ?_
  refine nv_iconst hX (m := 0) (by decide) dX4_groupFact_37 ?_
  refine rv_istore hX dX4_groupFact_38 (rv_st_9 rfl) ?_
  exact loop 101 0 none (by omega) (by omega)
