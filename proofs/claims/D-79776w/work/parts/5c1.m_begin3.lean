/-! THE REFERENCE: items alike -/
set_option maxRecDepth 100000
theorem sp_tt_lo {a b : List Nat} {t u : Nat} (h1 : t < 100) (h2 : u < 100) : sp_tt a t = sp_tt b u ↔ t = u := by
  unfold sp_tt
  rw [if_pos h1, if_pos h2]
theorem sp_tt_hi {a b : List Nat} {t u : Nat} (h1 : 100 ≤ t) (h2 : 100 ≤ u) : sp_tt a t = sp_tt b u ↔ sp_ren a t = sp_ren b u := by
  unfold sp_tt
  rw [if_neg (by omega), if_neg (by omega)]
  omega
theorem sp_tt_lh {a b : List Nat} {t u : Nat} (h1 : t < 100) (h2 : 100 ≤ u) : ¬ sp_tt a t = sp_tt b u := by
  unfold sp_tt
  rw [if_pos h1, if_neg (by omega)]
  omega
theorem sp_tt_hl {a b : List Nat} {t u : Nat} (h1 : 100 ≤ t) (h2 : u < 100) : ¬ sp_tt a t = sp_tt b u := by
  unfold sp_tt
  rw [if_neg (by omega), if_pos h2]
  omega
theorem sp_wfI.leq {S : List Nat} {it jt : sp_I} (h : sp_wfI S it) (g : sp_wfI S jt) (e1 : it.1 = jt.1) (e2 : it.2.1 = jt.2.1) : it.2.2.length = jt.2.2.length := by
  obtain ⟨a1, a2, a3, a4, a5⟩ := h
  obtain ⟨b1, b2, b3, b4, b5⟩ := g
  by_cases q : it.1 ≤ 1
  · have x := a2 q
    have y := b2 (by omega)
    rw [e2, y] at x
    exact (Option.some.inj x).symm
  · by_cases q2 : it.1 = 2
    · have := (a3 q2).2
      have := (b3 (by omega)).2
      omega
    · have := (a4 (by omega)).2
      have := (b4 (by omega)).2
      omega
theorem sp_wfI.what8 {S : List Nat} {it : sp_I} (hS : S.length ≤ 8) (h : sp_wfI S it) : it.2.1 < 8 := by
  obtain ⟨w1, w2, w3, w4, w5⟩ := h
  by_cases h0 : it.1 ≤ 1
  · have := (List.getElem?_eq_some_iff.mp (w2 h0)).1
    omega
  · by_cases h2 : it.1 = 2
    · have := (w3 h2).1
      omega
    · have := (w4 (by omega)).1
      omega
theorem sp_nit_eq {a b : List Nat} {it jt : sp_I} : sp_nit a it = sp_nit b jt ↔ it.1 = jt.1 ∧ it.2.1 = jt.2.1 ∧ it.2.2.map (sp_tt a) = jt.2.2.map (sp_tt b) := by
  unfold sp_nit
  rw [Prod.mk.injEq, Prod.mk.injEq]
theorem sp_tks {a b : List Nat} {ts us : List Nat} {k t u : Nat} (h1 : ts[k]? = some t) (h2 : us[k]? = some u) : (ts.take (k + 1)).map (sp_tt a) = (us.take (k + 1)).map (sp_tt b) ↔ (ts.take k).map (sp_tt a) = (us.take k).map (sp_tt b) ∧ sp_tt a t = sp_tt b u := by
  have l1 := (List.getElem?_eq_some_iff.mp h1).1
  have l2 := (List.getElem?_eq_some_iff.mp h2).1
  rw [List.take_succ, List.take_succ, h1, h2, List.map_append, List.map_append]
  constructor
  · intro h
    have := List.append_inj h (by rw [List.length_map, List.length_map, List.length_take, List.length_take]; omega)
    exact ⟨this.1, by have e := this.2; simpa using e⟩
  · rintro ⟨e1, e2⟩
    rw [e1]
    show _ ++ [sp_tt a t] = _ ++ [sp_tt b u]
    rw [e2]
theorem m_areAlike {G : rv_G} (hG : rv_GK G) {d : Nat} (hd : 3 ≤ d) {σ : rv_S} {S : List Nat} {b1 b2 i : Nat} {C E : sp_C} (hS : mRel σ S) (hC : mBody σ b1 C) (hwC : sp_wfC S C) (hb1 : b1 < 17) (hE1 : mBody σ b2 E) (hwE : sp_wfC S E) (hb2 : b2 < 17) (hi1 : i < C.its.length) (hi2 : i < E.its.length) : mC G d yX4_areAlike wX4_areAlike [.int (nI b1), .int (nI b2), .int (nI i)] σ (mPz (fun r τ => τ = σ ∧ (r = true ↔ sp_nit (sp_ft C.its) (sp_it C.its i) = sp_nit (sp_ft E.its) (sp_it E.its i)))) := by
  refine mv_start hG (by decide +kernel) (Nat.le_of_ble_eq_true rfl) (fun X Hb o hX1 hX hE => ?_)
  subst hX1
  show rv_V X (rv_mh Hb o _) 0 [some (.ref o), some (.int (nI b1)), some (.int (nI b2)), some (.int (nI i)), none, none, none, none] []
  have hl1 := hwC.len
  have hl2 := hwE.len
  have hit := sp_it_some hi1
  have hjt := sp_it_some hi2
  rw [sp_nit_eq] at hE
  generalize sp_it C.its i = it at hit hE
  generalize sp_it E.its i = jt at hjt hE
  have hmi := hC.its i _ hit
  have hmj := hE1.its i _ hjt
  have hwi := hwC.its _ (List.mem_of_getElem? hit)
  have hwj := hwE.its _ (List.mem_of_getElem? hjt)
  have hli := hwi.len hS.2.2.1
  have hlj := hwj.len hS.2.2.1
  have hk1 := hwi.1
  have hk2 := hwj.1
  have hw1 := hwi.what8 hS.2.1
  have hw2 := hwj.what8 hS.2.1
  have hrb : ∀ C, sp_wfC S C → ∀ t, sp_ren (sp_ft C.its) t ≤ 18 := fun C hw t => by
    refine Nat.le_trans sp_ren_lt (Nat.le_trans (sp_flat_len (m := 3) (fun it hi => (((hw.its it hi).len hS.2.2.1).2))) ?_)
    have := hw.len
    omega
  have loop : ∀ (n k : Nat) (z : Bool) (x y : Option Value), k ≤ it.2.2.length → it.2.2.length - k < n → (z = true ↔ it.1 = jt.1 ∧ it.2.1 = jt.2.1 ∧ (it.2.2.take k).map (sp_tt (sp_ft C.its)) = (jt.2.2.take k).map (sp_tt (sp_ft E.its))) → rv_V X (rv_mh Hb o σ) 40 [some (.ref o), some (.int (nI b1)), some (.int (nI b2)), some (.int (nI i)), some (.int (rv_z z)), some (.int (nI k)), x, y] [] := by
    intro n
    induction n with
    | zero => intro k z x y h1 h2; omega
    | succ n ih =>
      intro k z x y h1 h2 h3
      refine rv_iload hX dX4_areAlike_40 rfl ?_
      first | refine zv_if_eq hX 162 dX4_areAlike_42 (by decide) (fun c_42 => ?_) (fun c_42 => ?_) | refine nv_if_eq hX 162 (by omega) dX4_areAlike_42 (by decide) (fun c_42 => ?_) (fun c_42 => ?_) | refine rv_if_eq hX 162 dX4_areAlike_42 (by decide) (fun c_42 => ?_) (fun c_42 => ?_)
      · skip
        have hno : z = true ↔ it.1 = jt.1 ∧ it.2.1 = jt.2.1 ∧ it.2.2.map (sp_tt (sp_ft C.its)) = jt.2.2.map (sp_tt (sp_ft E.its)) := by
          refine ⟨fun q => absurd (q.symm.trans c_42) (by decide), fun q => h3.mpr ⟨q.1, q.2.1, ?_⟩⟩
          rw [List.map_take, List.map_take, q.2.2]
        refine rv_iload hX dX4_areAlike_162 rfl ?_
        refine mv_retz hX hE rfl dX4_areAlike_164 ?_
        exact ⟨rfl, hno⟩
      · skip
        obtain ⟨g1, g2, g3⟩ := h3.mp c_42
        have hll := hwi.leq hwj g1 g2
        refine rv_iload hX dX4_areAlike_45 rfl ?_
        refine rv_aload_n hX dX4_areAlike_47 rfl ?_
        refine rv_iload_n hX dX4_areAlike_48 rfl ?_
        refine rv_iload_n hX dX4_areAlike_49 rfl ?_
        refine mv_calli hX iX4_299 rfl mdX4_termsOf (m_termsOf hG (d := d - 1) (by omega) (b := b1) (i := i) (by omega) hS hmi hwi) (by omega) rfl rfl (Nat.le_of_ble_eq_true rfl) dX4_areAlike_50 (fun r_50 τ_50 h_50 => ?_)
        obtain ⟨rfl, rfl⟩ := h_50
        first | refine nv_icmp_ge hX 162 (by omega) (by omega) dX4_areAlike_53 (by decide) (fun c_53 => ?_) (fun c_53 => ?_) | refine rv_icmp_ge hX 162 dX4_areAlike_53 (by decide) (fun c_53 => ?_) (fun c_53 => ?_)
        · skip
          have hno : z = true ↔ it.1 = jt.1 ∧ it.2.1 = jt.2.1 ∧ it.2.2.map (sp_tt (sp_ft C.its)) = jt.2.2.map (sp_tt (sp_ft E.its)) := by
            rw [show it.2.2.take k = it.2.2 from List.take_of_length_le (by omega), show jt.2.2.take k = jt.2.2 from List.take_of_length_le (by omega)] at h3
            exact h3
          refine rv_iload hX dX4_areAlike_162 rfl ?_
          refine mv_retz hX hE rfl dX4_areAlike_164 ?_
          exact ⟨rfl, hno⟩
        · skip
          obtain ⟨t, ht⟩ : ∃ t, it.2.2[k]? = some t := ⟨it.2.2[k]'(by omega), List.getElem?_eq_getElem (by omega)⟩
          obtain ⟨u, hu⟩ : ∃ u, jt.2.2[k]? = some u := ⟨jt.2.2[k]'(by omega), List.getElem?_eq_getElem (by omega)⟩
          have ht8 := hwi.2.2.2.2 t (List.mem_of_getElem? ht)
          have hu8 := hwj.2.2.2.2 u (List.mem_of_getElem? hu)
          have htv := hmi.2.2 k t ht
          have huv := hmj.2.2 k u hu
          have hr1 := hrb C hwC t
          have hr2 := hrb E hwE u
          have hsx := sp_tks (a := sp_ft C.its) (b := sp_ft E.its) ht hu
          have fin : ∀ z', (z' = true ↔ sp_tt (sp_ft C.its) t = sp_tt (sp_ft E.its) u) → (z' = true ↔ it.1 = jt.1 ∧ it.2.1 = jt.2.1 ∧ (it.2.2.take (k + 1)).map (sp_tt (sp_ft C.its)) = (jt.2.2.take (k + 1)).map (sp_tt (sp_ft E.its))) := fun z' hz => by
            rw [hz, hsx]
            exact ⟨fun q => ⟨g1, g2, g3, q⟩, fun q => q.2.2.2⟩
          refine rv_aload_n hX dX4_areAlike_56 rfl ?_
          refine rv_iload_n hX dX4_areAlike_57 rfl ?_
          refine rv_iload_n hX dX4_areAlike_58 rfl ?_
          refine rv_iload hX dX4_areAlike_59 rfl ?_
          refine mv_calli hX iX4_172 rfl mdX4_termOf (m_termOf hG (d := d - 1) (b := b1) (i := i) (k := k) (by omega)) (by omega) rfl rfl (Nat.le_of_ble_eq_true rfl) dX4_areAlike_61 (fun r_61 τ_61 h_61 => ?_)
          obtain ⟨rfl, rfl⟩ := h_61
          rw [htv]
          refine rv_istore hX dX4_areAlike_64 (rv_st_6 rfl) ?_
          refine rv_aload_n hX dX4_areAlike_66 rfl ?_
          refine rv_iload_n hX dX4_areAlike_67 rfl ?_
          refine rv_iload_n hX dX4_areAlike_68 rfl ?_
          refine rv_iload hX dX4_areAlike_69 rfl ?_
          refine mv_calli hX iX4_172 rfl mdX4_termOf (m_termOf hG (d := d - 1) (b := b2) (i := i) (k := k) (by omega)) (by omega) rfl rfl (Nat.le_of_ble_eq_true rfl) dX4_areAlike_71 (fun r_71 τ_71 h_71 => ?_)
          obtain ⟨rfl, rfl⟩ := h_71
          rw [huv]
          refine rv_istore hX dX4_areAlike_74 (rv_st_7 rfl) ?_
          refine rv_iload hX dX4_areAlike_76 rfl ?_
          refine nv_bipush hX (m := 100) (by decide) dX4_areAlike_78 ?_
          first | refine nv_icmp_lt hX 87 (by omega) (by omega) dX4_areAlike_80 (by decide) (fun c_80 => ?_) (fun c_80 => ?_) | refine rv_icmp_lt hX 87 dX4_areAlike_80 (by decide) (fun c_80 => ?_) (fun c_80 => ?_)
          · skip
            refine nv_iconst hX (m := 0) (by decide) dX4_areAlike_87 ?_
            refine rv_iload hX dX4_areAlike_88 rfl ?_
            refine nv_bipush hX (m := 100) (by decide) dX4_areAlike_90 ?_
            first | refine nv_icmp_lt hX 99 (by omega) (by omega) dX4_areAlike_92 (by decide) (fun c_92 => ?_) (fun c_92 => ?_) | refine rv_icmp_lt hX 99 dX4_areAlike_92 (by decide) (fun c_92 => ?_) (fun c_92 => ?_)
            · skip
              refine nv_iconst hX (m := 0) (by decide) dX4_areAlike_99 ?_
              refine rv_icmp_ne hX 107 dX4_areAlike_100 (by decide) (fun q => absurd q (by decide)) (fun _ => ?_)
              refine nv_iconst hX (m := 1) (by decide) dX4_areAlike_103 ?_
              refine rv_goto hX 108 dX4_areAlike_104 (by decide) ?_
              refine rv_istore hX dX4_areAlike_108 (rv_st_4 rfl) ?_
              refine rv_iload hX dX4_areAlike_110 rfl ?_
              refine rv_if_eq hX 153 dX4_areAlike_112 (by decide) (fun q => absurd q (by decide)) (fun _ => ?_)
              refine rv_iload hX dX4_areAlike_115 rfl ?_
              refine nv_bipush hX (m := 100) (by decide) dX4_areAlike_117 ?_
              first | refine nv_icmp_ge hX 132 (by omega) (by omega) dX4_areAlike_119 (by decide) (fun c_119 => ?_) (fun c_119 => ?_) | refine rv_icmp_ge hX 132 dX4_areAlike_119 (by decide) (fun c_119 => ?_) (fun c_119 => ?_)
              · skip
                refine rv_aload_n hX dX4_areAlike_132 rfl ?_
                refine rv_iload_n hX dX4_areAlike_133 rfl ?_
                refine rv_iload hX dX4_areAlike_134 rfl ?_
                refine mv_calli hX iX4_384 rfl mdX4_renamed (m_renamed hG (d := d - 1) (by omega) hS hC hwC hb1 (v := t) (by omega)) (by omega) rfl rfl (Nat.le_of_ble_eq_true rfl) dX4_areAlike_136 (fun r_136 τ_136 h_136 => ?_)
                obtain ⟨rfl, rfl⟩ := h_136
                refine rv_aload_n hX dX4_areAlike_139 rfl ?_
                refine rv_iload_n hX dX4_areAlike_140 rfl ?_
                refine rv_iload hX dX4_areAlike_141 rfl ?_
                refine mv_calli hX iX4_384 rfl mdX4_renamed (m_renamed hG (d := d - 1) (by omega) hS hE1 hwE hb2 (v := u) (by omega)) (by omega) rfl rfl (Nat.le_of_ble_eq_true rfl) dX4_areAlike_143 (fun r_143 τ_143 h_143 => ?_)
                obtain ⟨rfl, rfl⟩ := h_143
                first | refine nv_icmp_ne hX 153 (by omega) (by omega) dX4_areAlike_146 (by decide) (fun c_146 => ?_) (fun c_146 => ?_) | refine rv_icmp_ne hX 153 dX4_areAlike_146 (by decide) (fun c_146 => ?_) (fun c_146 => ?_)
                · skip
                  have hq : ¬ sp_tt (sp_ft C.its) t = sp_tt (sp_ft E.its) u := by
                    by_cases q : t < 100
                    · by_cases q2 : u < 100
                      · exact fun e => absurd ((sp_tt_lo q q2).mp e) (by omega)
                      · exact sp_tt_lh q (by omega)
                    · by_cases q2 : u < 100
                      · exact sp_tt_hl (by omega) q2
                      · exact fun e => absurd ((sp_tt_hi (by omega) (by omega)).mp e) (by omega)
                  have hh := ih (k + 1) false (some (.int (nI t))) (some (.int (nI u))) (by omega) (by omega) (fin false ⟨fun e => absurd e (by decide), fun e => absurd e hq⟩)
                  refine nv_iconst hX (m := 0) (by decide) dX4_areAlike_153 ?_
                  refine rv_istore hX dX4_areAlike_154 (rv_st_4 rfl) ?_
                  first | refine nv_iinc hX (m := 1) dX4_areAlike_156 rfl (by decide) (rv_st_5 rfl) ?_ | refine rv_iinc hX dX4_areAlike_156 rfl rfl (rv_st_5 rfl) ?_
                  refine rv_goto hX 40 dX4_areAlike_159 (by decide) ?_
                  exact hh
                · skip
                  have hq : sp_tt (sp_ft C.its) t = sp_tt (sp_ft E.its) u := by
                    by_cases q : t < 100
                    · exact (sp_tt_lo q (by omega)).mpr (by omega)
                    · exact (sp_tt_hi (by omega) (by omega)).mpr (by omega)
                  have hh := ih (k + 1) true (some (.int (nI t))) (some (.int (nI u))) (by omega) (by omega) (fin true ⟨fun _ => hq, fun _ => rfl⟩)
                  refine nv_iconst hX (m := 1) (by decide) dX4_areAlike_149 ?_
                  refine rv_goto hX 154 dX4_areAlike_150 (by decide) ?_
                  refine rv_istore hX dX4_areAlike_154 (rv_st_4 rfl) ?_
                  first | refine nv_iinc hX (m := 1) dX4_areAlike_156 rfl (by decide) (rv_st_5 rfl) ?_ | refine rv_iinc hX dX4_areAlike_156 rfl rfl (rv_st_5 rfl) ?_
                  refine rv_goto hX 40 dX4_areAlike_159 (by decide) ?_
                  exact hh
              · skip
                refine rv_iload hX dX4_areAlike_122 rfl ?_
                refine rv_iload hX dX4_areAlike_124 rfl ?_
                first | refine nv_icmp_ne hX 153 (by omega) (by omega) dX4_areAlike_126 (by decide) (fun c_126 => ?_) (fun c_126 => ?_) | refine rv_icmp_ne hX 153 dX4_areAlike_126 (by decide) (fun c_126 => ?_) (fun c_126 => ?_)
                · skip
                  have hq : ¬ sp_tt (sp_ft C.its) t = sp_tt (sp_ft E.its) u := by
                    by_cases q : t < 100
                    · by_cases q2 : u < 100
                      · exact fun e => absurd ((sp_tt_lo q q2).mp e) (by omega)
                      · exact sp_tt_lh q (by omega)
                    · by_cases q2 : u < 100
                      · exact sp_tt_hl (by omega) q2
                      · exact fun e => absurd ((sp_tt_hi (by omega) (by omega)).mp e) (by omega)
                  have hh := ih (k + 1) false (some (.int (nI t))) (some (.int (nI u))) (by omega) (by omega) (fin false ⟨fun e => absurd e (by decide), fun e => absurd e hq⟩)
                  refine nv_iconst hX (m := 0) (by decide) dX4_areAlike_153 ?_
                  refine rv_istore hX dX4_areAlike_154 (rv_st_4 rfl) ?_
                  first | refine nv_iinc hX (m := 1) dX4_areAlike_156 rfl (by decide) (rv_st_5 rfl) ?_ | refine rv_iinc hX dX4_areAlike_156 rfl rfl (rv_st_5 rfl) ?_
                  refine rv_goto hX 40 dX4_areAlike_159 (by decide) ?_
                  exact hh
                · skip
                  refine rv_goto hX 149 dX4_areAlike_129 (by decide) ?_
                  have hq : sp_tt (sp_ft C.its) t = sp_tt (sp_ft E.its) u := by
                    by_cases q : t < 100
                    · exact (sp_tt_lo q (by omega)).mpr (by omega)
                    · exact (sp_tt_hi (by omega) (by omega)).mpr (by omega)
                  have hh := ih (k + 1) true (some (.int (nI t))) (some (.int (nI u))) (by omega) (by omega) (fin true ⟨fun _ => hq, fun _ => rfl⟩)
                  refine nv_iconst hX (m := 1) (by decide) dX4_areAlike_149 ?_
                  refine rv_goto hX 154 dX4_areAlike_150 (by decide) ?_
                  refine rv_istore hX dX4_areAlike_154 (rv_st_4 rfl) ?_
                  first | refine nv_iinc hX (m := 1) dX4_areAlike_156 rfl (by decide) (rv_st_5 rfl) ?_ | refine rv_iinc hX dX4_areAlike_156 rfl rfl (rv_st_5 rfl) ?_
                  refine rv_goto hX 40 dX4_areAlike_159 (by decide) ?_
                  exact hh
            · skip
              refine nv_iconst hX (m := 1) (by decide) dX4_areAlike_95 ?_
              refine rv_goto hX 100 dX4_areAlike_96 (by decide) ?_
              refine rv_icmp_ne hX 107 dX4_areAlike_100 (by decide) (fun _ => ?_) (fun q => absurd q (by decide))
              refine nv_iconst hX (m := 0) (by decide) dX4_areAlike_107 ?_
              refine rv_istore hX dX4_areAlike_108 (rv_st_4 rfl) ?_
              refine rv_iload hX dX4_areAlike_110 rfl ?_
              refine rv_if_eq hX 153 dX4_areAlike_112 (by decide) (fun _ => ?_) (fun q => absurd q (by decide))
              have hq : ¬ sp_tt (sp_ft C.its) t = sp_tt (sp_ft E.its) u := by
                by_cases q : t < 100
                · by_cases q2 : u < 100
                  · exact fun e => absurd ((sp_tt_lo q q2).mp e) (by omega)
                  · exact sp_tt_lh q (by omega)
                · by_cases q2 : u < 100
                  · exact sp_tt_hl (by omega) q2
                  · exact fun e => absurd ((sp_tt_hi (by omega) (by omega)).mp e) (by omega)
              have hh := ih (k + 1) false (some (.int (nI t))) (some (.int (nI u))) (by omega) (by omega) (fin false ⟨fun e => absurd e (by decide), fun e => absurd e hq⟩)
              refine nv_iconst hX (m := 0) (by decide) dX4_areAlike_153 ?_
              refine rv_istore hX dX4_areAlike_154 (rv_st_4 rfl) ?_
              first | refine nv_iinc hX (m := 1) dX4_areAlike_156 rfl (by decide) (rv_st_5 rfl) ?_ | refine rv_iinc hX dX4_areAlike_156 rfl rfl (rv_st_5 rfl) ?_
              refine rv_goto hX 40 dX4_areAlike_159 (by decide) ?_
              exact hh
          · skip
            refine nv_iconst hX (m := 1) (by decide) dX4_areAlike_83 ?_
            refine rv_goto hX 88 dX4_areAlike_84 (by decide) ?_
            refine rv_iload hX dX4_areAlike_88 rfl ?_
            refine nv_bipush hX (m := 100) (by decide) dX4_areAlike_90 ?_
            first | refine nv_icmp_lt hX 99 (by omega) (by omega) dX4_areAlike_92 (by decide) (fun c_92 => ?_) (fun c_92 => ?_) | refine rv_icmp_lt hX 99 dX4_areAlike_92 (by decide) (fun c_92 => ?_) (fun c_92 => ?_)
            · skip
              refine nv_iconst hX (m := 0) (by decide) dX4_areAlike_99 ?_
              refine rv_icmp_ne hX 107 dX4_areAlike_100 (by decide) (fun _ => ?_) (fun q => absurd q (by decide))
              refine nv_iconst hX (m := 0) (by decide) dX4_areAlike_107 ?_
              refine rv_istore hX dX4_areAlike_108 (rv_st_4 rfl) ?_
              refine rv_iload hX dX4_areAlike_110 rfl ?_
              refine rv_if_eq hX 153 dX4_areAlike_112 (by decide) (fun _ => ?_) (fun q => absurd q (by decide))
              have hq : ¬ sp_tt (sp_ft C.its) t = sp_tt (sp_ft E.its) u := by
                by_cases q : t < 100
                · by_cases q2 : u < 100
                  · exact fun e => absurd ((sp_tt_lo q q2).mp e) (by omega)
                  · exact sp_tt_lh q (by omega)
                · by_cases q2 : u < 100
                  · exact sp_tt_hl (by omega) q2
                  · exact fun e => absurd ((sp_tt_hi (by omega) (by omega)).mp e) (by omega)
              have hh := ih (k + 1) false (some (.int (nI t))) (some (.int (nI u))) (by omega) (by omega) (fin false ⟨fun e => absurd e (by decide), fun e => absurd e hq⟩)
              refine nv_iconst hX (m := 0) (by decide) dX4_areAlike_153 ?_
              refine rv_istore hX dX4_areAlike_154 (rv_st_4 rfl) ?_
              first | refine nv_iinc hX (m := 1) dX4_areAlike_156 rfl (by decide) (rv_st_5 rfl) ?_ | refine rv_iinc hX dX4_areAlike_156 rfl rfl (rv_st_5 rfl) ?_
              refine rv_goto hX 40 dX4_areAlike_159 (by decide) ?_
              exact hh
            · skip
              refine nv_iconst hX (m := 1) (by decide) dX4_areAlike_95 ?_
              refine rv_goto hX 100 dX4_areAlike_96 (by decide) ?_
              refine rv_icmp_ne hX 107 dX4_areAlike_100 (by decide) (fun q => absurd q (by decide)) (fun _ => ?_)
              refine nv_iconst hX (m := 1) (by decide) dX4_areAlike_103 ?_
              refine rv_goto hX 108 dX4_areAlike_104 (by decide) ?_
              refine rv_istore hX dX4_areAlike_108 (rv_st_4 rfl) ?_
              refine rv_iload hX dX4_areAlike_110 rfl ?_
              refine rv_if_eq hX 153 dX4_areAlike_112 (by decide) (fun q => absurd q (by decide)) (fun _ => ?_)
              refine rv_iload hX dX4_areAlike_115 rfl ?_
              refine nv_bipush hX (m := 100) (by decide) dX4_areAlike_117 ?_
              first | refine nv_icmp_ge hX 132 (by omega) (by omega) dX4_areAlike_119 (by decide) (fun c_119 => ?_) (fun c_119 => ?_) | refine rv_icmp_ge hX 132 dX4_areAlike_119 (by decide) (fun c_119 => ?_) (fun c_119 => ?_)
              · skip
                refine rv_aload_n hX dX4_areAlike_132 rfl ?_
                refine rv_iload_n hX dX4_areAlike_133 rfl ?_
                refine rv_iload hX dX4_areAlike_134 rfl ?_
                refine mv_calli hX iX4_384 rfl mdX4_renamed (m_renamed hG (d := d - 1) (by omega) hS hC hwC hb1 (v := t) (by omega)) (by omega) rfl rfl (Nat.le_of_ble_eq_true rfl) dX4_areAlike_136 (fun r_136 τ_136 h_136 => ?_)
                obtain ⟨rfl, rfl⟩ := h_136
                refine rv_aload_n hX dX4_areAlike_139 rfl ?_
                refine rv_iload_n hX dX4_areAlike_140 rfl ?_
                refine rv_iload hX dX4_areAlike_141 rfl ?_
                refine mv_calli hX iX4_384 rfl mdX4_renamed (m_renamed hG (d := d - 1) (by omega) hS hE1 hwE hb2 (v := u) (by omega)) (by omega) rfl rfl (Nat.le_of_ble_eq_true rfl) dX4_areAlike_143 (fun r_143 τ_143 h_143 => ?_)
                obtain ⟨rfl, rfl⟩ := h_143
                first | refine nv_icmp_ne hX 153 (by omega) (by omega) dX4_areAlike_146 (by decide) (fun c_146 => ?_) (fun c_146 => ?_) | refine rv_icmp_ne hX 153 dX4_areAlike_146 (by decide) (fun c_146 => ?_) (fun c_146 => ?_)
                · skip
                  have hq : ¬ sp_tt (sp_ft C.its) t = sp_tt (sp_ft E.its) u := by
                    by_cases q : t < 100
                    · by_cases q2 : u < 100
                      · exact fun e => absurd ((sp_tt_lo q q2).mp e) (by omega)
                      · exact sp_tt_lh q (by omega)
                    · by_cases q2 : u < 100
                      · exact sp_tt_hl (by omega) q2
                      · exact fun e => absurd ((sp_tt_hi (by omega) (by omega)).mp e) (by omega)
                  have hh := ih (k + 1) false (some (.int (nI t))) (some (.int (nI u))) (by omega) (by omega) (fin false ⟨fun e => absurd e (by decide), fun e => absurd e hq⟩)
                  refine nv_iconst hX (m := 0) (by decide) dX4_areAlike_153 ?_
                  refine rv_istore hX dX4_areAlike_154 (rv_st_4 rfl) ?_
                  first | refine nv_iinc hX (m := 1) dX4_areAlike_156 rfl (by decide) (rv_st_5 rfl) ?_ | refine rv_iinc hX dX4_areAlike_156 rfl rfl (rv_st_5 rfl) ?_
                  refine rv_goto hX 40 dX4_areAlike_159 (by decide) ?_
                  exact hh
                · skip
                  have hq : sp_tt (sp_ft C.its) t = sp_tt (sp_ft E.its) u := by
                    by_cases q : t < 100
                    · exact (sp_tt_lo q (by omega)).mpr (by omega)
                    · exact (sp_tt_hi (by omega) (by omega)).mpr (by omega)
                  have hh := ih (k + 1) true (some (.int (nI t))) (some (.int (nI u))) (by omega) (by omega) (fin true ⟨fun _ => hq, fun _ => rfl⟩)
                  refine nv_iconst hX (m := 1) (by decide) dX4_areAlike_149 ?_
                  refine rv_goto hX 154 dX4_areAlike_150 (by decide) ?_
                  refine rv_istore hX dX4_areAlike_154 (rv_st_4 rfl) ?_
                  first | refine nv_iinc hX (m := 1) dX4_areAlike_156 rfl (by decide) (rv_st_5 rfl) ?_ | refine rv_iinc hX dX4_areAlike_156 rfl rfl (rv_st_5 rfl) ?_
                  refine rv_goto hX 40 dX4_areAlike_159 (by decide) ?_
                  exact hh
              · skip
                refine rv_iload hX dX4_areAlike_122 rfl ?_
                refine rv_iload hX dX4_areAlike_124 rfl ?_
                first | refine nv_icmp_ne hX 153 (by omega) (by omega) dX4_areAlike_126 (by decide) (fun c_126 => ?_) (fun c_126 => ?_) | refine rv_icmp_ne hX 153 dX4_areAlike_126 (by decide) (fun c_126 => ?_) (fun c_126 => ?_)
                · skip
                  have hq : ¬ sp_tt (sp_ft C.its) t = sp_tt (sp_ft E.its) u := by
                    by_cases q : t < 100
                    · by_cases q2 : u < 100
                      · exact fun e => absurd ((sp_tt_lo q q2).mp e) (by omega)
                      · exact sp_tt_lh q (by omega)
                    · by_cases q2 : u < 100
                      · exact sp_tt_hl (by omega) q2
                      · exact fun e => absurd ((sp_tt_hi (by omega) (by omega)).mp e) (by omega)
                  have hh := ih (k + 1) false (some (.int (nI t))) (some (.int (nI u))) (by omega) (by omega) (fin false ⟨fun e => absurd e (by decide), fun e => absurd e hq⟩)
                  refine nv_iconst hX (m := 0) (by decide) dX4_areAlike_153 ?_
                  refine rv_istore hX dX4_areAlike_154 (rv_st_4 rfl) ?_
                  first | refine nv_iinc hX (m := 1) dX4_areAlike_156 rfl (by decide) (rv_st_5 rfl) ?_ | refine rv_iinc hX dX4_areAlike_156 rfl rfl (rv_st_5 rfl) ?_
                  refine rv_goto hX 40 dX4_areAlike_159 (by decide) ?_
                  exact hh
                · skip
                  refine rv_goto hX 149 dX4_areAlike_129 (by decide) ?_
                  have hq : sp_tt (sp_ft C.its) t = sp_tt (sp_ft E.its) u := by
                    by_cases q : t < 100
                    · exact (sp_tt_lo q (by omega)).mpr (by omega)
                    · exact (sp_tt_hi (by omega) (by omega)).mpr (by omega)
                  have hh := ih (k + 1) true (some (.int (nI t))) (some (.int (nI u))) (by omega) (by omega) (fin true ⟨fun _ => hq, fun _ => rfl⟩)
                  refine nv_iconst hX (m := 1) (by decide) dX4_areAlike_149 ?_
                  refine rv_goto hX 154 dX4_areAlike_150 (by decide) ?_
                  refine rv_istore hX dX4_areAlike_154 (rv_st_4 rfl) ?_
                  first | refine nv_iinc hX (m := 1) dX4_areAlike_156 rfl (by decide) (rv_st_5 rfl) ?_ | refine rv_iinc hX dX4_areAlike_156 rfl rfl (rv_st_5 rfl) ?_
                  refine rv_goto hX 40 dX4_areAlike_159 (by decide) ?_
                  exact hh
  refine rv_aload_n hX dX4_areAlike_0 rfl ?_
  refine rv_iload_n hX dX4_areAlike_1 rfl ?_
  refine rv_iload_n hX dX4_areAlike_2 rfl ?_
  refine mv_calli hX iX4_148 rfl mdX4_kindOf (m_kindOf hG (d := d - 1) (b := b1) (i := i) (by omega)) (by omega) rfl rfl (Nat.le_of_ble_eq_true rfl) dX4_areAlike_3 (fun r_3 τ_3 h_3 => ?_)
  obtain ⟨rfl, rfl⟩ := h_3
  rw [hmi.1]
  refine rv_aload_n hX dX4_areAlike_6 rfl ?_
  refine rv_iload_n hX dX4_areAlike_7 rfl ?_
  refine rv_iload_n hX dX4_areAlike_8 rfl ?_
  refine mv_calli hX iX4_148 rfl mdX4_kindOf (m_kindOf hG (d := d - 1) (b := b2) (i := i) (by omega)) (by omega) rfl rfl (Nat.le_of_ble_eq_true rfl) dX4_areAlike_9 (fun r_9 τ_9 h_9 => ?_)
  obtain ⟨rfl, rfl⟩ := h_9
  rw [hmj.1]
  first | refine nv_icmp_ne hX 34 (by omega) (by omega) dX4_areAlike_12 (by decide) (fun c_12 => ?_) (fun c_12 => ?_) | refine rv_icmp_ne hX 34 dX4_areAlike_12 (by decide) (fun c_12 => ?_) (fun c_12 => ?_)
  · skip
    have hh := loop (it.2.2.length + 1) 0 false none none (Nat.zero_le _) (by omega) ⟨fun e => absurd e (by decide), fun e => absurd e (fun q => by
      have := q.1
      have := q.2.1
      omega)⟩
    refine nv_iconst hX (m := 0) (by decide) dX4_areAlike_34 ?_
    refine rv_istore hX dX4_areAlike_35 (rv_st_4 rfl) ?_
    refine nv_iconst hX (m := 0) (by decide) dX4_areAlike_37 ?_
    refine rv_istore hX dX4_areAlike_38 (rv_st_5 rfl) ?_
    exact hh
  · skip
    refine rv_aload_n hX dX4_areAlike_15 rfl ?_
    refine rv_iload_n hX dX4_areAlike_16 rfl ?_
    refine rv_iload_n hX dX4_areAlike_17 rfl ?_
    refine mv_calli hX iX4_152 rfl mdX4_whatOf (m_whatOf hG (d := d - 1) (b := b1) (i := i) (by omega)) (by omega) rfl rfl (Nat.le_of_ble_eq_true rfl) dX4_areAlike_18 (fun r_18 τ_18 h_18 => ?_)
    obtain ⟨rfl, rfl⟩ := h_18
    rw [hmi.2.1]
    refine rv_aload_n hX dX4_areAlike_21 rfl ?_
    refine rv_iload_n hX dX4_areAlike_22 rfl ?_
    refine rv_iload_n hX dX4_areAlike_23 rfl ?_
    refine mv_calli hX iX4_152 rfl mdX4_whatOf (m_whatOf hG (d := d - 1) (b := b2) (i := i) (by omega)) (by omega) rfl rfl (Nat.le_of_ble_eq_true rfl) dX4_areAlike_24 (fun r_24 τ_24 h_24 => ?_)
    obtain ⟨rfl, rfl⟩ := h_24
    rw [hmj.2.1]
    first | refine nv_icmp_ne hX 34 (by omega) (by omega) dX4_areAlike_27 (by decide) (fun c_27 => ?_) (fun c_27 => ?_) | refine rv_icmp_ne hX 34 dX4_areAlike_27 (by decide) (fun c_27 => ?_) (fun c_27 => ?_)
    · skip
      have hh := loop (it.2.2.length + 1) 0 false none none (Nat.zero_le _) (by omega) ⟨fun e => absurd e (by decide), fun e => absurd e (fun q => by
        have := q.1
        have := q.2.1
        omega)⟩
      refine nv_iconst hX (m := 0) (by decide) dX4_areAlike_34 ?_
      refine rv_istore hX dX4_areAlike_35 (rv_st_4 rfl) ?_
      refine nv_iconst hX (m := 0) (by decide) dX4_areAlike_37 ?_
      refine rv_istore hX dX4_areAlike_38 (rv_st_5 rfl) ?_
      exact hh
    · skip
      have hh := loop (it.2.2.length + 1) 0 true none none (Nat.zero_le _) (by omega) ⟨fun _ => ⟨by omega, by omega, rfl⟩, fun _ => rfl⟩
      refine nv_iconst hX (m := 1) (by decide) dX4_areAlike_30 ?_
      refine rv_goto hX 35 dX4_areAlike_31 (by decide) ?_
      refine rv_istore hX dX4_areAlike_35 (rv_st_4 rfl) ?_
      refine nv_iconst hX (m := 0) (by decide) dX4_areAlike_37 ?_
      refine rv_istore hX dX4_areAlike_38 (rv_st_5 rfl) ?_
      exact hh
