/-! THE REFERENCE: what a match takes -/
set_option maxRecDepth 100000
/-- places of the facts of a match's ATOMs -/
def sp_atk : List sp_I → List Nat → List Nat
  | it :: its, k :: ks => if it.1 = 0 then k :: sp_atk its ks else sp_atk its ks
  | _, _ => []
theorem sp_atk_snoc {its : List sp_I} : ∀ {ks : List Nat} {it : sp_I} {k : Nat}, its.length = ks.length → sp_atk (its ++ [it]) (ks ++ [k]) = sp_atk its ks ++ (if it.1 = 0 then [k] else []) := by
  induction its with
  | nil =>
    intro ks it k h
    have : ks = [] := List.eq_nil_of_length_eq_zero h.symm
    subst this
    show (if it.1 = 0 then [k] else []) = _
    rfl
  | cons a its ih =>
    intro ks it k h
    cases ks with
    | nil => cases h
    | cons j ks =>
      have h' : its.length = ks.length := Nat.succ.inj h
      show (if a.1 = 0 then j :: sp_atk (its ++ [it]) (ks ++ [k]) else sp_atk (its ++ [it]) (ks ++ [k])) = (if a.1 = 0 then j :: sp_atk its ks else sp_atk its ks) ++ _
      rw [ih h']
      split <;> rfl
theorem sp_take_get {α : Type} {l : List α} {s : Nat} {x : α} (h : l[s]? = some x) : l.take (s + 1) = l.take s ++ [x] := by
  rw [List.take_add_one, h]
  rfl
theorem sp_atk_take {its : List sp_I} {ks : List Nat} {s k : Nat} {it : sp_I} (hl : ks.length = its.length) (h1 : its[s]? = some it) (h2 : ks[s]? = some k) : sp_atk (its.take (s + 1)) (ks.take (s + 1)) = sp_atk (its.take s) (ks.take s) ++ (if it.1 = 0 then [k] else []) := by
  rw [sp_take_get h1, sp_take_get h2]
  exact sp_atk_snoc (by rw [List.length_take, List.length_take, hl])
theorem sp_atk_sub {its : List sp_I} : ∀ {ks : List Nat} {k : Nat}, k ∈ sp_atk its ks → k ∈ ks := by
  induction its with
  | nil => intro ks k h; cases h
  | cons it its ih =>
    intro ks k h
    cases ks with
    | nil => cases h
    | cons j ks =>
      have h' : k ∈ (if it.1 = 0 then j :: sp_atk its ks else sp_atk its ks) := h
      split at h'
      · rcases List.mem_cons.mp h' with rfl | h'
        · exact List.mem_cons_self
        · exact List.mem_cons_of_mem _ (ih h')
      · exact List.mem_cons_of_mem _ (ih h')
def sp_mxd (dep : Nat → Nat) (l : List Nat) : Nat := l.foldl (fun m k => if m < dep k then dep k else m) 0
theorem sp_mxd_snoc {dep : Nat → Nat} {l : List Nat} {k : Nat} : sp_mxd dep (l ++ [k]) = if sp_mxd dep l < dep k then dep k else sp_mxd dep l := by
  unfold sp_mxd
  rw [List.foldl_append]
  rfl
theorem sp_mxd_le {dep : Nat → Nat} {m : Nat} (h : ∀ k, dep k ≤ m) (l : List Nat) : sp_mxd dep l ≤ m := by
  unfold sp_mxd
  have : ∀ (l : List Nat) (a : Nat), a ≤ m → l.foldl (fun m k => if m < dep k then dep k else m) a ≤ m := by
    intro l
    induction l with
    | nil => intro a h; exact h
    | cons x l ih =>
      intro a ha
      rw [List.foldl_cons]
      refine ih _ ?_
      split
      · exact h x
      · exact ha
  exact this l 0 (Nat.zero_le _)
/-- the facts tried -/
def mTri (σ : rv_S) (its : List sp_I) (ks : List Nat) : Prop := ks.length = its.length ∧ ∀ (i k : Nat), ks[i]? = some k → σ.2.1 27 i = nI k ∧ k < 62
theorem mAt.tri {σ : rv_S} {F : List Nat} {its : List sp_I} {ks : List Nat} {w : sp_V} {todo : List (List Nat × sp_V)} (h : mAt σ F its ks w todo) : mTri σ its ks := by
  obtain ⟨kb, D, a1, a2, a3, a4, a5, a6, a7, a8, a9, a10, a11⟩ := h
  exact ⟨a6, a9⟩
theorem mAt.val {σ : rv_S} {F : List Nat} {its : List sp_I} {ks : List Nat} {w : sp_V} {todo : List (List Nat × sp_V)} (h : mAt σ F its ks w todo) : mVal σ w := by
  obtain ⟨kb, D, a1, _⟩ := h
  exact a1
theorem m_matchFacts {G : rv_G} (hG : rv_GK G) {d : Nat} (hd : 1 ≤ d) {σ : rv_S} {S F : List Nat} {b : Nat} {ord : Nat → Nat} {its : List sp_I} {ks : List Nat} (hc : mCfg σ S F b ord its) (ht : mTri σ its ks) : mC G d yX4_matchFacts wX4_matchFacts [] σ (mPl (fun r τ => τ = σ ∧ ∀ k, lb r k = decide (k ∈ sp_atk its ks))) := by
  refine mv_start hG (by decide +kernel) (Nat.le_of_ble_eq_true rfl) (fun X Hb o hX1 hX hE => ?_)
  subst hX1
  show rv_V X (rv_mh Hb o _) 0 [some (.ref o), none, none, none] []
  have hb17 := hc.2.2.2.2.1
  obtain ⟨hS8, hF', hmt, hln, -, hl6, hor, hits⟩ := hc
  obtain ⟨hkl, hks⟩ := ht
  have loop : ∀ (n s : Nat) (a : Int64), s ≤ its.length → its.length - s < n → (∀ k, lb a k = decide (k ∈ sp_atk (its.take s) (ks.take s))) → rv_V X (rv_mh Hb o σ) 4 [some (.ref o), some (.long a), none, some (.int (nI s))] [] := by
    intro n
    induction n with
    | zero => intro s a g1 g2; omega
    | succ n ih =>
      intro s a g1 g2 g3
      refine rv_iload_n hX dX4_matchFacts_4 rfl ?_
      refine rv_aload_n hX dX4_matchFacts_5 rfl ?_
      refine mv_gi hX (k := 32) gX4_158_X4 (by decide) rfl dX4_matchFacts_6 ?_
      rw [hln]
      first | refine nv_icmp_ge hX 50 (by omega) (by omega) dX4_matchFacts_9 (by decide) (fun c_9 => ?_) (fun c_9 => ?_) | refine rv_icmp_ge hX 50 dX4_matchFacts_9 (by decide) (fun c_9 => ?_) (fun c_9 => ?_)
      · skip
        have hse : s = its.length := by omega
        refine rv_lload_n hX dX4_matchFacts_50 rfl ?_
        refine mv_retl hX hE dX4_matchFacts_51 ?_
        refine ⟨rfl, fun j => ?_⟩
        rw [g3, hse, List.take_length, List.take_of_length_le (by omega)]
      · skip
        obtain ⟨it, hit⟩ : ∃ t, its[s]? = some t := ⟨its[s], List.getElem?_eq_getElem (by omega)⟩
        obtain ⟨k, hk⟩ : ∃ t, ks[s]? = some t := ⟨ks[s]'(by omega), List.getElem?_eq_getElem (by omega)⟩
        obtain ⟨hI, hwf⟩ := hits s it hit
        have hor2 := hor s (by omega)
        have hk3 := hwf.1
        have hk62 := (hks s k hk).2
        have hat := sp_atk_take hkl hit hk
        refine rv_lload_n hX dX4_matchFacts_12 rfl ?_
        refine rv_aload_n hX dX4_matchFacts_13 rfl ?_
        refine rv_aload_n hX dX4_matchFacts_14 rfl ?_
        refine mv_gi hX (k := 31) gX4_155_X4 (by decide) rfl dX4_matchFacts_15 ?_
        rw [hmt]
        refine rv_aload_n hX dX4_matchFacts_18 rfl ?_
        refine mv_ga hX (k := 35) (j := 26) gX4_85_X4 (by decide) rfl (by decide) dX4_matchFacts_19 ?_
        refine rv_iload_n hX dX4_matchFacts_22 rfl ?_
        refine mv_ld hX (j := 26) (by decide) (by decide) rfl (by decide) (show _ < 6 by omega) dX4_matchFacts_23 ?_
        rw [hor2.1]
        refine mv_calli hX iX4_148 rfl mdX4_kindOf (m_kindOf hG (d := d - 1) (by omega)) (by omega) rfl rfl (Nat.le_of_ble_eq_true rfl) dX4_matchFacts_24 (fun r_24 τ_24 h_24 => ?_)
        obtain ⟨rfl, rfl⟩ := h_24
        rw [hI.1]
        first | refine zv_if_ne hX 41 dX4_matchFacts_27 (by decide) (fun c_27 => ?_) (fun c_27 => ?_) | refine nv_if_ne hX 41 (by omega) dX4_matchFacts_27 (by decide) (fun c_27 => ?_) (fun c_27 => ?_) | refine rv_if_ne hX 41 dX4_matchFacts_27 (by decide) (fun c_27 => ?_) (fun c_27 => ?_)
        · skip
          refine rv_lconst hX (v := 0) dX4_matchFacts_41 rfl ?_
          refine rv_lor hX dX4_matchFacts_42 ?_
          refine rv_lstore_n hX dX4_matchFacts_43 (rv_st_1 rfl) rfl ?_
          first | refine nv_iinc hX (m := 1) dX4_matchFacts_44 rfl (by decide) (rv_st_3 rfl) ?_ | refine rv_iinc hX dX4_matchFacts_44 rfl rfl (rv_st_3 rfl) ?_
          refine rv_goto hX 4 dX4_matchFacts_47 (by decide) ?_
          refine ih (s + 1) _ (by omega) (by omega) (fun j => ?_)
          first
            | (rw [lb_or, g3, lb_one (by omega), hat, if_pos c_27]
               rw [← Bool.decide_or]
               simp)
            | (rw [lb_or, g3, lb_0, hat, if_neg (by omega), List.append_nil, Bool.or_false])
        · skip
          refine rv_lconst hX (v := 1) dX4_matchFacts_30 rfl ?_
          refine rv_aload_n hX dX4_matchFacts_31 rfl ?_
          refine mv_ga hX (k := 36) (j := 27) gX4_88_X4 (by decide) rfl (by decide) dX4_matchFacts_32 ?_
          refine rv_iload_n hX dX4_matchFacts_35 rfl ?_
          refine mv_ld hX (j := 27) (by decide) (by decide) rfl (by decide) (show _ < 6 by omega) dX4_matchFacts_36 ?_
          rw [(hks s k hk).1]
          refine rv_lshl hX dX4_matchFacts_37 ?_
          refine rv_goto hX 42 dX4_matchFacts_38 (by decide) ?_
          refine rv_lor hX dX4_matchFacts_42 ?_
          refine rv_lstore_n hX dX4_matchFacts_43 (rv_st_1 rfl) rfl ?_
          first | refine nv_iinc hX (m := 1) dX4_matchFacts_44 rfl (by decide) (rv_st_3 rfl) ?_ | refine rv_iinc hX dX4_matchFacts_44 rfl rfl (rv_st_3 rfl) ?_
          refine rv_goto hX 4 dX4_matchFacts_47 (by decide) ?_
          refine ih (s + 1) _ (by omega) (by omega) (fun j => ?_)
          first
            | (rw [lb_or, g3, lb_one (by omega), hat, if_pos c_27]
               rw [← Bool.decide_or]
               simp)
            | (rw [lb_or, g3, lb_0, hat, if_neg (by omega), List.append_nil, Bool.or_false])
  refine rv_lconst hX (v := 0) dX4_matchFacts_0 rfl ?_
  refine rv_lstore_n hX dX4_matchFacts_1 (rv_st_1 rfl) rfl ?_
  refine nv_iconst hX (m := 0) (by decide) dX4_matchFacts_2 ?_
  refine rv_istore_n hX dX4_matchFacts_3 (rv_st_3 rfl) ?_
  exact loop (its.length + 1) 0 _ (Nat.zero_le _) (by omega) (fun k => lb_0 k)
theorem m_matchDepth {G : rv_G} (hG : rv_GK G) {d : Nat} (hd : 1 ≤ d) {σ : rv_S} {S F : List Nat} {b : Nat} {ord : Nat → Nat} {its : List sp_I} {ks : List Nat} {dep : Nat → Nat} (hc : mCfg σ S F b ord its) (ht : mTri σ its ks) (hdp : ∀ k, k ∈ sp_atk its ks → σ.2.1 35 k = nI (dep k)) (hdl : ∀ k, dep k ≤ 1000000) : mC G d yX4_matchDepth wX4_matchDepth [] σ (mPi (fun r τ => τ = σ ∧ r = nI (sp_mxd dep (sp_atk its ks)))) := by
  refine mv_start hG (by decide +kernel) (Nat.le_of_ble_eq_true rfl) (fun X Hb o hX1 hX hE => ?_)
  subst hX1
  show rv_V X (rv_mh Hb o _) 0 [some (.ref o), none, none, none] []
  have hb17 := hc.2.2.2.2.1
  obtain ⟨hS8, hF', hmt, hln, -, hl6, hor, hits⟩ := hc
  obtain ⟨hkl, hks⟩ := ht
  have loop : ∀ (n s : Nat) (x : Option Value), s ≤ its.length → its.length - s < n → rv_V X (rv_mh Hb o σ) 4 [some (.ref o), some (.int (nI (sp_mxd dep (sp_atk (its.take s) (ks.take s))))), some (.int (nI s)), x] [] := by
    intro n
    induction n with
    | zero => intro s x g1 g2; omega
    | succ n ih =>
      intro s x g1 g2
      have hmx := sp_mxd_le hdl (sp_atk (its.take s) (ks.take s))
      refine rv_iload_n hX dX4_matchDepth_4 rfl ?_
      refine rv_aload_n hX dX4_matchDepth_5 rfl ?_
      refine mv_gi hX (k := 32) gX4_158_X4 (by decide) rfl dX4_matchDepth_6 ?_
      rw [hln]
      first | refine nv_icmp_ge hX 76 (by omega) (by omega) dX4_matchDepth_9 (by decide) (fun c_9 => ?_) (fun c_9 => ?_) | refine rv_icmp_ge hX 76 dX4_matchDepth_9 (by decide) (fun c_9 => ?_) (fun c_9 => ?_)
      · skip
        have hse : s = its.length := by omega
        refine rv_iload_n hX dX4_matchDepth_76 rfl ?_
        refine mv_reti hX hE dX4_matchDepth_77 ?_
        refine ⟨rfl, ?_⟩
        rw [hse, List.take_length, List.take_of_length_le (by omega)]
      · skip
        obtain ⟨it, hit⟩ : ∃ t, its[s]? = some t := ⟨its[s], List.getElem?_eq_getElem (by omega)⟩
        obtain ⟨k, hk⟩ : ∃ t, ks[s]? = some t := ⟨ks[s]'(by omega), List.getElem?_eq_getElem (by omega)⟩
        obtain ⟨hI, hwf⟩ := hits s it hit
        have hor2 := hor s (by omega)
        have hk3 := hwf.1
        have hk62 := (hks s k hk).2
        have hat := sp_atk_take hkl hit hk
        have hdk := hdl k
        refine rv_aload_n hX dX4_matchDepth_12 rfl ?_
        refine rv_aload_n hX dX4_matchDepth_13 rfl ?_
        refine mv_gi hX (k := 31) gX4_155_X4 (by decide) rfl dX4_matchDepth_14 ?_
        rw [hmt]
        refine rv_aload_n hX dX4_matchDepth_17 rfl ?_
        refine mv_ga hX (k := 35) (j := 26) gX4_85_X4 (by decide) rfl (by decide) dX4_matchDepth_18 ?_
        refine rv_iload_n hX dX4_matchDepth_21 rfl ?_
        refine mv_ld hX (j := 26) (by decide) (by decide) rfl (by decide) (show _ < 6 by omega) dX4_matchDepth_22 ?_
        rw [hor2.1]
        refine mv_calli hX iX4_148 rfl mdX4_kindOf (m_kindOf hG (d := d - 1) (by omega)) (by omega) rfl rfl (Nat.le_of_ble_eq_true rfl) dX4_matchDepth_23 (fun r_23 τ_23 h_23 => ?_)
        obtain ⟨rfl, rfl⟩ := h_23
        rw [hI.1]
        first | refine zv_if_ne hX 33 dX4_matchDepth_26 (by decide) (fun c_26 => ?_) (fun c_26 => ?_) | refine nv_if_ne hX 33 (by omega) dX4_matchDepth_26 (by decide) (fun c_26 => ?_) (fun c_26 => ?_) | refine rv_if_ne hX 33 dX4_matchDepth_26 (by decide) (fun c_26 => ?_) (fun c_26 => ?_)
        · skip
          rw [if_neg (by omega), List.append_nil] at hat
          refine nv_iconst hX (m := 0) (by decide) dX4_matchDepth_33 ?_
          refine rv_istore_n hX dX4_matchDepth_34 (rv_st_3 rfl) ?_
          refine rv_iload_n hX dX4_matchDepth_35 rfl ?_
          refine rv_if_eq hX 68 dX4_matchDepth_36 (by decide) (fun _ => ?_) (fun q => absurd q (by decide))
          refine rv_iload_n hX dX4_matchDepth_68 rfl ?_
          refine rv_istore_n hX dX4_matchDepth_69 (rv_st_1 rfl) ?_
          first | refine nv_iinc hX (m := 1) dX4_matchDepth_70 rfl (by decide) (rv_st_2 rfl) ?_ | refine rv_iinc hX dX4_matchDepth_70 rfl rfl (rv_st_2 rfl) ?_
          refine rv_goto hX 4 dX4_matchDepth_73 (by decide) ?_
          first
            | (rw [← hat]; exact ih (s + 1) _ (by omega) (by omega))
            | (have h9 := ih (s + 1) (some (.int (nI 1))) (by omega) (by omega)
               first
                 | (rw [hmx2, if_pos (by omega)] at h9; exact h9)
                 | (rw [hmx2, if_neg (by omega)] at h9; exact h9))
        · skip
          rw [if_pos c_26] at hat
          have hkm : k ∈ sp_atk its ks := by
            have h1 : sp_atk its ks = sp_atk (its.take (s + 1) ++ its.drop (s + 1)) (ks.take (s + 1) ++ ks.drop (s + 1)) := by rw [List.take_append_drop, List.take_append_drop]
            rw [h1]
            have h2 : ∀ (a c : List sp_I) (b e : List Nat), a.length = b.length → ∀ x, x ∈ sp_atk a b → x ∈ sp_atk (a ++ c) (b ++ e) := by
              intro a
              induction a with
              | nil => intro c b e _ x hx; cases hx
              | cons y a iha =>
                intro c b e hl x hx
                cases b with
                | nil => cases hl
                | cons z b =>
                  have hx' : x ∈ (if y.1 = 0 then z :: sp_atk a b else sp_atk a b) := hx
                  show x ∈ (if y.1 = 0 then z :: sp_atk (a ++ c) (b ++ e) else sp_atk (a ++ c) (b ++ e))
                  split at hx'
                  · rename_i q
                    rw [if_pos q]
                    rcases List.mem_cons.mp hx' with rfl | hx'
                    · exact List.mem_cons_self
                    · exact List.mem_cons_of_mem _ (iha c b e (Nat.succ.inj hl) x hx')
                  · rename_i q
                    rw [if_neg q]
                    exact iha c b e (Nat.succ.inj hl) x hx'
            refine h2 _ _ _ _ (by rw [List.length_take, List.length_take, hkl]) _ ?_
            rw [hat]
            exact List.mem_append_right _ (List.mem_singleton.mpr rfl)
          have hdk2 := hdp k hkm
          have hmx2 := sp_mxd_snoc (dep := dep) (l := sp_atk (its.take s) (ks.take s)) (k := k)
          rw [← hat] at hmx2
          refine nv_iconst hX (m := 1) (by decide) dX4_matchDepth_29 ?_
          refine rv_goto hX 34 dX4_matchDepth_30 (by decide) ?_
          refine rv_istore_n hX dX4_matchDepth_34 (rv_st_3 rfl) ?_
          refine rv_iload_n hX dX4_matchDepth_35 rfl ?_
          refine rv_if_eq hX 68 dX4_matchDepth_36 (by decide) (fun q => absurd q (by decide)) (fun _ => ?_)
          refine rv_aload_n hX dX4_matchDepth_39 rfl ?_
          refine mv_ga hX (k := 45) (j := 35) gX4_113_X4 (by decide) rfl (by decide) dX4_matchDepth_40 ?_
          refine rv_aload_n hX dX4_matchDepth_43 rfl ?_
          refine mv_ga hX (k := 36) (j := 27) gX4_88_X4 (by decide) rfl (by decide) dX4_matchDepth_44 ?_
          refine rv_iload_n hX dX4_matchDepth_47 rfl ?_
          refine mv_ld hX (j := 27) (by decide) (by decide) rfl (by decide) (show _ < 6 by omega) dX4_matchDepth_48 ?_
          rw [(hks s k hk).1]
          refine mv_ld hX (j := 35) (by decide) (by decide) rfl (by decide) (show _ < 62 by omega) dX4_matchDepth_49 ?_
          rw [hdk2]
          refine rv_iload_n hX dX4_matchDepth_50 rfl ?_
          first | refine nv_icmp_le hX 68 (by omega) (by omega) dX4_matchDepth_51 (by decide) (fun c_51 => ?_) (fun c_51 => ?_) | refine rv_icmp_le hX 68 dX4_matchDepth_51 (by decide) (fun c_51 => ?_) (fun c_51 => ?_)
          · skip
            refine rv_iload_n hX dX4_matchDepth_68 rfl ?_
            refine rv_istore_n hX dX4_matchDepth_69 (rv_st_1 rfl) ?_
            first | refine nv_iinc hX (m := 1) dX4_matchDepth_70 rfl (by decide) (rv_st_2 rfl) ?_ | refine rv_iinc hX dX4_matchDepth_70 rfl rfl (rv_st_2 rfl) ?_
            refine rv_goto hX 4 dX4_matchDepth_73 (by decide) ?_
            first
              | (rw [← hat]; exact ih (s + 1) _ (by omega) (by omega))
              | (have h9 := ih (s + 1) (some (.int (nI 1))) (by omega) (by omega)
                 first
                   | (rw [hmx2, if_pos (by omega)] at h9; exact h9)
                   | (rw [hmx2, if_neg (by omega)] at h9; exact h9))
          · skip
            refine rv_aload_n hX dX4_matchDepth_54 rfl ?_
            refine mv_ga hX (k := 45) (j := 35) gX4_113_X4 (by decide) rfl (by decide) dX4_matchDepth_55 ?_
            refine rv_aload_n hX dX4_matchDepth_58 rfl ?_
            refine mv_ga hX (k := 36) (j := 27) gX4_88_X4 (by decide) rfl (by decide) dX4_matchDepth_59 ?_
            refine rv_iload_n hX dX4_matchDepth_62 rfl ?_
            refine mv_ld hX (j := 27) (by decide) (by decide) rfl (by decide) (show _ < 6 by omega) dX4_matchDepth_63 ?_
            rw [(hks s k hk).1]
            refine mv_ld hX (j := 35) (by decide) (by decide) rfl (by decide) (show _ < 62 by omega) dX4_matchDepth_64 ?_
            rw [hdk2]
            refine rv_goto hX 69 dX4_matchDepth_65 (by decide) ?_
            refine rv_istore_n hX dX4_matchDepth_69 (rv_st_1 rfl) ?_
            first | refine nv_iinc hX (m := 1) dX4_matchDepth_70 rfl (by decide) (rv_st_2 rfl) ?_ | refine rv_iinc hX dX4_matchDepth_70 rfl rfl (rv_st_2 rfl) ?_
            refine rv_goto hX 4 dX4_matchDepth_73 (by decide) ?_
            first
              | (rw [← hat]; exact ih (s + 1) _ (by omega) (by omega))
              | (have h9 := ih (s + 1) (some (.int (nI 1))) (by omega) (by omega)
                 first
                   | (rw [hmx2, if_pos (by omega)] at h9; exact h9)
                   | (rw [hmx2, if_neg (by omega)] at h9; exact h9))
  refine nv_iconst hX (m := 0) (by decide) dX4_matchDepth_0 ?_
  refine rv_istore_n hX dX4_matchDepth_1 (rv_st_1 rfl) ?_
  refine nv_iconst hX (m := 0) (by decide) dX4_matchDepth_2 ?_
  refine rv_istore_n hX dX4_matchDepth_3 (rv_st_2 rfl) ?_
  exact loop (its.length + 1) 0 none (Nat.zero_le _) (by omega)
