/-! THE SYSTEM: a world asked -/
set_option maxRecDepth 100000
theorem rv_z_or1 {b : Bool} : (rv_z b ||| nI 1 : Int32) = rv_z true := by cases b <;> decide
theorem rv_z_or0 {b : Bool} : (rv_z b ||| nI 0 : Int32) = rv_z b := by cases b <;> decide
theorem rv_z_and {b c : Bool} : (rv_z b &&& rv_z c : Int32) = rv_z (b && c) := by cases b <;> cases c <;> decide
theorem sp_at_drop {T : List (Nat × Nat)} {f k : Nat} (h : ∀ i p, i < k → T[i]? = some p → p.1 ≠ f) : (k = T.length → sp_at T f = none) ∧ ∀ p, T[k]? = some p → p.1 = f → sp_at T f = some k := by
  refine ⟨fun e => ?_, fun p hp e => ?_⟩
  · rw [sp_at_mem]
    intro hm
    obtain ⟨p, hp, e2⟩ := List.mem_map.mp hm
    obtain ⟨i, hi⟩ := List.getElem?_of_mem hp
    exact h i p (by have := (List.getElem?_eq_some_iff.mp hi).1; omega) hi e2
  · unfold sp_at
    rw [List.findIdx?_eq_some_iff_getElem]
    obtain ⟨hk, ek⟩ := List.getElem?_eq_some_iff.mp hp
    refine ⟨hk, by rw [ek, e]; simp, fun j hj => ?_⟩
    have := h j T[j] hj (List.getElem?_eq_getElem (by omega))
    simpa using this
theorem x_toldAt {G : rv_G} (hG : rv_GK G) {d wd f : Nat} (hd : 4 ≤ d) {rel ta st0 tg ru de fi sk : Nat} {tgd rn dn now : Int32} {T : List (Nat × Nat)} {h : rv_H} (hW : rv_rd G h wd (cW rel ta st0 tg tgd ru de rn dn fi sk now)) (hT : xLp G (rv_rd G h) (xTd G) ta T) (hT8 : ∀ p, p ∈ T → p.1 < 8000000) (hf : f < 2147483648) : rv_Call G d yX2_toldAt wX2_toldAt [.ref wd, .int (nI f)] h (xN (fun u h' => h' = h ∧ u = some (.int (rv_oi (sp_at T f))))) := by
  refine rv_start hG (by decide +kernel) (L := [some (.ref wd), some (.int (nI f)), none]) rfl (Nat.le_of_ble_eq_true rfl) (fun X hX1 hX hE => ?_)
  subst hX1
  obtain ⟨es, hL, hes, hxs⟩ := id hT
  obtain ⟨lm, led, lcap, lf, l1, l2⟩ := id hL
  have hlen := hL.len
  have loop : ∀ (z k : Nat), T.length - k < z → k ≤ T.length → (∀ i p, i < k → T[i]? = some p → p.1 ≠ f) → rv_V X h 2 [some (.ref wd), some (.int (nI f)), some (.int (nI k))] [] := by
    intro z
    induction z with
    | zero => intro k g1; omega
    | succ z ih =>
      intro k g1 g2 g3
      obtain ⟨a1, a2⟩ := sp_at_drop (k := k) g3
      by_cases hk : k = T.length
      · skip
        refine rv_iload_n hX dX2_toldAt_2 rfl ?_
        refine rv_aload_n hX dX2_toldAt_3 rfl ?_
        refine rv_getfR hX gX2_20_X2 hW rfl dX2_toldAt_4 ?_
        refine rv_invVR hX iX2_65 mdJ2_size l1 ⟨TJ2, 3, rv_c17⟩ (j_size hG (d := d - 1) hL.L) (by omega) rfl rfl (Nat.le_of_ble_eq_true rfl) dX2_toldAt_7 (fun v h' hq => ?_) (fun E h' hq => by first | exact hq.elim | cases hq.2 | cases hq.1)
        obtain ⟨rfl, hq⟩ := hq
        cases hq
        rw [hes]
        refine nv_icmp_ge hX 38 (by omega) (by omega) dX2_toldAt_10 (by decide) (fun c_10 => ?_) (fun q => absurd q (by omega))
        refine rv_iconst hX (v := -1) dX2_toldAt_38 (by decide) ?_
        refine rv_ireturn hX hE rfl ?_ dX2_toldAt_39
        exact ⟨rfl, by rw [a1 hk]; rfl⟩
      · obtain ⟨p, hp⟩ : ∃ p, T[k]? = some p := ⟨T[k], List.getElem?_eq_getElem (by omega)⟩
        obtain ⟨te, hte, tf, t1, t1b, t2, t3⟩ := xLp.get hes hxs hp
        have hp8 := hT8 p (List.mem_of_getElem? hp)
        refine rv_iload_n hX dX2_toldAt_2 rfl ?_
        refine rv_aload_n hX dX2_toldAt_3 rfl ?_
        refine rv_getfR hX gX2_20_X2 hW rfl dX2_toldAt_4 ?_
        refine rv_invVR hX iX2_65 mdJ2_size l1 ⟨TJ2, 3, rv_c17⟩ (j_size hG (d := d - 1) hL.L) (by omega) rfl rfl (Nat.le_of_ble_eq_true rfl) dX2_toldAt_7 (fun v h' hq => ?_) (fun E h' hq => by first | exact hq.elim | cases hq.2 | cases hq.1)
        obtain ⟨rfl, hq⟩ := hq
        cases hq
        rw [hes]
        refine nv_icmp_ge hX 38 (by omega) (by omega) dX2_toldAt_10 (by decide) (fun q => absurd q (by omega)) (fun c_10 => ?_)
        refine rv_aload_n hX dX2_toldAt_13 rfl ?_
        refine rv_getfR hX gX2_20_X2 hW rfl dX2_toldAt_14 ?_
        refine rv_iload_n hX dX2_toldAt_17 rfl ?_
        refine rv_invVR hX iX2_69 mdJ2_get l1 ⟨TJ2, 3, rv_c17⟩ (j_get hG (d := d - 1) (by omega) hL.L hte) (by omega) rfl rfl (Nat.le_of_ble_eq_true rfl) dX2_toldAt_18 (fun v h' hq => ?_) (fun E h' hq => by first | exact hq.elim | cases hq.2 | cases hq.1)
        obtain ⟨rfl, hq⟩ := hq
        cases hq
        refine rv_castAN hX (k := 0) (by decide) (by decide) t1 t1b q956 dX2_toldAt_21 ?_
        refine nv_iconst hX (m := 0) (by decide) dX2_toldAt_24 ?_
        refine xv_iald hX t1 (by omega) (by omega) dX2_toldAt_25 ?_
        rw [t2]
        refine rv_iload_n hX dX2_toldAt_26 rfl ?_
        first | refine nv_icmp_ne hX 32 (by omega) (by omega) dX2_toldAt_27 (by decide) (fun c_27 => ?_) (fun c_27 => ?_) | refine rv_icmp_ne hX 32 dX2_toldAt_27 (by decide) (fun c_27 => ?_) (fun c_27 => ?_)
        · skip
          first | refine nv_iinc hX (m := 1) dX2_toldAt_32 rfl (by decide) (rv_st_2 rfl) ?_ | refine rv_iinc hX dX2_toldAt_32 rfl rfl (rv_st_2 rfl) ?_
          refine rv_goto hX 2 dX2_toldAt_35 (by decide) ?_
          refine ih (k + 1) (by omega) (by omega) (fun i p' hi hp' => ?_)
          by_cases e : i = k
          · subst e
            rw [hp] at hp'
            cases hp'
            omega
          · exact g3 i p' (by omega) hp'
        · skip
          refine rv_iload_n hX dX2_toldAt_30 rfl ?_
          refine rv_ireturn hX hE rfl ?_ dX2_toldAt_31
          refine ⟨rfl, ?_⟩
          rw [a2 p hp (by omega)]
          rfl
  refine nv_iconst hX (m := 0) (by decide) dX2_toldAt_0 ?_
  refine rv_istore_n hX dX2_toldAt_1 (rv_st_2 rfl) ?_
  exact loop _ 0 (Nat.lt_succ_self _) (Nat.zero_le _) (fun i p hi => absurd hi (Nat.not_lt_zero i))
/-- the tag of a fact -/
def sp_tag (F A : List Nat) (f : Nat) : Option Nat := (sp_ix F f).map (fun k => A.getD k 0)
theorem x_tagOf {G : rv_G} (hG : rv_GK G) {d wd f : Nat} (hd : 3 ≤ d) {rel ta st0 tg ru de fi sk : Nat} {tgd rn dn now : Int32} {Fs A : List Nat} {r : Nat → Nat} {tf : Nat → Int32} {h : rv_H} (hW : rv_rd G h wd (cW rel ta st0 tg tgd ru de rn dn fi sk now)) (hF : xFc (rv_rd G h) st0 Fs r) (hA : rv_rd G h tg (cI 60 tf)) (hAl : A.length = Fs.length) (hAt : ∀ k t, A[k]? = some t → tf k = nI t) (hf : f < 2147483648) : rv_Call G d yX2_tagOf wX2_tagOf [.ref wd, .int (nI f)] h (xN (fun u h' => h' = h ∧ u = some (.int (rv_oi (sp_tag Fs A f))))) := by
  refine rv_start hG (by decide +kernel) (L := [some (.ref wd), some (.int (nI f)), none]) rfl (Nat.le_of_ble_eq_true rfl) (fun X hX1 hX hE => ?_)
  subst hX1
  obtain ⟨an, ar, nf, rf, f1, f2, f3, ⟨fs1, fs2, fs3⟩, f4⟩ := id hF
  cases hx : sp_ix Fs f with
  | none =>
    refine rv_aload_n hX dX2_tagOf_0 rfl ?_
    refine rv_getfR hX gX2_26_X2 hW rfl dX2_tagOf_1 ?_
    refine rv_iload_n hX dX2_tagOf_4 rfl ?_
    refine rv_invVR hX iX2_159 mdX3_indexOf f1 ⟨TX3, 3, rv_c2⟩ (x_indexOf hG (d := d - 1) (by omega) hF hf) (by omega) rfl rfl (Nat.le_of_ble_eq_true rfl) dX2_tagOf_5 (fun v h' hq => ?_) (fun E h' hq => by first | exact hq.elim | cases hq.2 | cases hq.1)
    obtain ⟨rfl, hq⟩ := hq
    cases hq
    rw [hx, show rv_oi none = -1 from rfl]
    refine rv_istore_n hX dX2_tagOf_8 (rv_st_2 rfl) ?_
    refine rv_iload_n hX dX2_tagOf_9 rfl ?_
    refine rv_iconst hX (v := -1) dX2_tagOf_10 (by decide) ?_
    refine rv_icmp_ne hX 18 dX2_tagOf_11 (by decide) (fun q => absurd rfl q) (fun c_11 => ?_)
    refine rv_iconst hX (v := -1) dX2_tagOf_14 (by decide) ?_
    refine rv_goto hX 24 dX2_tagOf_15 (by decide) ?_
    refine rv_ireturn hX hE rfl ?_ dX2_tagOf_24
    exact ⟨rfl, by unfold sp_tag; rw [hx]; rfl⟩
  | some k =>
    have hk := sp_ix_get hx
    have hkl := (List.getElem?_eq_some_iff.mp hk).1
    obtain ⟨t, ht⟩ : ∃ t, A[k]? = some t := ⟨A[k], List.getElem?_eq_getElem (by omega)⟩
    refine rv_aload_n hX dX2_tagOf_0 rfl ?_
    refine rv_getfR hX gX2_26_X2 hW rfl dX2_tagOf_1 ?_
    refine rv_iload_n hX dX2_tagOf_4 rfl ?_
    refine rv_invVR hX iX2_159 mdX3_indexOf f1 ⟨TX3, 3, rv_c2⟩ (x_indexOf hG (d := d - 1) (by omega) hF hf) (by omega) rfl rfl (Nat.le_of_ble_eq_true rfl) dX2_tagOf_5 (fun v h' hq => ?_) (fun E h' hq => by first | exact hq.elim | cases hq.2 | cases hq.1)
    obtain ⟨rfl, hq⟩ := hq
    cases hq
    rw [hx, rv_oi_some]
    refine rv_istore_n hX dX2_tagOf_8 (rv_st_2 rfl) ?_
    refine rv_iload_n hX dX2_tagOf_9 rfl ?_
    refine rv_iconst hX (v := -1) dX2_tagOf_10 (by decide) ?_
    refine rv_icmp_ne hX 18 dX2_tagOf_11 (by decide) (fun c_11 => ?_) (fun q => absurd ((rv_oi_m1 (x := some k) (fun x e => by cases e; omega)).mp q) (fun e => by cases e))
    refine rv_aload_n hX dX2_tagOf_18 rfl ?_
    refine rv_getfR hX gX2_30_X2 hW rfl dX2_tagOf_19 ?_
    refine rv_iload_n hX dX2_tagOf_22 rfl ?_
    refine xv_iald hX hA (by omega) (by omega) dX2_tagOf_23 ?_
    refine rv_ireturn hX hE rfl ?_ dX2_tagOf_24
    refine ⟨rfl, ?_⟩
    unfold sp_tag
    rw [hx, hAt k t ht]
    show some (Value.int (nI t)) = some (Value.int (nI (A.getD k 0)))
    rw [sp_getD ht]
/-- whether tags are all those of facts that stand, or none -/
def sp_alive (A : List Nat) (z : Nat) (ts : Nat → Nat) : Bool := (List.range z).all (fun k => decide (ts k = 0 ∨ ts k ∈ A))
theorem x_areTags {G : rv_G} (hG : rv_GK G) {d wd en : Nat} {rel ta st0 tg ru de fi sk : Nat} {tgd rn dn now : Int32} {A : List Nat} {nsa nsr : Nat} {z : Nat} {ts : Nat → Nat} {tf ef : Nat → Int32} {h : rv_H} (hW : rv_rd G h wd (cW rel ta st0 tg tgd ru de rn dn fi sk now)) (hF : rv_rd G h st0 (cO 2 [.ref nsa, .ref nsr, .int (nI A.length)])) (hA : rv_rd G h tg (cI 60 tf)) (hA60 : A.length ≤ 60) (hAt : ∀ k t, A[k]? = some t → tf k = nI t ∧ t < 2147483648) (hEn : rv_rd G h en (cI (1 + z) ef)) (hz : z ≤ 3) (hts : ∀ k, k < z → ef (1 + k) = nI (ts k) ∧ ts k < 2147483648) : rv_Call G d yX2_areTags wX2_areTags [.ref wd, .ref en] h (xN (fun u h' => h' = h ∧ u = some (.int (rv_z (sp_alive A z ts))))) := by
  refine rv_start hG (by decide +kernel) (L := [some (.ref wd), some (.ref en), none, none, none, none]) rfl (Nat.le_of_ble_eq_true rfl) (fun X hX1 hX hE => ?_)
  subst hX1
  have inner : ∀ (k : Nat) (a : Bool) (v i : Nat) (b : Bool), k < z → A.length - i < v → i ≤ A.length → (b = true ↔ ts k = 0 ∨ ts k ∈ A.take i) → (∀ (b : Bool) (x : Option Value), (b = true ↔ ts k = 0 ∨ ts k ∈ A) → rv_V X h 67 [some (.ref wd), some (.ref en), some (.int (rv_z a)), some (.int (nI (k + 1))), some (.int (rv_z b)), x] []) → rv_V X h 26 [some (.ref wd), some (.ref en), some (.int (rv_z a)), some (.int (nI (k + 1))), some (.int (rv_z b)), some (.int (nI i))] [] := by
    intro k a v
    induction v with
    | zero => intro i b hk g1; omega
    | succ v ih =>
      intro i b hk g1 g2 hb kk
      by_cases hi : i = A.length
      · skip
        refine rv_iload hX dX2_areTags_26 rfl ?_
        refine rv_aload_n hX dX2_areTags_28 rfl ?_
        refine rv_getfR hX gX2_26_X2 hW rfl dX2_areTags_29 ?_
        refine rv_getfR hX gX2_135_X3 hF rfl dX2_areTags_32 ?_
        refine nv_icmp_ge hX 67 (by omega) (by omega) dX2_areTags_35 (by decide) (fun c_35 => ?_) (fun q => absurd q (by omega))
        refine kk b _ ?_
        rw [hi, List.take_length] at hb
        exact hb
      · obtain ⟨t, ht⟩ : ∃ t, A[i]? = some t := ⟨A[i], List.getElem?_eq_getElem (by omega)⟩
        obtain ⟨t1, t2⟩ := hAt i t ht
        obtain ⟨s1, s2⟩ := hts k hk
        have hek : ef (k + 1) = nI (ts k) := by rw [Nat.add_comm]; exact s1
        refine rv_iload hX dX2_areTags_26 rfl ?_
        refine rv_aload_n hX dX2_areTags_28 rfl ?_
        refine rv_getfR hX gX2_26_X2 hW rfl dX2_areTags_29 ?_
        refine rv_getfR hX gX2_135_X3 hF rfl dX2_areTags_32 ?_
        refine nv_icmp_ge hX 67 (by omega) (by omega) dX2_areTags_35 (by decide) (fun q => absurd q (by omega)) (fun c_35 => ?_)
        refine rv_iload hX dX2_areTags_38 rfl ?_
        refine rv_aload_n hX dX2_areTags_40 rfl ?_
        refine rv_getfR hX gX2_30_X2 hW rfl dX2_areTags_41 ?_
        refine rv_iload hX dX2_areTags_44 rfl ?_
        refine xv_iald hX hA (by omega) (by omega) dX2_areTags_46 ?_
        rw [t1]
        refine rv_aload_n hX dX2_areTags_47 rfl ?_
        refine rv_iload_n hX dX2_areTags_48 rfl ?_
        refine xv_iald hX hEn (by omega) (by omega) dX2_areTags_49 ?_
        rw [hek]
        first | refine nv_icmp_ne hX 57 (by omega) (by omega) dX2_areTags_50 (by decide) (fun c_50 => ?_) (fun c_50 => ?_) | refine rv_icmp_ne hX 57 dX2_areTags_50 (by decide) (fun c_50 => ?_) (fun c_50 => ?_)
        · skip
          refine nv_iconst hX (m := 0) (by decide) dX2_areTags_57 ?_
          refine rv_ior hX dX2_areTags_58 ?_
          first
            | rw [rv_z_or1]
            | rw [rv_z_or0]
          refine rv_istore hX dX2_areTags_59 (rv_st_4 rfl) ?_
          first | refine nv_iinc hX (m := 1) dX2_areTags_61 rfl (by decide) (rv_st_5 rfl) ?_ | refine rv_iinc hX dX2_areTags_61 rfl rfl (rv_st_5 rfl) ?_
          refine rv_goto hX 26 dX2_areTags_64 (by decide) ?_
          refine ih (i + 1) _ hk (by omega) (by omega) ?_ kk
          rw [sp_take_get ht, List.mem_append, List.mem_singleton]
          first
            | exact ⟨fun _ => Or.inr (Or.inr (by omega)), fun _ => rfl⟩
            | exact ⟨fun q => (hb.mp q).elim Or.inl (fun q => Or.inr (Or.inl q)), fun q => q.elim (fun q => hb.mpr (Or.inl q)) (fun q => q.elim (fun q => hb.mpr (Or.inr q)) (fun e => absurd e (by omega)))⟩
        · skip
          refine nv_iconst hX (m := 1) (by decide) dX2_areTags_53 ?_
          refine rv_goto hX 58 dX2_areTags_54 (by decide) ?_
          refine rv_ior hX dX2_areTags_58 ?_
          first
            | rw [rv_z_or1]
            | rw [rv_z_or0]
          refine rv_istore hX dX2_areTags_59 (rv_st_4 rfl) ?_
          first | refine nv_iinc hX (m := 1) dX2_areTags_61 rfl (by decide) (rv_st_5 rfl) ?_ | refine rv_iinc hX dX2_areTags_61 rfl rfl (rv_st_5 rfl) ?_
          refine rv_goto hX 26 dX2_areTags_64 (by decide) ?_
          refine ih (i + 1) _ hk (by omega) (by omega) ?_ kk
          rw [sp_take_get ht, List.mem_append, List.mem_singleton]
          first
            | exact ⟨fun _ => Or.inr (Or.inr (by omega)), fun _ => rfl⟩
            | exact ⟨fun q => (hb.mp q).elim Or.inl (fun q => Or.inr (Or.inl q)), fun q => q.elim (fun q => hb.mpr (Or.inl q)) (fun q => q.elim (fun q => hb.mpr (Or.inr q)) (fun e => absurd e (by omega)))⟩
  have loop : ∀ (v k : Nat) (x4 x5 : Option Value), z - k < v → k ≤ z → rv_V X h 4 [some (.ref wd), some (.ref en), some (.int (rv_z (sp_alive A k ts))), some (.int (nI (k + 1))), x4, x5] [] := by
    intro v
    induction v with
    | zero => intro k x4 x5 g1; omega
    | succ v ih =>
      intro k x4 x5 g1 g2
      by_cases hk : k = z
      · subst hk
        refine rv_iload_n hX dX2_areTags_4 rfl ?_
        refine rv_aload_n hX dX2_areTags_5 rfl ?_
        refine xv_alen hX hEn dX2_areTags_6 ?_
        refine nv_icmp_ge hX 78 (by omega) (by omega) dX2_areTags_7 (by decide) (fun c_7 => ?_) (fun q => absurd q (by omega))
        refine rv_iload_n hX dX2_areTags_78 rfl ?_
        refine rv_ireturn hX hE (rv_zn _) ?_ dX2_areTags_79
        exact ⟨rfl, rfl⟩
      · obtain ⟨s1, s2⟩ := hts k (by omega)
        have hek : ef (k + 1) = nI (ts k) := by rw [Nat.add_comm]; exact s1
        have hal : sp_alive A (k + 1) ts = (sp_alive A k ts && decide (ts k = 0 ∨ ts k ∈ A)) := by
          unfold sp_alive
          rw [List.range_succ, List.all_append]
          simp
        refine rv_iload_n hX dX2_areTags_4 rfl ?_
        refine rv_aload_n hX dX2_areTags_5 rfl ?_
        refine xv_alen hX hEn dX2_areTags_6 ?_
        refine nv_icmp_ge hX 78 (by omega) (by omega) dX2_areTags_7 (by decide) (fun q => absurd q (by omega)) (fun c_7 => ?_)
        refine rv_aload_n hX dX2_areTags_10 rfl ?_
        refine rv_iload_n hX dX2_areTags_11 rfl ?_
        refine xv_iald hX hEn (by omega) (by omega) dX2_areTags_12 ?_
        rw [hek]
        first | refine zv_if_ne hX 20 dX2_areTags_13 (by decide) (fun c_13 => ?_) (fun c_13 => ?_) | refine nv_if_ne hX 20 (by omega) dX2_areTags_13 (by decide) (fun c_13 => ?_) (fun c_13 => ?_) | refine rv_if_ne hX 20 dX2_areTags_13 (by decide) (fun c_13 => ?_) (fun c_13 => ?_)
        · skip
          have hb0 : ((false : Bool) = true ↔ ts k = 0 ∨ ts k ∈ A.take 0) := ⟨fun q => (by cases q), fun q => q.elim (fun q => absurd q (by omega)) (fun q => by simp at q)⟩
          refine nv_iconst hX (m := 0) (by decide) dX2_areTags_20 ?_
          refine rv_istore hX dX2_areTags_21 (rv_st_4 rfl) ?_
          refine nv_iconst hX (m := 0) (by decide) dX2_areTags_23 ?_
          refine rv_istore hX dX2_areTags_24 (rv_st_5 rfl) ?_
          refine inner k _ _ 0 _ (by omega) (Nat.lt_succ_self _) (Nat.zero_le _) hb0 (fun b x hb => ?_)
          refine rv_iload_n hX dX2_areTags_67 rfl ?_
          refine rv_iload hX dX2_areTags_68 rfl ?_
          refine rv_iand hX dX2_areTags_70 ?_
          rw [rv_z_and]
          refine rv_istore_n hX dX2_areTags_71 (rv_st_2 rfl) ?_
          first | refine nv_iinc hX (m := 1) dX2_areTags_72 rfl (by decide) (rv_st_3 rfl) ?_ | refine rv_iinc hX dX2_areTags_72 rfl rfl (rv_st_3 rfl) ?_
          refine rv_goto hX 4 dX2_areTags_75 (by decide) ?_
          have e : (sp_alive A k ts && b) = sp_alive A (k + 1) ts := by
            rw [hal]
            congr 1
            rw [Bool.eq_iff_iff, decide_eq_true_iff]
            exact hb
          rw [e]
          exact ih (k + 1) _ _ (by omega) (by omega)
        · skip
          have hb0 : ((true : Bool) = true ↔ ts k = 0 ∨ ts k ∈ A.take 0) := ⟨fun _ => Or.inl (by omega), fun _ => rfl⟩
          refine nv_iconst hX (m := 1) (by decide) dX2_areTags_16 ?_
          refine rv_goto hX 21 dX2_areTags_17 (by decide) ?_
          refine rv_istore hX dX2_areTags_21 (rv_st_4 rfl) ?_
          refine nv_iconst hX (m := 0) (by decide) dX2_areTags_23 ?_
          refine rv_istore hX dX2_areTags_24 (rv_st_5 rfl) ?_
          refine inner k _ _ 0 _ (by omega) (Nat.lt_succ_self _) (Nat.zero_le _) hb0 (fun b x hb => ?_)
          refine rv_iload_n hX dX2_areTags_67 rfl ?_
          refine rv_iload hX dX2_areTags_68 rfl ?_
          refine rv_iand hX dX2_areTags_70 ?_
          rw [rv_z_and]
          refine rv_istore_n hX dX2_areTags_71 (rv_st_2 rfl) ?_
          first | refine nv_iinc hX (m := 1) dX2_areTags_72 rfl (by decide) (rv_st_3 rfl) ?_ | refine rv_iinc hX dX2_areTags_72 rfl rfl (rv_st_3 rfl) ?_
          refine rv_goto hX 4 dX2_areTags_75 (by decide) ?_
          have e : (sp_alive A k ts && b) = sp_alive A (k + 1) ts := by
            rw [hal]
            congr 1
            rw [Bool.eq_iff_iff, decide_eq_true_iff]
            exact hb
          rw [e]
          exact ih (k + 1) _ _ (by omega) (by omega)
  refine nv_iconst hX (m := 1) (by decide) dX2_areTags_0 ?_
  refine rv_istore_n hX dX2_areTags_1 (rv_st_2 rfl) ?_
  refine nv_iconst hX (m := 1) (by decide) dX2_areTags_2 ?_
  refine rv_istore_n hX dX2_areTags_3 (rv_st_3 rfl) ?_
  exact loop _ 0 _ _ (Nat.lt_succ_self _) (Nat.zero_le _)
