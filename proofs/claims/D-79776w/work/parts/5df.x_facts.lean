/-! THE SYSTEM: facts that stand -/
set_option maxRecDepth 100000
/-- how many facts are smaller -/
def sf_pl (F : List Nat) (f : Nat) : Nat := F.countP (fun x => decide (x < f))
theorem sf_pl_uniq {F : List Nat} {f p : Nat} (hp : p ≤ F.length) (h1 : ∀ k x, k < p → F[k]? = some x → x < f) (h2 : ∀ k x, p ≤ k → F[k]? = some x → f ≤ x) : p = sf_pl F f := by
  have e : F = F.take p ++ F.drop p := (List.take_append_drop p F).symm
  unfold sf_pl
  rw [e, List.countP_append]
  have e1 : (F.take p).countP (fun x => decide (x < f)) = p := by
    rw [List.countP_eq_length.mpr]
    · rw [List.length_take]; omega
    · intro x hx
      obtain ⟨k, hk⟩ := List.mem_iff_getElem?.mp hx
      rw [List.getElem?_take] at hk
      split at hk
      · rename_i hkp
        exact decide_eq_true (h1 k x hkp hk)
      · cases hk
  have e2 : (F.drop p).countP (fun x => decide (x < f)) = 0 := by
    rw [List.countP_eq_zero]
    intro x hx
    obtain ⟨k, hk⟩ := List.mem_iff_getElem?.mp hx
    rw [List.getElem?_drop] at hk
    rw [decide_eq_true_iff]
    have := h2 (p + k) x (by omega) hk
    omega
  rw [e1, e2]
  omega
theorem sf_pl_le (F : List Nat) (f : Nat) : sf_pl F f ≤ F.length := List.countP_le_length
theorem sf_pl_spec {F : List Nat} (h : sp_srt F) (f : Nat) : (∀ k x, k < sf_pl F f → F[k]? = some x → x < f) ∧ ∀ k x, sf_pl F f ≤ k → F[k]? = some x → f ≤ x := by
  have key : ∀ n, n ≤ F.length → ∃ p, p ≤ n ∧ (∀ k x, k < p → F[k]? = some x → x < f) ∧ ∀ k x, p ≤ k → k < n → F[k]? = some x → f ≤ x := by
    intro n
    induction n with
    | zero => intro _; exact ⟨0, Nat.le_refl _, fun k x hk => absurd hk (Nat.not_lt_zero _), fun k x _ hk => absurd hk (Nat.not_lt_zero _)⟩
    | succ n ih =>
      intro hn
      obtain ⟨p, h1, h2, h3⟩ := ih (by omega)
      have hx := List.getElem?_eq_getElem (l := F) (show n < F.length by omega)
      by_cases e : F[n] < f
      · refine ⟨n + 1, Nat.le_refl _, fun k x hk hkx => ?_, fun k x h4 h5 => by omega⟩
        by_cases e2 : k = n
        · subst e2
          rw [hx] at hkx
          cases hkx
          exact e
        · have := sp_srt_get h hkx hx (by omega)
          omega
      · refine ⟨p, by omega, h2, fun k x h4 h5 hkx => ?_⟩
        by_cases e2 : k = n
        · subst e2
          rw [hx] at hkx
          cases hkx
          omega
        · exact h3 k x h4 (by omega) hkx
  obtain ⟨p, h1, h2, h3⟩ := key F.length (Nat.le_refl _)
  have h4 : ∀ k x, p ≤ k → F[k]? = some x → f ≤ x := fun k x hk hx => h3 k x hk (List.getElem?_eq_some_iff.mp hx).1 hx
  rw [← sf_pl_uniq h1 h2 h4]
  exact ⟨h2, h4⟩
theorem sf_pl_mem {F : List Nat} (h : sp_srt F) {f : Nat} : f ∈ F ↔ F[sf_pl F f]? = some f := by
  constructor
  · intro hf
    obtain ⟨k, hk⟩ := List.mem_iff_getElem?.mp hf
    have hs := sf_pl_spec h f
    have h1 : ¬ k < sf_pl F f := fun e => Nat.lt_irrefl _ (hs.1 k f e hk)
    have h2 : ¬ sf_pl F f < k := fun e => by
      have hx := List.getElem?_eq_getElem (l := F) (show sf_pl F f < F.length by have := (List.getElem?_eq_some_iff.mp hk).1; omega)
      have := hs.2 _ _ (Nat.le_refl _) hx
      have := sp_srt_get h hx hk e
      omega
    rw [show sf_pl F f = k by omega]
    exact hk
  · exact fun e => List.mem_of_getElem? e
theorem sf_ix_pl {F : List Nat} (h : sp_srt F) {f : Nat} : sp_ix F f = if f ∈ F then some (sf_pl F f) else none := by
  by_cases e : f ∈ F
  · rw [if_pos e, sp_ix_some h ((sf_pl_mem h).mp e)]
  · rw [if_neg e, sp_ix_none e]
/-- facts with the rounds in which they came, in two arrays -/
def fcp (F : List Nat) (r : Nat → Nat) (nf rf : Nat → Int32) : Prop := (sp_srt F ∧ F.length ≤ 60 ∧ ∀ x, x ∈ F → x < 8000000) ∧ ∀ k x, F[k]? = some x → nf k = nI x ∧ rf k = nI (r x)
/-- .. that are read -/
def xFc (rd : Nat → rv_C → Prop) (a : Nat) (F : List Nat) (r : Nat → Nat) : Prop := ∃ an ar nf rf, rd a (cO 2 [.ref an, .ref ar, .int (nI F.length)]) ∧ rd an (cI 60 nf) ∧ rd ar (cI 60 rf) ∧ fcp F r nf rf
theorem xFc.mono {rd rd2 : Nat → rv_C → Prop} {a : Nat} {F : List Nat} {r : Nat → Nat} (h : xFc rd a F r) (hm : ∀ a c, rd a c → rd2 a c) : xFc rd2 a F r := by
  obtain ⟨an, ar, nf, rf, h1, h2, h3, h4⟩ := h
  exact ⟨an, ar, nf, rf, hm _ _ h1, hm _ _ h2, hm _ _ h3, h4⟩
theorem x_placeOf {G : rv_G} (hG : rv_GK G) {d a f : Nat} {F : List Nat} {r : Nat → Nat} {h : rv_H} (ha : xFc (rv_rd G h) a F r) (hf : f < 2147483648) : rv_Call G d yX3_placeOf wX3_placeOf [.ref a, .int (nI f)] h (xN (fun u h' => h' = h ∧ u = some (.int (nI (sf_pl F f))))) := by
  refine rv_start hG (by decide +kernel) (L := [some (.ref a), some (.int (nI f)), none, none, none]) rfl (Nat.le_of_ble_eq_true rfl) (fun X hX1 hX hE => ?_)
  subst hX1
  obtain ⟨an, ar, nf, rf, h1, h2, h3, ⟨⟨hs, h60, hb⟩, h4⟩⟩ := ha
  have loop : ∀ (z lo hi : Nat) (L4 : Option Value), hi - lo < z → lo ≤ hi → hi ≤ F.length → (∀ k x, k < lo → F[k]? = some x → x < f) → (∀ k x, hi ≤ k → F[k]? = some x → f ≤ x) → rv_V X h 7 [some (.ref a), some (.int (nI f)), some (.int (nI lo)), some (.int (nI hi)), L4] [] := by
    intro z
    induction z with
    | zero => intro lo hi L4 h2; omega
    | succ z ih =>
      intro lo hi L4 g1 g2 g3 g4 g5
      refine rv_iload_n hX dX3_placeOf_7 rfl ?_
      refine rv_iload_n hX dX3_placeOf_8 rfl ?_
      first | refine nv_icmp_ge hX 44 (by omega) (by omega) dX3_placeOf_9 (by decide) (fun c_9 => ?_) (fun c_9 => ?_) | refine rv_icmp_ge hX 44 dX3_placeOf_9 (by decide) (fun c_9 => ?_) (fun c_9 => ?_)
      · skip
        have e : lo = hi := by omega
        refine rv_iload_n hX dX3_placeOf_44 rfl ?_
        refine rv_ireturn hX hE rfl ?_ dX3_placeOf_45
        refine ⟨rfl, ?_⟩
        rw [sf_pl_uniq (p := lo) (by omega) g4 (fun k x hk => g5 k x (by omega))]
      · skip
        obtain ⟨x, hx⟩ : ∃ x, F[(lo + hi) / 2]? = some x := ⟨F[(lo + hi) / 2], List.getElem?_eq_getElem (by omega)⟩
        have hxb := hb x (List.mem_of_getElem? hx)
        refine rv_iload_n hX dX3_placeOf_12 rfl ?_
        refine rv_iload_n hX dX3_placeOf_13 rfl ?_
        first | refine nv_iadd hX dX3_placeOf_14 ?_ | refine rv_iadd hX dX3_placeOf_14 ?_
        refine nv_iconst hX (m := 2) (by decide) dX3_placeOf_15 ?_
        first | refine nv_idiv hX (by omega) (by omega) (by omega) dX3_placeOf_16 ?_ | refine rv_idiv hX dX3_placeOf_16 (by decide) ?_
        refine rv_istore hX dX3_placeOf_17 (rv_st_4 rfl) ?_
        refine rv_aload_n hX dX3_placeOf_19 rfl ?_
        refine rv_getfR hX gX3_9_X3 h1 rfl dX3_placeOf_20 ?_
        refine rv_iload hX dX3_placeOf_23 rfl ?_
        refine xv_iald hX h2 (by omega) (by omega) dX3_placeOf_25 ?_
        rw [(h4 _ x hx).1]
        refine rv_iload_n hX dX3_placeOf_26 rfl ?_
        first | refine nv_icmp_ge hX 38 (by omega) (by omega) dX3_placeOf_27 (by decide) (fun c_27 => ?_) (fun c_27 => ?_) | refine rv_icmp_ge hX 38 dX3_placeOf_27 (by decide) (fun c_27 => ?_) (fun c_27 => ?_)
        · skip
          refine rv_iload hX dX3_placeOf_38 rfl ?_
          refine rv_istore_n hX dX3_placeOf_40 (rv_st_3 rfl) ?_
          refine rv_goto hX 7 dX3_placeOf_41 (by decide) ?_
          first
            | refine ih _ _ _ (by omega) (by omega) (by omega) (fun k y hk hy => ?_) g5
              by_cases e : k = (lo + hi) / 2
              · subst e
                rw [hx] at hy
                cases hy
                omega
              · have := sp_srt_get hs hy hx (by omega)
                omega
            | refine ih _ _ _ (by omega) (by omega) (by omega) g4 (fun k y hk hy => ?_)
              by_cases e : k = (lo + hi) / 2
              · subst e
                rw [hx] at hy
                cases hy
                omega
              · have := sp_srt_get hs hx hy (by omega)
                omega
        · skip
          refine rv_iload hX dX3_placeOf_30 rfl ?_
          refine nv_iconst hX (m := 1) (by decide) dX3_placeOf_32 ?_
          first | refine nv_iadd hX dX3_placeOf_33 ?_ | refine rv_iadd hX dX3_placeOf_33 ?_
          refine rv_istore_n hX dX3_placeOf_34 (rv_st_2 rfl) ?_
          refine rv_goto hX 41 dX3_placeOf_35 (by decide) ?_
          refine rv_goto hX 7 dX3_placeOf_41 (by decide) ?_
          first
            | refine ih _ _ _ (by omega) (by omega) (by omega) (fun k y hk hy => ?_) g5
              by_cases e : k = (lo + hi) / 2
              · subst e
                rw [hx] at hy
                cases hy
                omega
              · have := sp_srt_get hs hy hx (by omega)
                omega
            | refine ih _ _ _ (by omega) (by omega) (by omega) g4 (fun k y hk hy => ?_)
              by_cases e : k = (lo + hi) / 2
              · subst e
                rw [hx] at hy
                cases hy
                omega
              · have := sp_srt_get hs hx hy (by omega)
                omega
  refine nv_iconst hX (m := 0) (by decide) dX3_placeOf_0 ?_
  refine rv_istore_n hX dX3_placeOf_1 (rv_st_2 rfl) ?_
  refine rv_aload_n hX dX3_placeOf_2 rfl ?_
  refine rv_getfR hX gX3_18_X3 h1 rfl dX3_placeOf_3 ?_
  refine rv_istore_n hX dX3_placeOf_6 (rv_st_3 rfl) ?_
  exact loop (F.length + 1) 0 F.length _ (by omega) (by omega) (by omega) (fun k x hk => by omega) (fun k x hk hx => by have := (List.getElem?_eq_some_iff.mp hx).1; omega)
theorem x_has {G : rv_G} (hG : rv_GK G) {d a f : Nat} (hd : 1 ≤ d) {F : List Nat} {r : Nat → Nat} {h : rv_H} (ha : xFc (rv_rd G h) a F r) (hf : f < 2147483648) : rv_Call G d yX3_has wX3_has [.ref a, .int (nI f)] h (xN (fun u h' => h' = h ∧ u = some (.int (rv_z (decide (f ∈ F)))))) := by
  refine rv_start hG (by decide +kernel) (L := [some (.ref a), some (.int (nI f)), none]) rfl (Nat.le_of_ble_eq_true rfl) (fun X hX1 hX hE => ?_)
  subst hX1
  have ha' := ha
  obtain ⟨an, ar, nf, rf, h1, h2, h3, ⟨⟨hs, h60, hb⟩, h4⟩⟩ := ha'
  have hpl := sf_pl_le F f
  have hm := sf_pl_mem hs (f := f)
  refine rv_aload_n hX dX3_has_0 rfl ?_
  refine rv_iload_n hX dX3_has_1 rfl ?_
  refine rv_invVR hX iX3_22 mdX3_placeOf h1 ⟨TX3, 3, rv_c2⟩ (x_placeOf hG (d := d - 1) ha hf) (by omega) rfl rfl (Nat.le_of_ble_eq_true rfl) dX3_has_2 (fun v h' hq => ?_) (fun E h' hq => by first | exact hq.elim | cases hq.2 | cases hq.1)
  obtain ⟨rfl, hq⟩ := hq
  cases hq
  refine rv_istore_n hX dX3_has_5 (rv_st_2 rfl) ?_
  refine rv_iload_n hX dX3_has_6 rfl ?_
  refine rv_aload_n hX dX3_has_7 rfl ?_
  refine rv_getfR hX gX3_18_X3 h1 rfl dX3_has_8 ?_
  first | refine nv_icmp_ge hX 28 (by omega) (by omega) dX3_has_11 (by decide) (fun c_11 => ?_) (fun c_11 => ?_) | refine rv_icmp_ge hX 28 dX3_has_11 (by decide) (fun c_11 => ?_) (fun c_11 => ?_)
  · skip
    have hno : f ∉ F := fun q => by have := (List.getElem?_eq_some_iff.mp (hm.mp q)).1; omega
    refine nv_iconst hX (m := 0) (by decide) dX3_has_28 ?_
    refine rv_ireturn hX hE rfl ?_ dX3_has_29
    refine ⟨rfl, ?_⟩
    first
      | (rw [decide_eq_true hno]; rfl)
      | (rw [decide_eq_false hno]; rfl)
  · skip
    obtain ⟨x, hx⟩ : ∃ x, F[sf_pl F f]? = some x := ⟨F[sf_pl F f], List.getElem?_eq_getElem (by omega)⟩
    have hxb := hb x (List.mem_of_getElem? hx)
    refine rv_aload_n hX dX3_has_14 rfl ?_
    refine rv_getfR hX gX3_9_X3 h1 rfl dX3_has_15 ?_
    refine rv_iload_n hX dX3_has_18 rfl ?_
    refine xv_iald hX h2 (by omega) (by omega) dX3_has_19 ?_
    rw [(h4 _ x hx).1]
    refine rv_iload_n hX dX3_has_20 rfl ?_
    first | refine nv_icmp_ne hX 28 (by omega) (by omega) dX3_has_21 (by decide) (fun c_21 => ?_) (fun c_21 => ?_) | refine rv_icmp_ne hX 28 dX3_has_21 (by decide) (fun c_21 => ?_) (fun c_21 => ?_)
    · skip
      have hno : f ∉ F := fun q => by have e := hm.mp q; rw [hx] at e; cases e; omega
      refine nv_iconst hX (m := 0) (by decide) dX3_has_28 ?_
      refine rv_ireturn hX hE rfl ?_ dX3_has_29
      refine ⟨rfl, ?_⟩
      first
        | (rw [decide_eq_true hno]; rfl)
        | (rw [decide_eq_false hno]; rfl)
    · skip
      have hno : f ∈ F := hm.mpr (by rw [hx, show x = f by omega])
      refine nv_iconst hX (m := 1) (by decide) dX3_has_24 ?_
      refine rv_goto hX 29 dX3_has_25 (by decide) ?_
      refine rv_ireturn hX hE rfl ?_ dX3_has_29
      refine ⟨rfl, ?_⟩
      first
        | (rw [decide_eq_true hno]; rfl)
        | (rw [decide_eq_false hno]; rfl)
theorem x_indexOf {G : rv_G} (hG : rv_GK G) {d a f : Nat} (hd : 2 ≤ d) {F : List Nat} {r : Nat → Nat} {h : rv_H} (ha : xFc (rv_rd G h) a F r) (hf : f < 2147483648) : rv_Call G d yX3_indexOf wX3_indexOf [.ref a, .int (nI f)] h (xN (fun u h' => h' = h ∧ u = some (.int (rv_oi (sp_ix F f))))) := by
  refine rv_start hG (by decide +kernel) (L := [some (.ref a), some (.int (nI f))]) rfl (Nat.le_of_ble_eq_true rfl) (fun X hX1 hX hE => ?_)
  subst hX1
  have ha' := ha
  obtain ⟨an, ar, nf, rf, h1, h2, h3, ⟨⟨hs, h60, hb⟩, h4⟩⟩ := ha'
  refine rv_aload_n hX dX3_indexOf_0 rfl ?_
  refine rv_iload_n hX dX3_indexOf_1 rfl ?_
  refine rv_invVR hX iX3_26 mdX3_has h1 ⟨TX3, 3, rv_c2⟩ (x_has hG (d := d - 1) (by omega) ha hf) (by omega) rfl rfl (Nat.le_of_ble_eq_true rfl) dX3_indexOf_2 (fun v h' hq => ?_) (fun E h' hq => by first | exact hq.elim | cases hq.2 | cases hq.1)
  obtain ⟨rfl, hq⟩ := hq
  cases hq
  first | refine zv_if_eq hX 16 dX3_indexOf_5 (by decide) (fun c_5 => ?_) (fun c_5 => ?_) | refine rv_if_eq hX 16 dX3_indexOf_5 (by decide) (fun c_5 => ?_) (fun c_5 => ?_)
  · skip
    refine rv_iconst hX (v := -1) dX3_indexOf_16 (by decide) ?_
    refine rv_ireturn hX hE rfl ?_ dX3_indexOf_17
    refine ⟨rfl, ?_⟩
    first
      | (rw [sp_ix_none (of_decide_eq_false c_5)]; rfl)
      | (rw [sp_ix_some hs ((sf_pl_mem hs).mp (of_decide_eq_true c_5))]; rfl)
  · skip
    refine rv_aload_n hX dX3_indexOf_8 rfl ?_
    refine rv_iload_n hX dX3_indexOf_9 rfl ?_
    refine rv_invVR hX iX3_22 mdX3_placeOf h1 ⟨TX3, 3, rv_c2⟩ (x_placeOf hG (d := d - 1) ha hf) (by omega) rfl rfl (Nat.le_of_ble_eq_true rfl) dX3_indexOf_10 (fun v h' hq => ?_) (fun E h' hq => by first | exact hq.elim | cases hq.2 | cases hq.1)
    obtain ⟨rfl, hq⟩ := hq
    cases hq
    refine rv_goto hX 17 dX3_indexOf_13 (by decide) ?_
    refine rv_ireturn hX hE rfl ?_ dX3_indexOf_17
    refine ⟨rfl, ?_⟩
    first
      | (rw [sp_ix_none (of_decide_eq_false c_5)]; rfl)
      | (rw [sp_ix_some hs ((sf_pl_mem hs).mp (of_decide_eq_true c_5))]; rfl)
theorem x_countOf {G : rv_G} (hG : rv_GK G) {d a q : Nat} (hd : 1 ≤ d) {F : List Nat} {r : Nat → Nat} {h : rv_H} (ha : xFc (rv_rd G h) a F r) (hq : q < 8) : rv_Call G d yX3_countOf wX3_countOf [.ref a, .int (nI q)] h (xN (fun u h' => h' = h ∧ u = some (.int (nI (F.countP (fun x => decide (x / 1000000 = q))))))) := by
  refine rv_start hG (by decide +kernel) (L := [some (.ref a), some (.int (nI q))]) rfl (Nat.le_of_ble_eq_true rfl) (fun X hX1 hX hE => ?_)
  subst hX1
  have ha' := ha
  obtain ⟨an, ar, nf, rf, h1, h2, h3, ⟨⟨hs, h60, hb⟩, h4⟩⟩ := ha'
  have hle : ∀ L : List Nat, L.countP (fun x => decide (x < 1000000 * (q + 1))) = L.countP (fun x => decide (x < 1000000 * q)) + L.countP (fun x => decide (x / 1000000 = q)) := by
    intro L
    induction L with
    | nil => rfl
    | cons y L ih =>
      rw [List.countP_cons, List.countP_cons, List.countP_cons, ih]
      by_cases e1 : y < 1000000 * q
      · rw [decide_eq_true (show y < 1000000 * (q + 1) by omega), decide_eq_true e1, decide_eq_false (show ¬ y / 1000000 = q by omega)]
        simp
        omega
      · by_cases e2 : y < 1000000 * (q + 1)
        · rw [decide_eq_true e2, decide_eq_false e1, decide_eq_true (show y / 1000000 = q by omega)]
          simp
          omega
        · rw [decide_eq_false e2, decide_eq_false e1, decide_eq_false (show ¬ y / 1000000 = q by omega)]
          simp
  have hp : sf_pl F (1000000 * (q + 1)) = sf_pl F (1000000 * q) + F.countP (fun x => decide (x / 1000000 = q)) := hle F
  refine rv_aload_n hX dX3_countOf_0 rfl ?_
  refine rv_ldc hX q2027 dX3_countOf_1 ?_
  rw [show (1000000 : Int32) = nI 1000000 from by decide]
  refine rv_iload_n hX dX3_countOf_3 rfl ?_
  refine nv_iconst hX (m := 1) (by decide) dX3_countOf_4 ?_
  first | refine nv_iadd hX dX3_countOf_5 ?_ | refine rv_iadd hX dX3_countOf_5 ?_
  first | refine nv_imul hX dX3_countOf_6 ?_ | refine rv_imul hX dX3_countOf_6 ?_
  refine rv_invVR hX iX3_22 mdX3_placeOf h1 ⟨TX3, 3, rv_c2⟩ (x_placeOf hG (d := d - 1) ha (by omega)) (by omega) rfl rfl (Nat.le_of_ble_eq_true rfl) dX3_countOf_7 (fun v h' hq => ?_) (fun E h' hq => by first | exact hq.elim | cases hq.2 | cases hq.1)
  obtain ⟨rfl, hq⟩ := hq
  cases hq
  refine rv_aload_n hX dX3_countOf_10 rfl ?_
  refine rv_ldc hX q2027 dX3_countOf_11 ?_
  rw [show (1000000 : Int32) = nI 1000000 from by decide]
  refine rv_iload_n hX dX3_countOf_13 rfl ?_
  first | refine nv_imul hX dX3_countOf_14 ?_ | refine rv_imul hX dX3_countOf_14 ?_
  refine rv_invVR hX iX3_22 mdX3_placeOf h1 ⟨TX3, 3, rv_c2⟩ (x_placeOf hG (d := d - 1) ha (by omega)) (by omega) rfl rfl (Nat.le_of_ble_eq_true rfl) dX3_countOf_15 (fun v h' hq => ?_) (fun E h' hq => by first | exact hq.elim | cases hq.2 | cases hq.1)
  obtain ⟨rfl, hq⟩ := hq
  cases hq
  first | refine nv_isub hX (by omega) dX3_countOf_18 ?_ | refine rv_isub hX dX3_countOf_18 ?_
  refine rv_ireturn hX hE rfl ?_ dX3_countOf_19
  refine ⟨rfl, ?_⟩
  rw [hp, Nat.add_sub_cancel_left]
theorem x_factsNew {G : rv_G} (hG : rv_GK G) {d a : Nat} (hd : 1 ≤ d) {h : rv_H} {F : xF} {n m : Nat} (hn : 2 ≤ n) (hm : 120 ≤ m) (hH : xH G F [(a, cO 2 [.null, .null, .int 0])] n m h) : rv_Call G d yX3_init wX3_init [.ref a] h (xN (fun u h' => ∃ an ar, u = none ∧ xS G F h [a] [(a, cO 2 [.ref an, .ref ar, .int (nI 0)]), (an, cI 60 (fun _ => 0)), (ar, cI 60 (fun _ => 0))] (n - 2) (m - 120) h')) := by
  refine rv_start hG (by decide +kernel) (L := [some (.ref a)]) rfl (Nat.le_of_ble_eq_true rfl) (fun X hX1 hX hE => ?_)
  subst hX1
  have hS := hH.start
  refine rv_aload_n hX dX3_init_0 rfl ?_
  refine rv_objInit hX q527 q171 q172 (by omega) (Nat.le_of_ble_eq_true rfl) dX3_init_1 ?_
  refine rv_aload_n hX dX3_init_4 rfl ?_
  refine nv_bipush hX (m := 60) (by decide) dX3_init_5 ?_
  refine xv_newI hX hS q548 (by omega) (by omega) (by omega) dX3_init_7 (fun a_7 h_7 hS => ?_)
  refine xv_putf hX hS (k := 0) rfl pX3_9_X3 (fun _ => rfl) rfl rfl rfl dX3_init_9 (fun h_9 hS => ?_)
  refine rv_aload_n hX dX3_init_12 rfl ?_
  refine nv_bipush hX (m := 60) (by decide) dX3_init_13 ?_
  refine xv_newI hX hS q548 (by omega) (by omega) (by omega) dX3_init_15 (fun a_15 h_15 hS => ?_)
  refine xv_putf hX hS (k := 0) rfl pX3_15_X3 (fun _ => rfl) rfl rfl rfl dX3_init_17 (fun h_17 hS => ?_)
  refine rv_return hX hE ?_ dX3_init_20
  exact ⟨_, _, rfl, hS.bud (by omega) (by omega)⟩
