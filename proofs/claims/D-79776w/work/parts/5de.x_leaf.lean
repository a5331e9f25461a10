/-! THE SYSTEM: leaves -/
set_option maxRecDepth 100000
/-- a call that may end well or by an exception -/
abbrev xT (Q : Option Value → rv_H → Prop) (T : String → rv_H → Prop) : rv_O → rv_H → Prop := fun o h' => match o with
  | .inl v => Q v h'
  | .inr E => T E h'
/-- a call that ends well -/
abbrev xN (Q : Option Value → rv_H → Prop) : rv_O → rv_H → Prop := xT Q (fun _ _ => False)
theorem rv_zfit (b : Bool) : fits .boolean (.int (rv_z b)) = true := by cases b <;> rfl
theorem rv_znar (b : Bool) : vp_nar .boolean (rv_z b) = rv_z b := by cases b <;> rfl
/-- values of variables in an array of 8 -/
def xva (v : sp_V) (f : Nat → Int32) : Prop := (∀ k, k < 8 → f k = rv_oi (v k)) ∧ sp_bd v
theorem xva.up {v : sp_V} {f : Nat → Int32} (h : xva v f) {x a : Nat} (ha : a < 100) : xva (sp_up v x a) (va_up f x (nI a)) := by
  refine ⟨fun k hk => ?_, fun k b e => ?_⟩
  · unfold va_up sp_up
    by_cases e : k = x
    · rw [if_pos e, if_pos e]
      rfl
    · rw [if_neg e, if_neg e]
      exact h.1 k hk
  · unfold sp_up at e
    split at e
    · cases e
      exact ha
    · exact h.2 k b e
theorem x_relationOf {G : rv_G} (hG : rv_GK G) {d f : Nat} (hf : f < 2147483648) {h : rv_H} : rv_Call G d yX1_relationOf wX1_relationOf [.int (nI f)] h (xN (fun v h' => h' = h ∧ v = some (.int (nI (f / 1000000))))) := by
  refine rv_start hG (by decide +kernel) (L := [some (.int (nI f))]) rfl (Nat.le_of_ble_eq_true rfl) (fun X hX1 hX hE => ?_)
  subst hX1
  refine rv_iload_n hX dX1_relationOf_0 rfl ?_
  refine rv_ldc hX q1182 dX1_relationOf_1 ?_
  rw [show (1000000 : Int32) = nI 1000000 from by decide]
  first | refine nv_idiv hX (by omega) (by omega) (by omega) dX1_relationOf_3 ?_ | refine rv_idiv hX dX1_relationOf_3 (by decide) ?_
  refine rv_ireturn hX hE rfl ?_ dX1_relationOf_4
  exact ⟨rfl, rfl⟩
theorem x_slotOf {G : rv_G} (hG : rv_GK G) {d f s : Nat} (hf : f < 2147483648) (hs : s < 3) {h : rv_H} : rv_Call G d yX1_slotOf wX1_slotOf [.int (nI f), .int (nI s)] h (xN (fun v h' => h' = h ∧ v = some (.int (nI (sp_slot f s))))) := by
  refine rv_start hG (by decide +kernel) (L := [some (.int (nI f)), some (.int (nI s))]) rfl (Nat.le_of_ble_eq_true rfl) (fun X hX1 hX hE => ?_)
  subst hX1
  have e1 : s ≠ 0 → s = 1 → sp_slot f s = f / 100 % 100 := fun a b => by unfold sp_slot; rw [if_neg a, if_pos b]
  have e0 : s = 0 → sp_slot f s = f / 10000 % 100 := fun a => by unfold sp_slot; rw [if_pos a]
  have e2 : s ≠ 0 → s ≠ 1 → sp_slot f s = f / 1 % 100 := fun a b => by unfold sp_slot; rw [if_neg a, if_neg b, Nat.div_one]
  refine rv_iload_n hX dX1_slotOf_0 rfl ?_
  refine rv_iload_n hX dX1_slotOf_1 rfl ?_
  first | refine zv_if_ne hX 11 dX1_slotOf_2 (by decide) (fun c_2 => ?_) (fun c_2 => ?_) | refine nv_if_ne hX 11 (by omega) dX1_slotOf_2 (by decide) (fun c_2 => ?_) (fun c_2 => ?_) | refine rv_if_ne hX 11 dX1_slotOf_2 (by decide) (fun c_2 => ?_) (fun c_2 => ?_)
  · skip
    refine rv_iload_n hX dX1_slotOf_11 rfl ?_
    refine nv_iconst hX (m := 1) (by decide) dX1_slotOf_12 ?_
    first | refine nv_icmp_ne hX 21 (by omega) (by omega) dX1_slotOf_13 (by decide) (fun c_13 => ?_) (fun c_13 => ?_) | refine rv_icmp_ne hX 21 dX1_slotOf_13 (by decide) (fun c_13 => ?_) (fun c_13 => ?_)
    · skip
      refine nv_iconst hX (m := 1) (by decide) dX1_slotOf_21 ?_
      first | refine nv_idiv hX (by omega) (by omega) (by omega) dX1_slotOf_22 ?_ | refine rv_idiv hX dX1_slotOf_22 (by decide) ?_
      refine nv_bipush hX (m := 100) (by decide) dX1_slotOf_23 ?_
      first | refine nv_irem hX (by omega) (by omega) (by omega) dX1_slotOf_25 ?_ | refine rv_irem hX dX1_slotOf_25 (by decide) ?_
      refine rv_ireturn hX hE rfl ?_ dX1_slotOf_26
      refine ⟨rfl, ?_⟩
      first
        | rw [e0 (by omega)]
        | rw [e1 (by omega) (by omega)]
        | rw [e2 (by omega) (by omega)]
    · skip
      refine nv_bipush hX (m := 100) (by decide) dX1_slotOf_16 ?_
      refine rv_goto hX 22 dX1_slotOf_18 (by decide) ?_
      first | refine nv_idiv hX (by omega) (by omega) (by omega) dX1_slotOf_22 ?_ | refine rv_idiv hX dX1_slotOf_22 (by decide) ?_
      refine nv_bipush hX (m := 100) (by decide) dX1_slotOf_23 ?_
      first | refine nv_irem hX (by omega) (by omega) (by omega) dX1_slotOf_25 ?_ | refine rv_irem hX dX1_slotOf_25 (by decide) ?_
      refine rv_ireturn hX hE rfl ?_ dX1_slotOf_26
      refine ⟨rfl, ?_⟩
      first
        | rw [e0 (by omega)]
        | rw [e1 (by omega) (by omega)]
        | rw [e2 (by omega) (by omega)]
  · skip
    refine nv_sipush hX (m := 10000) (by decide) dX1_slotOf_5 ?_
    refine rv_goto hX 22 dX1_slotOf_8 (by decide) ?_
    first | refine nv_idiv hX (by omega) (by omega) (by omega) dX1_slotOf_22 ?_ | refine rv_idiv hX dX1_slotOf_22 (by decide) ?_
    refine nv_bipush hX (m := 100) (by decide) dX1_slotOf_23 ?_
    first | refine nv_irem hX (by omega) (by omega) (by omega) dX1_slotOf_25 ?_ | refine rv_irem hX dX1_slotOf_25 (by decide) ?_
    refine rv_ireturn hX hE rfl ?_ dX1_slotOf_26
    refine ⟨rfl, ?_⟩
    first
      | rw [e0 (by omega)]
      | rw [e1 (by omega) (by omega)]
      | rw [e2 (by omega) (by omega)]
theorem x_valueOf {G : rv_G} (hG : rv_GK G) {d t a : Nat} {v : sp_V} {f : Nat → Int32} (ht : t < 108) {h : rv_H} (ha : rv_rd G h a (cI 8 f)) (hv : xva v f) : rv_Call G d yX1_valueOf wX1_valueOf [.int (nI t), .ref a] h (xN (fun u h' => h' = h ∧ u = some (.int (rv_oi (sp_val v t))))) := by
  refine rv_start hG (by decide +kernel) (L := [some (.int (nI t)), some (.ref a)]) rfl (Nat.le_of_ble_eq_true rfl) (fun X hX1 hX hE => ?_)
  subst hX1
  refine rv_iload_n hX dX1_valueOf_0 rfl ?_
  refine nv_bipush hX (m := 100) (by decide) dX1_valueOf_1 ?_
  first | refine nv_icmp_ge hX 10 (by omega) (by omega) dX1_valueOf_3 (by decide) (fun c_3 => ?_) (fun c_3 => ?_) | refine rv_icmp_ge hX 10 dX1_valueOf_3 (by decide) (fun c_3 => ?_) (fun c_3 => ?_)
  · skip
    refine rv_aload_n hX dX1_valueOf_10 rfl ?_
    refine rv_iload_n hX dX1_valueOf_11 rfl ?_
    refine nv_bipush hX (m := 100) (by decide) dX1_valueOf_12 ?_
    first | refine nv_isub hX (by omega) dX1_valueOf_14 ?_ | refine rv_isub hX dX1_valueOf_14 ?_
    refine xv_iald hX ha (by omega) (by omega) dX1_valueOf_15 ?_
    try rw [hv.1 _ (by omega)]
    refine rv_ireturn hX hE rfl ?_ dX1_valueOf_16
    unfold sp_val
    first
      | exact ⟨rfl, by rw [if_pos (by omega)]; rfl⟩
      | exact ⟨rfl, by rw [if_neg (by omega)]⟩
  · skip
    refine rv_iload_n hX dX1_valueOf_6 rfl ?_
    refine rv_goto hX 16 dX1_valueOf_7 (by decide) ?_
    try rw [hv.1 _ (by omega)]
    refine rv_ireturn hX hE rfl ?_ dX1_valueOf_16
    unfold sp_val
    first
      | exact ⟨rfl, by rw [if_pos (by omega)]; rfl⟩
      | exact ⟨rfl, by rw [if_neg (by omega)]⟩
theorem sp_val100 {v : sp_V} (hv : sp_bd v) {t b : Nat} (h : sp_val v t = some b) : b < 100 := by
  unfold sp_val at h
  split at h
  · cases h
    omega
  · exact hv _ _ h
theorem x_bind {G : rv_G} (hG : rv_GK G) {d t x a : Nat} (hd : 1 ≤ d) {v : sp_V} {f : Nat → Int32} (ht : t < 108) (hx : x < 100) {h : rv_H} {F : xF} {n m : Nat} (hH : xH G F [(a, cI 8 f)] n m h) (hv : xva v f) : rv_Call G d yX1_bind wX1_bind [.int (nI t), .int (nI x), .ref a] h (xN (fun u h' => ∃ f', u = some (.int (rv_z (sp_bind v t x).isSome)) ∧ xva ((sp_bind v t x).getD v) f' ∧ xS G F h [a] [(a, cI 8 f')] n m h')) := by
  refine rv_start hG (by decide +kernel) (L := [some (.int (nI t)), some (.int (nI x)), some (.ref a), none]) rfl (Nat.le_of_ble_eq_true rfl) (fun X hX1 hX hE => ?_)
  subst hX1
  have hS := hH.start
  cases hb1 : sp_val v t with
  | none =>
    have e3 : sp_bind v t x = some (sp_up v (t - 100) x) := by unfold sp_bind; rw [hb1]
    have ht2 : 100 ≤ t := by
      unfold sp_val at hb1
      split at hb1
      · cases hb1
      · omega
    have hv2 := hv.up (x := t - 100) hx
    refine rv_iload_n hX dX1_bind_0 rfl ?_
    refine rv_aload_n hX dX1_bind_1 rfl ?_
    refine rv_invS hX iX1_4 mdX1_valueOf (x_valueOf hG (d := d - 1) ht (hS.mc (k := 0) rfl) hv) (by omega) rfl rfl (Nat.le_of_ble_eq_true rfl) dX1_bind_2 (fun v h' hq => ?_) (fun E h' hq => by first | exact hq.elim | cases hq.2 | cases hq.1)
    obtain ⟨rfl, hq⟩ := hq
    cases hq
    rw [hb1]
    refine rv_istore_n hX dX1_bind_5 (rv_st_3 rfl) ?_
    refine rv_iload_n hX dX1_bind_6 rfl ?_
    refine rv_iconst hX (v := -1) dX1_bind_7 (by decide) ?_
    refine rv_icmp_ne hX 18 dX1_bind_8 (by decide) (fun q => absurd q (by decide)) (fun _ => ?_)
    refine rv_aload_n hX dX1_bind_11 rfl ?_
    refine rv_iload_n hX dX1_bind_12 rfl ?_
    refine nv_bipush hX (m := 100) (by decide) dX1_bind_13 ?_
    first | refine nv_isub hX (by omega) dX1_bind_15 ?_ | refine rv_isub hX dX1_bind_15 ?_
    refine rv_iload_n hX dX1_bind_16 rfl ?_
    refine xv_iast hX hS (k := 0) rfl (by omega) (by omega) dX1_bind_17 (fun h_17 hS => ?_)
    refine rv_iload_n hX dX1_bind_18 rfl ?_
    refine rv_iconst hX (v := -1) dX1_bind_19 (by decide) ?_
    refine rv_icmp_eq hX 28 dX1_bind_20 (by decide) (fun _ => ?_) (fun q => absurd q (by decide))
    refine nv_iconst hX (m := 1) (by decide) dX1_bind_28 ?_
    refine rv_goto hX 33 dX1_bind_29 (by decide) ?_
    refine rv_ireturn hX hE rfl ?_ dX1_bind_33
    exact ⟨_, by rw [e3]; rfl, by rw [e3]; exact hv2, hS⟩
  | some b =>
    have hb := sp_val100 hv.2 hb1
    have e3 : sp_bind v t x = if b = x then some v else none := by unfold sp_bind; rw [hb1]
    refine rv_iload_n hX dX1_bind_0 rfl ?_
    refine rv_aload_n hX dX1_bind_1 rfl ?_
    refine rv_invS hX iX1_4 mdX1_valueOf (x_valueOf hG (d := d - 1) ht (hS.mc (k := 0) rfl) hv) (by omega) rfl rfl (Nat.le_of_ble_eq_true rfl) dX1_bind_2 (fun v h' hq => ?_) (fun E h' hq => by first | exact hq.elim | cases hq.2 | cases hq.1)
    obtain ⟨rfl, hq⟩ := hq
    cases hq
    rw [hb1, show rv_oi (some b) = nI b from rfl]
    refine rv_istore_n hX dX1_bind_5 (rv_st_3 rfl) ?_
    refine rv_iload_n hX dX1_bind_6 rfl ?_
    refine rv_iconst hX (v := -1) dX1_bind_7 (by decide) ?_
    refine rv_icmp_ne hX 18 dX1_bind_8 (by decide) (fun c_8 => ?_) (fun q => absurd q (nI_m1 (by omega)))
    refine rv_iload_n hX dX1_bind_18 rfl ?_
    refine rv_iconst hX (v := -1) dX1_bind_19 (by decide) ?_
    refine rv_icmp_eq hX 28 dX1_bind_20 (by decide) (fun q => absurd q (nI_m1 (by omega))) (fun c_20 => ?_)
    refine rv_iload_n hX dX1_bind_23 rfl ?_
    refine rv_iload_n hX dX1_bind_24 rfl ?_
    first | refine nv_icmp_ne hX 32 (by omega) (by omega) dX1_bind_25 (by decide) (fun c_25 => ?_) (fun c_25 => ?_) | refine rv_icmp_ne hX 32 dX1_bind_25 (by decide) (fun c_25 => ?_) (fun c_25 => ?_)
    · skip
      rw [if_neg (by omega)] at e3
      refine nv_iconst hX (m := 0) (by decide) dX1_bind_32 ?_
      refine rv_ireturn hX hE rfl ?_ dX1_bind_33
      exact ⟨_, by rw [e3]; rfl, by rw [e3]; exact hv, hS⟩
    · skip
      rw [if_pos (by omega)] at e3
      refine nv_iconst hX (m := 1) (by decide) dX1_bind_28 ?_
      refine rv_goto hX 33 dX1_bind_29 (by decide) ?_
      refine rv_ireturn hX hE rfl ?_ dX1_bind_33
      exact ⟨_, by rw [e3]; rfl, by rw [e3]; exact hv, hS⟩
theorem x_forget {G : rv_G} (hG : rv_GK G) {d a : Nat} {f : Nat → Int32} {h : rv_H} {F : xF} {n m : Nat} (hH : xH G F [(a, cI 8 f)] n m h) : rv_Call G d yX1_forget wX1_forget [.ref a] h (xN (fun u h' => ∃ f', u = none ∧ xva (fun _ => none) f' ∧ xS G F h [a] [(a, cI 8 f')] n m h')) := by
  refine rv_start hG (by decide +kernel) (L := [some (.ref a), none]) rfl (Nat.le_of_ble_eq_true rfl) (fun X hX1 hX hE => ?_)
  subst hX1
  have loop : ∀ (z k : Nat) (f : Nat → Int32) (h1 : rv_H), 8 - k < z → k ≤ 8 → (∀ i, i < k → f i = -1) → xS X.1 F h [a] [(a, cI 8 f)] n m h1 → rv_V X h1 2 [some (.ref a), some (.int (nI k))] [] := by
    intro z
    induction z with
    | zero => intro k f h1 h2; omega
    | succ z ih =>
      intro k f h1 h2 h3 hf hS
      refine rv_iload_n hX dX1_forget_2 rfl ?_
      refine nv_bipush hX (m := 8) (by decide) dX1_forget_3 ?_
      first | refine nv_icmp_ge hX 18 (by omega) (by omega) dX1_forget_5 (by decide) (fun c_5 => ?_) (fun c_5 => ?_) | refine rv_icmp_ge hX 18 dX1_forget_5 (by decide) (fun c_5 => ?_) (fun c_5 => ?_)
      · skip
        refine rv_return hX hE ?_ dX1_forget_18
        exact ⟨_, rfl, ⟨fun k hk => hf k (by omega), sp_none_bd⟩, hS⟩
      · skip
        refine rv_aload_n hX dX1_forget_8 rfl ?_
        refine rv_iload_n hX dX1_forget_9 rfl ?_
        refine rv_iconst hX (v := -1) dX1_forget_10 (by decide) ?_
        refine xv_iast hX hS (k := 0) rfl (by omega) (by omega) dX1_forget_11 (fun h_11 hS => ?_)
        first | refine nv_iinc hX (m := 1) dX1_forget_12 rfl (by decide) (rv_st_1 rfl) ?_ | refine rv_iinc hX dX1_forget_12 rfl rfl (rv_st_1 rfl) ?_
        refine rv_goto hX 2 dX1_forget_15 (by decide) ?_
        refine ih _ _ _ (by omega) (by omega) (fun i hi => ?_) hS
        unfold va_up
        by_cases e : i = k
        · rw [if_pos e]
        · rw [if_neg e]
          exact hf i (by omega)
  refine nv_iconst hX (m := 0) (by decide) dX1_forget_0 ?_
  refine rv_istore_n hX dX1_forget_1 (rv_st_1 rfl) ?_
  exact loop 9 0 f h (by omega) (by omega) (fun i hi => by omega) hH.start
theorem x_unknown {G : rv_G} (hG : rv_GK G) {d : Nat} (hd : 1 ≤ d) {h : rv_H} {F : xF} {n m : Nat} (hn : 1 ≤ n) (hm : 8 ≤ m) (hH : xH G F [] n m h) : rv_Call G d yX1_unknown wX1_unknown [] h (xN (fun u h' => ∃ a f', u = some (.ref a) ∧ xva (fun _ => none) f' ∧ xS G F h [] [(a, cI 8 f')] (n - 1) (m - 8) h')) := by
  refine rv_start hG (by decide +kernel) (L := [none]) rfl (Nat.le_of_ble_eq_true rfl) (fun X hX1 hX hE => ?_)
  subst hX1
  have hS := hH.start
  refine nv_bipush hX (m := 8) (by decide) dX1_unknown_0 ?_
  refine xv_newI hX hS q548 (by omega) (by omega) (by omega) dX1_unknown_2 (fun a_2 h_2 hS => ?_)
  refine rv_astore_n hX dX1_unknown_4 rv_st_0 ?_
  refine rv_aload_n hX dX1_unknown_5 rfl ?_
  refine rv_invS hX iX1_8 mdX1_forget (x_forget hG (d := d - 1) (hS.cpre0 [1] 0 rfl rfl rfl)) (by omega) rfl rfl (Nat.le_of_ble_eq_true rfl) dX1_unknown_6 (fun v h' hq => ?_) (fun E h' hq => by first | exact hq.elim | cases hq.2 | cases hq.1)
  obtain ⟨f', hu, hf', hQ⟩ := hq
  have hS := hS.cpost0 [1] 0 rfl rfl rfl hQ
  cases hu
  refine rv_aload_n hX dX1_unknown_9 rfl ?_
  refine rv_areturn hX hE (Or.inr ⟨_, rfl⟩) (Or.inr ⟨_, rfl⟩) ?_ dX1_unknown_10
  exact ⟨_, _, rfl, hf', hS⟩
/-! items -/
/-- an item that is whole -/
def xIt (rd : Nat → rv_C → Prop) (a : Nat) (it : sp_I) : Prop := ∃ tm f, rd a (cO 10 [.int (nI it.1), .int (nI it.2.1), .ref tm, .int (nI it.2.2.length)]) ∧ rd tm (cI it.2.2.length f) ∧ ∀ k t, it.2.2[k]? = some t → f k = nI t
theorem xIt.mono {rd rd2 : Nat → rv_C → Prop} {a : Nat} {it : sp_I} (h : xIt rd a it) (hm : ∀ a c, rd a c → rd2 a c) : xIt rd2 a it := by
  obtain ⟨tm, f, h1, h2, h3⟩ := h
  exact ⟨tm, f, hm _ _ h1, hm _ _ h2, h3⟩
theorem x_hasVariable {G : rv_G} (hG : rv_GK G) {d a x : Nat} {it : sp_I} {h : rv_H} (ha : xIt (rv_rd G h) a it) (hl : it.2.2.length ≤ 3) (ht : ∀ t, t ∈ it.2.2 → t < 108) (hx : x < 8) : rv_Call G d yX11_hasVariable wX11_hasVariable [.ref a, .int (nI x)] h (xN (fun u h' => h' = h ∧ u = some (.int (rv_z (decide (100 + x ∈ it.2.2)))))) := by
  refine rv_start hG (by decide +kernel) (L := [some (.ref a), some (.int (nI x)), none, none]) rfl (Nat.le_of_ble_eq_true rfl) (fun X hX1 hX hE => ?_)
  subst hX1
  obtain ⟨tm, f, h1, h2, h3⟩ := ha
  have loop : ∀ (z k : Nat) (b : Bool), it.2.2.length - k < z → k ≤ it.2.2.length → (b = true ↔ 100 + x ∈ it.2.2.take k) → rv_V X h 4 [some (.ref a), some (.int (nI x)), some (.int (rv_z b)), some (.int (nI k))] [] := by
    intro z
    induction z with
    | zero => intro k b h2; omega
    | succ z ih =>
      intro k b g1 g2 hb
      refine rv_iload_n hX dX11_hasVariable_4 rfl ?_
      refine rv_aload_n hX dX11_hasVariable_5 rfl ?_
      refine rv_getfR hX gX11_18_X11 h1 rfl dX11_hasVariable_6 ?_
      refine xv_alen hX h2 dX11_hasVariable_9 ?_
      first | refine nv_icmp_ge hX 40 (by omega) (by omega) dX11_hasVariable_10 (by decide) (fun c_10 => ?_) (fun c_10 => ?_) | refine rv_icmp_ge hX 40 dX11_hasVariable_10 (by decide) (fun c_10 => ?_) (fun c_10 => ?_)
      · skip
        have hk : k = it.2.2.length := by omega
        refine rv_iload_n hX dX11_hasVariable_40 rfl ?_
        refine rv_ireturn hX hE (rv_zn _) ?_ dX11_hasVariable_41
        refine ⟨rfl, ?_⟩
        rw [hk, List.take_length] at hb
        rw [show b = decide (100 + x ∈ it.2.2) from by rw [Bool.eq_iff_iff, decide_eq_true_iff]; exact hb]
      · skip
        obtain ⟨t, hkt⟩ : ∃ t, it.2.2[k]? = some t := ⟨it.2.2[k], List.getElem?_eq_getElem (by omega)⟩
        have ht2 := ht t (List.mem_of_getElem? hkt)
        have htk : it.2.2.take (k + 1) = it.2.2.take k ++ [t] := by rw [List.take_add_one, hkt]; rfl
        refine rv_iload_n hX dX11_hasVariable_13 rfl ?_
        refine rv_aload_n hX dX11_hasVariable_14 rfl ?_
        refine rv_getfR hX gX11_18_X11 h1 rfl dX11_hasVariable_15 ?_
        refine rv_iload_n hX dX11_hasVariable_18 rfl ?_
        refine xv_iald hX h2 (by omega) (by omega) dX11_hasVariable_19 ?_
        rw [h3 k t hkt]
        refine nv_bipush hX (m := 100) (by decide) dX11_hasVariable_20 ?_
        refine rv_iload_n hX dX11_hasVariable_22 rfl ?_
        first | refine nv_iadd hX dX11_hasVariable_23 ?_ | refine rv_iadd hX dX11_hasVariable_23 ?_
        first | refine nv_icmp_ne hX 31 (by omega) (by omega) dX11_hasVariable_24 (by decide) (fun c_24 => ?_) (fun c_24 => ?_) | refine rv_icmp_ne hX 31 dX11_hasVariable_24 (by decide) (fun c_24 => ?_) (fun c_24 => ?_)
        · skip
          refine nv_iconst hX (m := 0) (by decide) dX11_hasVariable_31 ?_
          refine rv_ior hX dX11_hasVariable_32 ?_
          first
            | rw [show (rv_z b ||| nI 1 : Int32) = rv_z true from by cases b <;> decide]
            | rw [show (rv_z b ||| nI 0 : Int32) = rv_z b from by cases b <;> decide]
          refine rv_istore_n hX dX11_hasVariable_33 (rv_st_2 rfl) ?_
          first | refine nv_iinc hX (m := 1) dX11_hasVariable_34 rfl (by decide) (rv_st_3 rfl) ?_ | refine rv_iinc hX dX11_hasVariable_34 rfl rfl (rv_st_3 rfl) ?_
          refine rv_goto hX 4 dX11_hasVariable_37 (by decide) ?_
          refine ih _ _ (by omega) (by omega) ?_
          rw [htk, List.mem_append, List.mem_singleton]
          first
            | exact ⟨fun _ => Or.inr (by omega), fun _ => rfl⟩
            | exact ⟨fun q => Or.inl (hb.mp q), fun q => q.elim hb.mpr (fun e => absurd e (by omega))⟩
        · skip
          refine nv_iconst hX (m := 1) (by decide) dX11_hasVariable_27 ?_
          refine rv_goto hX 32 dX11_hasVariable_28 (by decide) ?_
          refine rv_ior hX dX11_hasVariable_32 ?_
          first
            | rw [show (rv_z b ||| nI 1 : Int32) = rv_z true from by cases b <;> decide]
            | rw [show (rv_z b ||| nI 0 : Int32) = rv_z b from by cases b <;> decide]
          refine rv_istore_n hX dX11_hasVariable_33 (rv_st_2 rfl) ?_
          first | refine nv_iinc hX (m := 1) dX11_hasVariable_34 rfl (by decide) (rv_st_3 rfl) ?_ | refine rv_iinc hX dX11_hasVariable_34 rfl rfl (rv_st_3 rfl) ?_
          refine rv_goto hX 4 dX11_hasVariable_37 (by decide) ?_
          refine ih _ _ (by omega) (by omega) ?_
          rw [htk, List.mem_append, List.mem_singleton]
          first
            | exact ⟨fun _ => Or.inr (by omega), fun _ => rfl⟩
            | exact ⟨fun q => Or.inl (hb.mp q), fun q => q.elim hb.mpr (fun e => absurd e (by omega))⟩
  refine nv_iconst hX (m := 0) (by decide) dX11_hasVariable_0 ?_
  refine rv_istore_n hX dX11_hasVariable_1 (rv_st_2 rfl) ?_
  refine nv_iconst hX (m := 0) (by decide) dX11_hasVariable_2 ?_
  refine rv_istore_n hX dX11_hasVariable_3 (rv_st_3 rfl) ?_
  exact loop (it.2.2.length + 1) 0 false (by omega) (by omega) ⟨fun q => (by cases q), fun q => absurd q (by simp)⟩
theorem x_item {G : rv_G} (hG : rv_GK G) {d a kind what z : Nat} (hd : 1 ≤ d) {h : rv_H} {F : xF} {n m : Nat} (hz : z ≤ 3) (hn : 1 ≤ n) (hm : 3 ≤ m) (hH : xH G F [(a, cO 10 [.int 0, .int 0, .null, .int 0])] n m h) : rv_Call G d yX11_init wX11_init [.ref a, .int (nI kind), .int (nI what), .int (nI z)] h (xN (fun u h' => ∃ tm, u = none ∧ xS G F h [a] [(a, cO 10 [.int (nI kind), .int (nI what), .ref tm, .int (nI 0)]), (tm, cI z (fun _ => 0))] (n - 1) (m - 3) h')) := by
  refine rv_start hG (by decide +kernel) (L := [some (.ref a), some (.int (nI kind)), some (.int (nI what)), some (.int (nI z))]) rfl (Nat.le_of_ble_eq_true rfl) (fun X hX1 hX hE => ?_)
  subst hX1
  have hS := hH.start
  refine rv_aload_n hX dX11_init_0 rfl ?_
  refine rv_objInit hX q1471 q171 q172 (by omega) (Nat.le_of_ble_eq_true rfl) dX11_init_1 ?_
  refine rv_aload_n hX dX11_init_4 rfl ?_
  refine rv_iload_n hX dX11_init_5 rfl ?_
  refine xv_putf hX hS (k := 0) rfl pX11_9_X11 (fun _ => rfl) rfl rfl rfl dX11_init_6 (fun h_6 hS => ?_)
  refine rv_aload_n hX dX11_init_9 rfl ?_
  refine rv_iload_n hX dX11_init_10 rfl ?_
  refine xv_putf hX hS (k := 0) rfl pX11_15_X11 (fun _ => rfl) rfl rfl rfl dX11_init_11 (fun h_11 hS => ?_)
  refine rv_aload_n hX dX11_init_14 rfl ?_
  refine rv_iload_n hX dX11_init_15 rfl ?_
  refine xv_newI hX hS q548 (by omega) (by omega) (by omega) dX11_init_16 (fun a_16 h_16 hS => ?_)
  refine xv_putf hX hS (k := 0) rfl pX11_18_X11 (fun _ => rfl) rfl rfl rfl dX11_init_18 (fun h_18 hS => ?_)
  refine rv_return hX hE ?_ dX11_init_21
  exact ⟨_, rfl, hS.bud (by omega) (by omega)⟩
theorem x_isWhole {G : rv_G} (hG : rv_GK G) {d a tm z k i w : Nat} {f : Nat → Int32} {h : rv_H} (h1 : rv_rd G h a (cO 10 [.int (nI i), .int (nI w), .ref tm, .int (nI k)])) (h2 : rv_rd G h tm (cI z f)) (hk : k < 2147483648) (hz : z < 2147483648) : rv_Call G d yX11_isWhole wX11_isWhole [.ref a] h (xN (fun u h' => h' = h ∧ u = some (.int (rv_z (decide (k = z)))))) := by
  refine rv_start hG (by decide +kernel) (L := [some (.ref a)]) rfl (Nat.le_of_ble_eq_true rfl) (fun X hX1 hX hE => ?_)
  subst hX1
  refine rv_aload_n hX dX11_isWhole_0 rfl ?_
  refine rv_getfR hX gX11_22_X11 h1 rfl dX11_isWhole_1 ?_
  refine rv_aload_n hX dX11_isWhole_4 rfl ?_
  refine rv_getfR hX gX11_18_X11 h1 rfl dX11_isWhole_5 ?_
  refine xv_alen hX h2 dX11_isWhole_8 ?_
  first | refine nv_icmp_ne hX 16 (by omega) (by omega) dX11_isWhole_9 (by decide) (fun c_9 => ?_) (fun c_9 => ?_) | refine rv_icmp_ne hX 16 dX11_isWhole_9 (by decide) (fun c_9 => ?_) (fun c_9 => ?_)
  · skip
    refine nv_iconst hX (m := 0) (by decide) dX11_isWhole_16 ?_
    refine rv_ireturn hX hE rfl ?_ dX11_isWhole_17
    refine ⟨rfl, ?_⟩
    first
      | (rw [decide_eq_true (show k = z by omega)]; rfl)
      | (rw [decide_eq_false (show ¬ k = z by omega)]; rfl)
  · skip
    refine nv_iconst hX (m := 1) (by decide) dX11_isWhole_12 ?_
    refine rv_goto hX 17 dX11_isWhole_13 (by decide) ?_
    refine rv_ireturn hX hE rfl ?_ dX11_isWhole_17
    refine ⟨rfl, ?_⟩
    first
      | (rw [decide_eq_true (show k = z by omega)]; rfl)
      | (rw [decide_eq_false (show ¬ k = z by omega)]; rfl)
