/-! THE SYSTEM: a group -/
set_option maxRecDepth 100000
/-- which values have come -/
def xhas (has : Nat → Bool) (bf : Nat → Int32) : Prop := ∀ a, a < 100 → bf a = rv_z (has a)
theorem rv_oi_some {a : Nat} : rv_oi (some a) = nI a := rfl
theorem x_groupInit {G : rv_G} (hG : rv_GK G) {d a ca n m : Nat} (hd : 1 ≤ d) {F : xF} {h : rv_H} (hn : 1 ≤ n) (hm : 100 ≤ m) (hH : xH G F [(a, cO 7 [.null, .null, .int 0])] n m h) : rv_Call G d yX8_init wX8_init [.ref a, .ref ca] h (xN (fun u h' => ∃ ha, u = none ∧ xS G F h [a] [(a, cO 7 [.ref ca, .ref ha, .int 0]), (ha, cZ 100 (fun _ => 0))] (n - 1) (m - 100) h')) := by
  refine rv_start hG (by decide +kernel) (L := [some (.ref a), some (.ref ca)]) rfl (Nat.le_of_ble_eq_true rfl) (fun X hX1 hX hE => ?_)
  subst hX1
  have hS := hH.start
  refine rv_aload_n hX dX8_init_0 rfl ?_
  refine rv_objInit hX q1299 q171 q172 (by omega) (Nat.le_of_ble_eq_true rfl) dX8_init_1 ?_
  refine rv_aload_n hX dX8_init_4 rfl ?_
  refine nv_bipush hX (m := 100) (by decide) dX8_init_5 ?_
  refine xv_newZ hX hS q1310 (by omega) (by omega) (by omega) dX8_init_7 (fun a_7 h_7 hS => ?_)
  refine xv_putf hX hS (k := 0) rfl pX8_9_X8 (fun _ => rfl) rfl rfl rfl dX8_init_9 (fun h_9 hS => ?_)
  refine rv_aload_n hX dX8_init_12 rfl ?_
  refine rv_aload_n hX dX8_init_13 rfl ?_
  refine xv_putf hX hS (k := 0) rfl pX8_15_X8 (fun _ => rfl) rfl rfl rfl dX8_init_14 (fun h_14 hS => ?_)
  refine rv_return hX hE ?_ dX8_init_17
  exact ⟨_, rfl, hS⟩
theorem x_groupClear {G : rv_G} (hG : rv_GK G) {d a ca ha n m : Nat} {c0 : Int32} {bf : Nat → Int32} {F : xF} {h : rv_H} (hH : xH G F [(a, cO 7 [.ref ca, .ref ha, .int c0]), (ha, cZ 100 bf)] n m h) : rv_Call G d yX8_clear wX8_clear [.ref a] h (xN (fun u h' => ∃ bf', u = none ∧ (∀ i, i < 100 → bf' i = 0) ∧ xS G F h [a, ha] [(a, cO 7 [.ref ca, .ref ha, .int 0]), (ha, cZ 100 bf')] n m h')) := by
  refine rv_start hG (by decide +kernel) (L := [some (.ref a), none]) rfl (Nat.le_of_ble_eq_true rfl) (fun X hX1 hX hE => ?_)
  subst hX1
  have hS := hH.start
  have loop : ∀ (z k : Nat) (bf : Nat → Int32) (h1 : rv_H), 100 - k < z → k ≤ 100 → (∀ i, i < k → bf i = 0) → xS X.1 F h [a, ha] [(a, cO 7 [.ref ca, .ref ha, .int 0]), (ha, cZ 100 bf)] n m h1 → rv_V X h1 7 [some (.ref a), some (.int (nI k))] [] := by
    intro z
    induction z with
    | zero => intro k bf h1 g1; omega
    | succ z ih =>
      intro k bf h1 g1 g2 g3 hS
      refine rv_iload_n hX dX8_clear_7 rfl ?_
      refine nv_bipush hX (m := 100) (by decide) dX8_clear_8 ?_
      first | refine nv_icmp_ge hX 26 (by omega) (by omega) dX8_clear_10 (by decide) (fun c_10 => ?_) (fun c_10 => ?_) | refine rv_icmp_ge hX 26 dX8_clear_10 (by decide) (fun c_10 => ?_) (fun c_10 => ?_)
      · skip
        have hk : k = 100 := by omega
        rw [hk] at g3
        refine rv_return hX hE ?_ dX8_clear_26
        exact ⟨_, rfl, g3, hS⟩
      · skip
        refine rv_aload_n hX dX8_clear_13 rfl ?_
        refine rv_getfR hX gX8_9_X8 (hS.mc (k := 0) rfl) rfl dX8_clear_14 ?_
        refine rv_iload_n hX dX8_clear_17 rfl ?_
        refine nv_iconst hX (m := 0) (by decide) dX8_clear_18 ?_
        refine xv_zast hX hS (k := 1) rfl (by first | rfl | exact rv_znar _) (by omega) (by omega) dX8_clear_19 (fun h_19 hS => ?_)
        first | refine nv_iinc hX (m := 1) dX8_clear_20 rfl (by decide) (rv_st_1 rfl) ?_ | refine rv_iinc hX dX8_clear_20 rfl rfl (rv_st_1 rfl) ?_
        refine rv_goto hX 7 dX8_clear_23 (by decide) ?_
        refine ih (k + 1) _ _ (by omega) (by omega) (fun i hi => ?_) hS
        show (if i = k then (0 : Int32) else bf i) = 0
        by_cases e : i = k
        · rw [if_pos e]
        · rw [if_neg e]
          exact g3 i (by omega)
  refine rv_aload_n hX dX8_clear_0 rfl ?_
  refine nv_iconst hX (m := 0) (by decide) dX8_clear_1 ?_
  refine xv_putf hX hS (k := 0) rfl pX8_19_X8 (fun q => by cases q) rfl rfl rfl dX8_clear_2 (fun h_2 hS => ?_)
  refine nv_iconst hX (m := 0) (by decide) dX8_clear_5 ?_
  refine rv_istore_n hX dX8_clear_6 (rv_st_1 rfl) ?_
  exact loop 101 0 bf _ (by omega) (by omega) (fun i hi => absurd hi (Nat.not_lt_zero i)) hS
theorem sp_gt_at {C : sp_C} {s : Nat} (hs : C.gath = some s) : C.hts[s]? = some C.gt ∧ 200 ≤ C.gt := by
  obtain ⟨-, t, h1, h2⟩ := sp_gslot_get hs
  have e : C.gt = t := by
    unfold sp_C.gt
    rw [hs]
    exact sp_getD h1
  rw [e]
  exact ⟨h1, h2⟩
theorem x_groupTake {G : rv_G} (hG : rv_GK G) {d a ca ha vr fr s g n m : Nat} (hd : 1 ≤ d) {isd : Bool} {C : sp_C} {c0 : Nat} {bf vf ff : Nat → Int32} {v : sp_V} {F : xF} {h : rv_H} (hC : xCl G isd (xr G F) ca C) (hw : sp_wfH C.hts) (hl : C.hts.length ≤ 3) (hs : C.gath = some s) (hv : xva v vf) (hg : v C.gx = some g) (hH : xH G F [(vr, cI 8 vf), (fr, cI 3 ff), (a, cO 7 [.ref ca, .ref ha, .int (nI c0)]), (ha, cZ 100 bf)] n m h) : rv_Call G d yX8_take wX8_take [.ref a, .ref vr, .ref fr] h (xN (fun u h' => u = some (.int 1) ∧ xS G F h [vr, fr, a, ha] [(vr, cI 8 vf), (fr, cI 3 ff), (a, cO 7 [.ref ca, .ref ha, .int (nI (c0 + 1))]), (ha, cZ 100 (va_up bf g 1))] n m h')) := by
  refine rv_start hG (by decide +kernel) (L := [some (.ref a), some (.ref vr), some (.ref fr)]) rfl (Nat.le_of_ble_eq_true rfl) (fun X hX1 hX hE => ?_)
  subst hX1
  have hS := hH.start
  obtain ⟨hd1, bo, gk, md, sal, tl, h1, ⟨tm, tf, h3, h4, h5⟩, -, -⟩ := hC
  rw [List.length_map] at h3 h4
  obtain ⟨t1, t2⟩ := sp_gt_at hs
  have hsl := (List.getElem?_eq_some_iff.mp t1).1
  have hxt : xtm C.gt = 100 + C.gx := by unfold xtm; rw [if_pos t2]; rfl
  have hgx : C.gx < 8 := Nat.mod_lt _ (by decide)
  have h5' := h5 s (xtm C.gt) (by rw [List.getElem?_map, t1]; rfl)
  rw [hxt] at h5'
  have hval : sp_val v (100 + C.gx) = some g := by
    unfold sp_val
    rw [if_neg (by omega), Nat.add_sub_cancel_left]
    exact hg
  have hg1 : g < 100 := hv.2 _ _ hg
  rw [hs, rv_oi_some] at h1
  refine rv_aload_n hX dX8_take_0 rfl ?_
  refine rv_dup hX dX8_take_1 rfl ?_
  refine rv_getfR hX gX8_19_X8 (hS.mc (k := 2) rfl) rfl dX8_take_2 ?_
  refine nv_iconst hX (m := 1) (by decide) dX8_take_5 ?_
  first | refine nv_iadd hX dX8_take_6 ?_ | refine rv_iadd hX dX8_take_6 ?_
  refine xv_putf hX hS (k := 2) rfl pX8_19_X8 (fun q => by cases q) rfl rfl rfl dX8_take_7 (fun h_7 hS => ?_)
  refine rv_aload_n hX dX8_take_10 rfl ?_
  refine rv_getfR hX gX8_9_X8 (hS.mc (k := 2) rfl) rfl dX8_take_11 ?_
  refine rv_aload_n hX dX8_take_14 rfl ?_
  refine rv_getfR hX gX8_15_X8 (hS.mc (k := 2) rfl) rfl dX8_take_15 ?_
  refine rv_getfR hX gX8_23_X10 (hS.f h1) rfl dX8_take_18 ?_
  refine rv_getfR hX gX8_29_X11 (hS.f h3) rfl dX8_take_21 ?_
  refine rv_aload_n hX dX8_take_24 rfl ?_
  refine rv_getfR hX gX8_15_X8 (hS.mc (k := 2) rfl) rfl dX8_take_25 ?_
  refine rv_getfR hX gX8_35_X10 (hS.f h1) rfl dX8_take_28 ?_
  refine xv_iald hX (hS.f h4) (by omega) (by omega) dX8_take_31 ?_
  rw [h5']
  refine rv_aload_n hX dX8_take_32 rfl ?_
  refine rv_invS hX iX8_38 mdX1_valueOf (x_valueOf hG (d := d - 1) (by omega) (hS.mc (k := 0) rfl) hv) (by omega) rfl rfl (Nat.le_of_ble_eq_true rfl) dX8_take_33 (fun v h' hq => ?_) (fun E h' hq => by first | exact hq.elim | cases hq.2 | cases hq.1)
  obtain ⟨rfl, hq⟩ := hq
  cases hq
  rw [hval, rv_oi_some]
  refine nv_iconst hX (m := 1) (by decide) dX8_take_36 ?_
  refine xv_zast hX hS (k := 3) rfl (by first | rfl | exact rv_znar _) (by omega) (by omega) dX8_take_37 (fun h_37 hS => ?_)
  refine nv_iconst hX (m := 1) (by decide) dX8_take_38 ?_
  refine rv_ireturn hX hE rfl ?_ dX8_take_39
  exact ⟨rfl, hS⟩
theorem x_min {G : rv_G} (hG : rv_GK G) {d a b : Nat} (ha : a < 2147483648) (hb : b < 2147483648) {h : rv_H} : rv_Call G d yJ12_min wJ12_min [.int (nI a), .int (nI b)] h (xN (fun u h' => h' = h ∧ u = some (.int (nI (Nat.min a b))))) := by
  refine rv_startF hG (by decide +kernel) (L := [some (.int (nI a)), some (.int (nI b))]) rfl (Nat.le_of_ble_eq_true rfl) (fun X hX1 hX hE => ?_)
  subst hX1
  refine rv_iload_n hX dJ12_min_0 rfl ?_
  refine rv_iload_n hX dJ12_min_1 rfl ?_
  first | refine nv_icmp_gt hX 9 (by omega) (by omega) dJ12_min_2 (by decide) (fun c_2 => ?_) (fun c_2 => ?_) | refine rv_icmp_gt hX 9 dJ12_min_2 (by decide) (fun c_2 => ?_) (fun c_2 => ?_)
  · skip
    have e : Nat.min a b = b := Nat.min_eq_right (by omega)
    refine rv_iload_n hX dJ12_min_9 rfl ?_
    refine rv_ireturn hX hE rfl ?_ dJ12_min_10
    exact ⟨rfl, by rw [e]⟩
  · skip
    have e : Nat.min a b = a := Nat.min_eq_left (by omega)
    refine rv_iload_n hX dJ12_min_5 rfl ?_
    refine rv_goto hX 10 dJ12_min_6 (by decide) ?_
    refine rv_ireturn hX hE rfl ?_ dJ12_min_10
    exact ⟨rfl, by rw [e]⟩
/-- the least and the greatest value so far, as the group keeps them -/
def xlg (has : Nat → Bool) (k : Nat) (w3 w4 : Int32) : Prop := (sp_least has k = none ∧ w3 = -1 ∧ w4 = -1) ∨ ∃ b, sp_least has k = some b ∧ w3 = nI b ∧ w4 = nI (sp_great has k)
theorem x_groupValue {G : rv_G} (hG : rv_GK G) {d a ca ha : Nat} (hd : 1 ≤ d) {isd : Bool} {C : sp_C} {s : Nat} {c0 : Int32} {bf : Nat → Int32} {has : Nat → Bool} {h : rv_H} (hC : xCl G isd (rv_rd G h) ca C) (hw : sp_wfH C.hts) (hs : C.gath = some s) (h1 : rv_rd G h a (cO 7 [.ref ca, .ref ha, .int c0])) (h2 : rv_rd G h ha (cZ 100 bf)) (hb : xhas has bf) (hne : ∃ g, g < 100 ∧ has g = true) : rv_Call G d yX8_value wX8_value [.ref a] h (xN (fun u h' => h' = h ∧ u = some (.int (nI (sp_min99 (sp_agg ((C.gt - 200) / 8) has)))))) := by
  refine rv_start hG (by decide +kernel) (L := [some (.ref a), none, none, none, none, none]) rfl (Nat.le_of_ble_eq_true rfl) (fun X hX1 hX hE => ?_)
  subst hX1
  obtain ⟨hd1, bo, gk, md, sal, tl, h3, -, -, hgk, -⟩ := hC
  have hgk := hgk s hs
  obtain ⟨t1, t2⟩ := sp_gt_at hs
  have hk4 : (C.gt - 200) / 8 < 4 := by
    rcases hw.1 _ (List.mem_of_getElem? t1) with q | q
    · omega
    · omega
  generalize (C.gt - 200) / 8 = kd at *
  have hmin : ∀ x, Nat.min x 99 = sp_min99 x := fun x => by
    unfold sp_min99
    split
    · exact Nat.min_eq_right (by omega)
    · exact Nat.min_eq_left (by omega)
  have hle99 : ∀ x, x ≤ 99 → sp_min99 x = x := fun x hx => if_neg (by omega)
  have loop : ∀ (z k : Nat) (w3 w4 : Int32), 100 - k < z → k ≤ 100 → xlg has k w3 w4 → rv_V X h 12 [some (.ref a), some (.int (nI (sp_many has k))), some (.int (nI (sp_sumv has k))), some (.int w3), some (.int w4), some (.int (nI k))] [] := by
    intro z
    induction z with
    | zero => intro k w3 w4 g1; omega
    | succ z ih =>
      intro k w3 w4 g1 g2 g3
      by_cases hk : k = 100
      · subst hk
        have hl1 := sp_many_le has 100
        have hl2 := sp_sumv_le has 100
        have hl3 := sp_great_le has 100
        obtain ⟨g, hg1, hg2⟩ := hne
        obtain ⟨b, hbl⟩ := sp_least_some hg2 hg1
        have hbl2 := sp_least_lt hbl
        rcases g3 with ⟨q, -⟩ | ⟨b', q, hw3, hw4⟩
        · rw [hbl] at q; cases q
        · rw [hbl] at q
          cases q
          subst hw3
          subst hw4
          have hgr : sp_great has 100 < 100 := by
            have : ∀ n, 0 < n → sp_great has n < n := by
              intro n
              induction n with
              | zero => intro q; omega
              | succ n ih =>
                intro _
                unfold sp_great
                split
                · omega
                · by_cases h0 : n = 0
                  · subst h0
                    exact Nat.zero_lt_one
                  · have := ih (by omega)
                    omega
            exact this 100 (by decide)
          have hk4' : kd = 0 ∨ kd = 1 ∨ kd = 2 ∨ kd = 3 := by omega
          rcases hk4' with e | e | e | e
          · subst e
            rw [show gk = nI 0 from hgk] at h3
            refine rv_iload hX dX8_value_12 rfl ?_
            refine nv_bipush hX (m := 100) (by decide) dX8_value_14 ?_
            refine nv_icmp_ge hX 59 (by omega) (by omega) dX8_value_16 (by decide) (fun c_16 => ?_) (fun q => absurd q (by omega))
            refine rv_aload_n hX dX8_value_59 rfl ?_
            refine rv_getfR hX gX8_15_X8 h1 rfl dX8_value_60 ?_
            refine rv_getfR hX gX8_42_X10 h3 rfl dX8_value_63 ?_
            refine rv_tableIn hX 92 dX8_value_66 (by decide) (by decide) (off := 26) rfl (by decide) ?_
            -- goto 92
            refine rv_iload_n hX dX8_value_92 rfl ?_
            refine nv_bipush hX (m := 99) (by decide) dX8_value_93 ?_
            refine rv_invS hX iX8_45 mdJ12_min (x_min hG (d := d - 1) (by omega) (by omega)) (by omega) rfl rfl (Nat.le_of_ble_eq_true rfl) dX8_value_95 (fun v h' hq => ?_) (fun E h' hq => by first | exact hq.elim | cases hq.2 | cases hq.1)
            obtain ⟨rfl, hq⟩ := hq
            cases hq
            refine rv_ireturn hX hE rfl ?_ dX8_value_98
            refine ⟨rfl, ?_⟩
            rw [hmin]
            rfl
          · subst e
            rw [show gk = nI 1 from hgk] at h3
            refine rv_iload hX dX8_value_12 rfl ?_
            refine nv_bipush hX (m := 100) (by decide) dX8_value_14 ?_
            refine nv_icmp_ge hX 59 (by omega) (by omega) dX8_value_16 (by decide) (fun c_16 => ?_) (fun q => absurd q (by omega))
            refine rv_aload_n hX dX8_value_59 rfl ?_
            refine rv_getfR hX gX8_15_X8 h1 rfl dX8_value_60 ?_
            refine rv_getfR hX gX8_42_X10 h3 rfl dX8_value_63 ?_
            refine rv_tableIn hX 99 dX8_value_66 (by decide) (by decide) (off := 33) rfl (by decide) ?_
            -- goto 99
            refine rv_iload_n hX dX8_value_99 rfl ?_
            refine nv_bipush hX (m := 99) (by decide) dX8_value_100 ?_
            refine rv_invS hX iX8_45 mdJ12_min (x_min hG (d := d - 1) (by omega) (by omega)) (by omega) rfl rfl (Nat.le_of_ble_eq_true rfl) dX8_value_102 (fun v h' hq => ?_) (fun E h' hq => by first | exact hq.elim | cases hq.2 | cases hq.1)
            obtain ⟨rfl, hq⟩ := hq
            cases hq
            refine rv_ireturn hX hE rfl ?_ dX8_value_105
            refine ⟨rfl, ?_⟩
            rw [hmin]
            rfl
          · subst e
            rw [show gk = nI 2 from hgk] at h3
            refine rv_iload hX dX8_value_12 rfl ?_
            refine nv_bipush hX (m := 100) (by decide) dX8_value_14 ?_
            refine nv_icmp_ge hX 59 (by omega) (by omega) dX8_value_16 (by decide) (fun c_16 => ?_) (fun q => absurd q (by omega))
            refine rv_aload_n hX dX8_value_59 rfl ?_
            refine rv_getfR hX gX8_15_X8 h1 rfl dX8_value_60 ?_
            refine rv_getfR hX gX8_42_X10 h3 rfl dX8_value_63 ?_
            refine rv_tableIn hX 106 dX8_value_66 (by decide) (by decide) (off := 40) rfl (by decide) ?_
            -- goto 106
            refine rv_iload_n hX dX8_value_106 rfl ?_
            refine rv_ireturn hX hE rfl ?_ dX8_value_107
            refine ⟨rfl, ?_⟩
            rw [show sp_agg 2 has = b from by show (sp_least has 100).getD 0 = b; rw [hbl]; rfl, hle99 _ (by omega)]
          · subst e
            rw [show gk = nI 3 from hgk] at h3
            refine rv_iload hX dX8_value_12 rfl ?_
            refine nv_bipush hX (m := 100) (by decide) dX8_value_14 ?_
            refine nv_icmp_ge hX 59 (by omega) (by omega) dX8_value_16 (by decide) (fun c_16 => ?_) (fun q => absurd q (by omega))
            refine rv_aload_n hX dX8_value_59 rfl ?_
            refine rv_getfR hX gX8_15_X8 h1 rfl dX8_value_60 ?_
            refine rv_getfR hX gX8_42_X10 h3 rfl dX8_value_63 ?_
            refine rv_tableOut hX 108 dX8_value_66 (Or.inr (by decide)) (by decide) ?_
            -- goto 108
            refine rv_iload hX dX8_value_108 rfl ?_
            refine rv_ireturn hX hE rfl ?_ dX8_value_110
            refine ⟨rfl, ?_⟩
            rw [show sp_agg 3 has = sp_great has 100 from rfl, hle99 _ (by omega)]
      · have hbk := hb k (by omega)
        by_cases hhk : has k = true
        · have e1 : sp_many has (k + 1) = sp_many has k + 1 := by show sp_many has k + (if has k = true then 1 else 0) = _; rw [if_pos hhk]
          have e2 : sp_sumv has (k + 1) = sp_sumv has k + k := by show sp_sumv has k + (if has k = true then k else 0) = _; rw [if_pos hhk]
          have e3 : sp_great has (k + 1) = k := by show (if has k = true then k else sp_great has k) = _; rw [if_pos hhk]
          have hih := fun (w3 : Int32) (q : xlg has (k + 1) w3 (nI k)) => ih (k + 1) w3 (nI k) (by omega) (by omega) q
          rw [e1, e2] at hih
          rw [hhk] at hbk
          rcases g3 with ⟨q, hw3, hw4⟩ | ⟨b, q, hw3, hw4⟩
          · subst hw3
            have e4 : sp_least has (k + 1) = some k := by
              unfold sp_least
              rw [q]
              show (if has k = true then some k else none) = _
              rw [if_pos hhk]
            refine rv_iload hX dX8_value_12 rfl ?_
            refine nv_bipush hX (m := 100) (by decide) dX8_value_14 ?_
            refine nv_icmp_ge hX 59 (by omega) (by omega) dX8_value_16 (by decide) (fun q => absurd q (by omega)) (fun c_16 => ?_)
            refine rv_aload_n hX dX8_value_19 rfl ?_
            refine rv_getfR hX gX8_9_X8 h1 rfl dX8_value_20 ?_
            refine rv_iload hX dX8_value_23 rfl ?_
            refine xv_zald hX h2 (by omega) (by omega) dX8_value_25 ?_
            rw [hbk]
            refine rv_if_eq hX 53 dX8_value_26 (by decide) (fun q => absurd q (by decide)) (fun c_26 => ?_)
            first | refine nv_iinc hX (m := 1) dX8_value_29 rfl (by decide) (rv_st_1 rfl) ?_ | refine rv_iinc hX dX8_value_29 rfl rfl (rv_st_1 rfl) ?_
            refine rv_iload_n hX dX8_value_32 rfl ?_
            refine rv_iload hX dX8_value_33 rfl ?_
            first | refine nv_iadd hX dX8_value_35 ?_ | refine rv_iadd hX dX8_value_35 ?_
            refine rv_istore_n hX dX8_value_36 (rv_st_2 rfl) ?_
            refine rv_iload_n hX dX8_value_37 rfl ?_
            refine rv_iconst hX (v := -1) dX8_value_38 (by decide) ?_
            refine rv_icmp_ne hX 47 dX8_value_39 (by decide) (fun q => absurd rfl q) (fun c_39 => ?_)
            refine rv_iload hX dX8_value_42 rfl ?_
            refine rv_goto hX 48 dX8_value_44 (by decide) ?_
            refine rv_istore_n hX dX8_value_48 (rv_st_3 rfl) ?_
            refine rv_iload hX dX8_value_49 rfl ?_
            refine rv_istore hX dX8_value_51 (rv_st_4 rfl) ?_
            first | refine nv_iinc hX (m := 1) dX8_value_53 rfl (by decide) (rv_st_5 rfl) ?_ | refine rv_iinc hX dX8_value_53 rfl rfl (rv_st_5 rfl) ?_
            refine rv_goto hX 12 dX8_value_56 (by decide) ?_
            exact hih _ (Or.inr ⟨k, e4, rfl, by rw [e3]⟩)
          · subst hw3
            have hbl2 := sp_least_lt q
            have e4 : sp_least has (k + 1) = some b := by
              unfold sp_least
              rw [q]
            refine rv_iload hX dX8_value_12 rfl ?_
            refine nv_bipush hX (m := 100) (by decide) dX8_value_14 ?_
            refine nv_icmp_ge hX 59 (by omega) (by omega) dX8_value_16 (by decide) (fun q => absurd q (by omega)) (fun c_16 => ?_)
            refine rv_aload_n hX dX8_value_19 rfl ?_
            refine rv_getfR hX gX8_9_X8 h1 rfl dX8_value_20 ?_
            refine rv_iload hX dX8_value_23 rfl ?_
            refine xv_zald hX h2 (by omega) (by omega) dX8_value_25 ?_
            rw [hbk]
            refine rv_if_eq hX 53 dX8_value_26 (by decide) (fun q => absurd q (by decide)) (fun c_26 => ?_)
            first | refine nv_iinc hX (m := 1) dX8_value_29 rfl (by decide) (rv_st_1 rfl) ?_ | refine rv_iinc hX dX8_value_29 rfl rfl (rv_st_1 rfl) ?_
            refine rv_iload_n hX dX8_value_32 rfl ?_
            refine rv_iload hX dX8_value_33 rfl ?_
            first | refine nv_iadd hX dX8_value_35 ?_ | refine rv_iadd hX dX8_value_35 ?_
            refine rv_istore_n hX dX8_value_36 (rv_st_2 rfl) ?_
            refine rv_iload_n hX dX8_value_37 rfl ?_
            refine rv_iconst hX (v := -1) dX8_value_38 (by decide) ?_
            refine rv_icmp_ne hX 47 dX8_value_39 (by decide) (fun c_39 => ?_) (fun q => absurd ((rv_oi_m1 (x := some b) (fun x e => by cases e; omega)).mp q) (fun e => by cases e))
            refine rv_iload_n hX dX8_value_47 rfl ?_
            refine rv_istore_n hX dX8_value_48 (rv_st_3 rfl) ?_
            refine rv_iload hX dX8_value_49 rfl ?_
            refine rv_istore hX dX8_value_51 (rv_st_4 rfl) ?_
            first | refine nv_iinc hX (m := 1) dX8_value_53 rfl (by decide) (rv_st_5 rfl) ?_ | refine rv_iinc hX dX8_value_53 rfl rfl (rv_st_5 rfl) ?_
            refine rv_goto hX 12 dX8_value_56 (by decide) ?_
            exact hih _ (Or.inr ⟨b, e4, rfl, by rw [e3]⟩)
        · have e1 : sp_many has (k + 1) = sp_many has k := by show sp_many has k + (if has k = true then 1 else 0) = _; rw [if_neg hhk]; rfl
          have e2 : sp_sumv has (k + 1) = sp_sumv has k := by show sp_sumv has k + (if has k = true then k else 0) = _; rw [if_neg hhk]; rfl
          have e3 : sp_great has (k + 1) = sp_great has k := by show (if has k = true then k else sp_great has k) = _; rw [if_neg hhk]
          have e4 : sp_least has (k + 1) = sp_least has k := by
            show (match sp_least has k with | some a => some a | none => if has k = true then some k else none) = sp_least has k
            cases e : sp_least has k with
            | some b => rfl
            | none => show (if has k = true then some k else none) = _; rw [if_neg hhk]
          have hih := ih (k + 1) w3 w4 (by omega) (by omega) (by unfold xlg; rw [e3, e4]; exact g3)
          rw [e1, e2] at hih
          rw [Bool.eq_false_iff.mpr hhk] at hbk
          refine rv_iload hX dX8_value_12 rfl ?_
          refine nv_bipush hX (m := 100) (by decide) dX8_value_14 ?_
          refine nv_icmp_ge hX 59 (by omega) (by omega) dX8_value_16 (by decide) (fun q => absurd q (by omega)) (fun c_16 => ?_)
          refine rv_aload_n hX dX8_value_19 rfl ?_
          refine rv_getfR hX gX8_9_X8 h1 rfl dX8_value_20 ?_
          refine rv_iload hX dX8_value_23 rfl ?_
          refine xv_zald hX h2 (by omega) (by omega) dX8_value_25 ?_
          rw [hbk]
          refine rv_if_eq hX 53 dX8_value_26 (by decide) (fun c_26 => ?_) (fun q => absurd rfl q)
          first | refine nv_iinc hX (m := 1) dX8_value_53 rfl (by decide) (rv_st_5 rfl) ?_ | refine rv_iinc hX dX8_value_53 rfl rfl (rv_st_5 rfl) ?_
          refine rv_goto hX 12 dX8_value_56 (by decide) ?_
          exact hih
  refine nv_iconst hX (m := 0) (by decide) dX8_value_0 ?_
  refine rv_istore_n hX dX8_value_1 (rv_st_1 rfl) ?_
  refine nv_iconst hX (m := 0) (by decide) dX8_value_2 ?_
  refine rv_istore_n hX dX8_value_3 (rv_st_2 rfl) ?_
  refine rv_iconst hX (v := -1) dX8_value_4 (by decide) ?_
  refine rv_istore_n hX dX8_value_5 (rv_st_3 rfl) ?_
  refine rv_iconst hX (v := -1) dX8_value_6 (by decide) ?_
  refine rv_istore hX dX8_value_7 (rv_st_4 rfl) ?_
  refine nv_iconst hX (m := 0) (by decide) dX8_value_9 ?_
  refine rv_istore hX dX8_value_10 (rv_st_5 rfl) ?_
  exact loop 101 0 (-1) (-1) (by omega) (by omega) (Or.inl ⟨rfl, rfl, rfl⟩)
/-- a fact with another value in a slot -/
def sp_reslot (f s g : Nat) : Nat := f - sp_slot f s * sp_wt s + g * sp_wt s
theorem sp_slot_wt {f s : Nat} (hs : s < 3) : sp_slot f s * sp_wt s ≤ f := by
  rcases (by omega : s = 0 ∨ s = 1 ∨ s = 2) with e | e | e
  · subst e
    show f / 10000 % 100 * 10000 ≤ f
    omega
  · subst e
    show f / 100 % 100 * 100 ≤ f
    omega
  · subst e
    show f % 100 * 1 ≤ f
    omega
theorem x_groupFact {G : rv_G} (hG : rv_GK G) {d a ca ha f : Nat} (hd : 2 ≤ d) {isd : Bool} {C : sp_C} {s : Nat} {c0 : Int32} {bf : Nat → Int32} {has : Nat → Bool} {h : rv_H} (hC : xCl G isd (rv_rd G h) ca C) (hw : sp_wfH C.hts) (hl : C.hts.length ≤ 3) (hs : C.gath = some s) (h1 : rv_rd G h a (cO 7 [.ref ca, .ref ha, .int c0])) (h2 : rv_rd G h ha (cZ 100 bf)) (hb : xhas has bf) (hne : ∃ g, g < 100 ∧ has g = true) (hf : f < 2147483648) : rv_Call G d yX8_fact wX8_fact [.ref a, .int (nI f)] h (xN (fun u h' => h' = h ∧ u = some (.int (nI (sp_reslot f s (sp_min99 (sp_agg ((C.gt - 200) / 8) has))))))) := by
  refine rv_start hG (by decide +kernel) (L := [some (.ref a), some (.int (nI f)), none]) rfl (Nat.le_of_ble_eq_true rfl) (fun X hX1 hX hE => ?_)
  subst hX1
  have hC' := hC
  obtain ⟨hd1, bo, gk, md, sal, tl, h3, -⟩ := hC'
  obtain ⟨t1, t2⟩ := sp_gt_at hs
  have hsl := (List.getElem?_eq_some_iff.mp t1).1
  rw [hs, rv_oi_some] at h3
  generalize hgv : sp_min99 (sp_agg ((C.gt - 200) / 8) has) = gv
  have hle := sp_slot_wt (f := f) (s := s) (by omega)
  have hval : ∀ dd, 1 ≤ dd → rv_Call X.1 dd yX8_value wX8_value [.ref a] h (xN (fun u h' => h' = h ∧ u = some (.int (nI gv)))) := fun dd hdd => by
    rw [← hgv]
    exact x_groupValue hG hdd hC hw hs h1 h2 hb hne
  rcases (by omega : s = 0 ∨ s = 1 ∨ s = 2) with e | e | e
  · subst e
    have hle : sp_slot f 0 * 10000 ≤ f := hle
    refine rv_aload_n hX dX8_fact_0 rfl ?_
    refine rv_getfR hX gX8_15_X8 h1 rfl dX8_fact_1 ?_
    refine rv_getfR hX gX8_35_X10 h3 rfl dX8_fact_4 ?_
    refine rv_if_ne hX 16 dX8_fact_7 (by decide) (fun q => absurd rfl q) (fun c_7 => ?_)
    refine nv_sipush hX (m := 10000) (by decide) dX8_fact_10 ?_
    refine rv_goto hX 33 dX8_fact_13 (by decide) ?_
    refine rv_istore_n hX dX8_fact_33 (rv_st_2 rfl) ?_
    refine rv_iload_n hX dX8_fact_34 rfl ?_
    refine rv_iload_n hX dX8_fact_35 rfl ?_
    refine rv_aload_n hX dX8_fact_36 rfl ?_
    refine rv_getfR hX gX8_15_X8 h1 rfl dX8_fact_37 ?_
    refine rv_getfR hX gX8_35_X10 h3 rfl dX8_fact_40 ?_
    refine rv_invS hX iX8_51 mdX1_slotOf (x_slotOf hG (d := d - 1) hf (by omega)) (by omega) rfl rfl (Nat.le_of_ble_eq_true rfl) dX8_fact_43 (fun v h' hq => ?_) (fun E h' hq => by first | exact hq.elim | cases hq.2 | cases hq.1)
    obtain ⟨rfl, hq⟩ := hq
    cases hq
    refine rv_iload_n hX dX8_fact_46 rfl ?_
    first | refine nv_imul hX dX8_fact_47 ?_ | refine rv_imul hX dX8_fact_47 ?_
    first | refine nv_isub hX (by omega) dX8_fact_48 ?_ | refine rv_isub hX dX8_fact_48 ?_
    refine rv_aload_n hX dX8_fact_49 rfl ?_
    refine rv_invVR hX iX8_54 mdX8_value h1 ⟨TX8, 3, rv_c7⟩ (hval (d - 1) (by omega)) (by omega) rfl rfl (Nat.le_of_ble_eq_true rfl) dX8_fact_50 (fun v h' hq => ?_) (fun E h' hq => by first | exact hq.elim | cases hq.2 | cases hq.1)
    obtain ⟨rfl, hq⟩ := hq
    cases hq
    refine rv_iload_n hX dX8_fact_53 rfl ?_
    first | refine nv_imul hX dX8_fact_54 ?_ | refine rv_imul hX dX8_fact_54 ?_
    first | refine nv_iadd hX dX8_fact_55 ?_ | refine rv_iadd hX dX8_fact_55 ?_
    refine rv_ireturn hX hE rfl ?_ dX8_fact_56
    rw [hgv]; exact ⟨rfl, rfl⟩
  · subst e
    have hle : sp_slot f 1 * 100 ≤ f := hle
    refine rv_aload_n hX dX8_fact_0 rfl ?_
    refine rv_getfR hX gX8_15_X8 h1 rfl dX8_fact_1 ?_
    refine rv_getfR hX gX8_35_X10 h3 rfl dX8_fact_4 ?_
    refine nv_if_ne hX 16 (by omega) dX8_fact_7 (by decide) (fun c_7 => ?_) (fun q => absurd q (by decide))
    refine rv_aload_n hX dX8_fact_16 rfl ?_
    refine rv_getfR hX gX8_15_X8 h1 rfl dX8_fact_17 ?_
    refine rv_getfR hX gX8_35_X10 h3 rfl dX8_fact_20 ?_
    refine nv_iconst hX (m := 1) (by decide) dX8_fact_23 ?_
    refine rv_icmp_ne hX 32 dX8_fact_24 (by decide) (fun q => absurd rfl q) (fun c_24 => ?_)
    refine nv_bipush hX (m := 100) (by decide) dX8_fact_27 ?_
    refine rv_goto hX 33 dX8_fact_29 (by decide) ?_
    refine rv_istore_n hX dX8_fact_33 (rv_st_2 rfl) ?_
    refine rv_iload_n hX dX8_fact_34 rfl ?_
    refine rv_iload_n hX dX8_fact_35 rfl ?_
    refine rv_aload_n hX dX8_fact_36 rfl ?_
    refine rv_getfR hX gX8_15_X8 h1 rfl dX8_fact_37 ?_
    refine rv_getfR hX gX8_35_X10 h3 rfl dX8_fact_40 ?_
    refine rv_invS hX iX8_51 mdX1_slotOf (x_slotOf hG (d := d - 1) hf (by omega)) (by omega) rfl rfl (Nat.le_of_ble_eq_true rfl) dX8_fact_43 (fun v h' hq => ?_) (fun E h' hq => by first | exact hq.elim | cases hq.2 | cases hq.1)
    obtain ⟨rfl, hq⟩ := hq
    cases hq
    refine rv_iload_n hX dX8_fact_46 rfl ?_
    first | refine nv_imul hX dX8_fact_47 ?_ | refine rv_imul hX dX8_fact_47 ?_
    first | refine nv_isub hX (by omega) dX8_fact_48 ?_ | refine rv_isub hX dX8_fact_48 ?_
    refine rv_aload_n hX dX8_fact_49 rfl ?_
    refine rv_invVR hX iX8_54 mdX8_value h1 ⟨TX8, 3, rv_c7⟩ (hval (d - 1) (by omega)) (by omega) rfl rfl (Nat.le_of_ble_eq_true rfl) dX8_fact_50 (fun v h' hq => ?_) (fun E h' hq => by first | exact hq.elim | cases hq.2 | cases hq.1)
    obtain ⟨rfl, hq⟩ := hq
    cases hq
    refine rv_iload_n hX dX8_fact_53 rfl ?_
    first | refine nv_imul hX dX8_fact_54 ?_ | refine rv_imul hX dX8_fact_54 ?_
    first | refine nv_iadd hX dX8_fact_55 ?_ | refine rv_iadd hX dX8_fact_55 ?_
    refine rv_ireturn hX hE rfl ?_ dX8_fact_56
    rw [hgv]; exact ⟨rfl, rfl⟩
  · subst e
    have hle : sp_slot f 2 * 1 ≤ f := hle
    refine rv_aload_n hX dX8_fact_0 rfl ?_
    refine rv_getfR hX gX8_15_X8 h1 rfl dX8_fact_1 ?_
    refine rv_getfR hX gX8_35_X10 h3 rfl dX8_fact_4 ?_
    refine nv_if_ne hX 16 (by omega) dX8_fact_7 (by decide) (fun c_7 => ?_) (fun q => absurd q (by decide))
    refine rv_aload_n hX dX8_fact_16 rfl ?_
    refine rv_getfR hX gX8_15_X8 h1 rfl dX8_fact_17 ?_
    refine rv_getfR hX gX8_35_X10 h3 rfl dX8_fact_20 ?_
    refine nv_iconst hX (m := 1) (by decide) dX8_fact_23 ?_
    refine nv_icmp_ne hX 32 (by omega) (by omega) dX8_fact_24 (by decide) (fun c_24 => ?_) (fun q => absurd q (by decide))
    refine nv_iconst hX (m := 1) (by decide) dX8_fact_32 ?_
    refine rv_istore_n hX dX8_fact_33 (rv_st_2 rfl) ?_
    refine rv_iload_n hX dX8_fact_34 rfl ?_
    refine rv_iload_n hX dX8_fact_35 rfl ?_
    refine rv_aload_n hX dX8_fact_36 rfl ?_
    refine rv_getfR hX gX8_15_X8 h1 rfl dX8_fact_37 ?_
    refine rv_getfR hX gX8_35_X10 h3 rfl dX8_fact_40 ?_
    refine rv_invS hX iX8_51 mdX1_slotOf (x_slotOf hG (d := d - 1) hf (by omega)) (by omega) rfl rfl (Nat.le_of_ble_eq_true rfl) dX8_fact_43 (fun v h' hq => ?_) (fun E h' hq => by first | exact hq.elim | cases hq.2 | cases hq.1)
    obtain ⟨rfl, hq⟩ := hq
    cases hq
    refine rv_iload_n hX dX8_fact_46 rfl ?_
    first | refine nv_imul hX dX8_fact_47 ?_ | refine rv_imul hX dX8_fact_47 ?_
    first | refine nv_isub hX (by omega) dX8_fact_48 ?_ | refine rv_isub hX dX8_fact_48 ?_
    refine rv_aload_n hX dX8_fact_49 rfl ?_
    refine rv_invVR hX iX8_54 mdX8_value h1 ⟨TX8, 3, rv_c7⟩ (hval (d - 1) (by omega)) (by omega) rfl rfl (Nat.le_of_ble_eq_true rfl) dX8_fact_50 (fun v h' hq => ?_) (fun E h' hq => by first | exact hq.elim | cases hq.2 | cases hq.1)
    obtain ⟨rfl, hq⟩ := hq
    cases hq
    refine rv_iload_n hX dX8_fact_53 rfl ?_
    first | refine nv_imul hX dX8_fact_54 ?_ | refine rv_imul hX dX8_fact_54 ?_
    first | refine nv_iadd hX dX8_fact_55 ?_ | refine rv_iadd hX dX8_fact_55 ?_
    refine rv_ireturn hX hE rfl ?_ dX8_fact_56
    rw [hgv]; exact ⟨rfl, rfl⟩
theorem x_groupGives {G : rv_G} (hG : rv_GK G) {d a ca ha f L : Nat} (hd : 3 ≤ d) {isd : Bool} {C : sp_C} {s : Nat} {bf : Nat → Int32} {has : Nat → Bool} {h : rv_H} (hC : xCl G isd (rv_rd G h) ca C) (hw : sp_wfH C.hts) (hl : C.hts.length ≤ 3) (hs : C.gath = some s) (h1 : rv_rd G h a (cO 7 [.ref ca, .ref ha, .int (nI L)])) (h2 : rv_rd G h ha (cZ 100 bf)) (hb : xhas has bf) (hne : 0 < L → ∃ g, g < 100 ∧ has g = true) (hL : L < 2147483648) (hf : f < 8000000) : rv_Call G d yX8_gives wX8_gives [.ref a, .int (nI f)] h (xN (fun u h' => h' = h ∧ u = some (.int (rv_z (decide (0 < L ∧ sp_reslot f s (sp_min99 (sp_agg ((C.gt - 200) / 8) has)) = f)))))) := by
  refine rv_start hG (by decide +kernel) (L := [some (.ref a), some (.int (nI f))]) rfl (Nat.le_of_ble_eq_true rfl) (fun X hX1 hX hE => ?_)
  subst hX1
  obtain ⟨t1, t2⟩ := sp_gt_at hs
  have hsl := (List.getElem?_eq_some_iff.mp t1).1
  generalize hgv : sp_min99 (sp_agg ((C.gt - 200) / 8) has) = gv
  have hgv2 : gv ≤ 99 := by
    rw [← hgv]
    unfold sp_min99
    split <;> omega
  have hrs : sp_reslot f s gv < 2147483648 := by
    have : sp_wt s ≤ 10000 := by
      rcases (by omega : s = 0 ∨ s = 1 ∨ s = 2) with e | e | e <;> subst e <;> decide
    have := Nat.mul_le_mul hgv2 this
    unfold sp_reslot
    omega
  have hval : 0 < L → ∀ dd, 2 ≤ dd → rv_Call X.1 dd yX8_fact wX8_fact [.ref a, .int (nI f)] h (xN (fun u h' => h' = h ∧ u = some (.int (nI (sp_reslot f s gv))))) := fun hL0 dd hdd => by
    rw [← hgv]
    exact x_groupFact hG hdd hC hw hl hs h1 h2 hb (hne hL0) (by omega)
  refine rv_aload_n hX dX8_gives_0 rfl ?_
  refine rv_getfR hX gX8_19_X8 h1 rfl dX8_gives_1 ?_
  first | refine nv_if_le hX 20 (by omega) dX8_gives_4 (by decide) (fun c_4 => ?_) (fun c_4 => ?_) | refine rv_if_le hX 20 dX8_gives_4 (by decide) (fun c_4 => ?_) (fun c_4 => ?_)
  · skip
    have e : decide (0 < L ∧ sp_reslot f s gv = f) = false := decide_eq_false (by omega)
    refine nv_iconst hX (m := 0) (by decide) dX8_gives_20 ?_
    refine rv_ireturn hX hE rfl ?_ dX8_gives_21
    exact ⟨rfl, by rw [hgv, e]; rfl⟩
  · skip
    refine rv_aload_n hX dX8_gives_7 rfl ?_
    refine rv_iload_n hX dX8_gives_8 rfl ?_
    refine rv_invVR hX iX8_58 mdX8_fact h1 ⟨TX8, 3, rv_c7⟩ (hval (by omega) (d - 1) (by omega)) (by omega) rfl rfl (Nat.le_of_ble_eq_true rfl) dX8_gives_9 (fun v h' hq => ?_) (fun E h' hq => by first | exact hq.elim | cases hq.2 | cases hq.1)
    obtain ⟨rfl, hq⟩ := hq
    cases hq
    refine rv_iload_n hX dX8_gives_12 rfl ?_
    first | refine nv_icmp_ne hX 20 (by omega) (by omega) dX8_gives_13 (by decide) (fun c_13 => ?_) (fun c_13 => ?_) | refine rv_icmp_ne hX 20 dX8_gives_13 (by decide) (fun c_13 => ?_) (fun c_13 => ?_)
    · skip
      have e : decide (0 < L ∧ sp_reslot f s gv = f) = false := decide_eq_false (by omega)
      refine nv_iconst hX (m := 0) (by decide) dX8_gives_20 ?_
      refine rv_ireturn hX hE rfl ?_ dX8_gives_21
      exact ⟨rfl, by rw [hgv, e]; rfl⟩
    · skip
      have e : decide (0 < L ∧ sp_reslot f s gv = f) = true := decide_eq_true (by omega)
      refine nv_iconst hX (m := 1) (by decide) dX8_gives_16 ?_
      refine rv_goto hX 21 dX8_gives_17 (by decide) ?_
      refine rv_ireturn hX hE rfl ?_ dX8_gives_21
      exact ⟨rfl, by rw [hgv, e]; rfl⟩
