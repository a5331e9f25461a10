/-! THE REFERENCE: terms and items typed -/
set_option maxRecDepth 100000
theorem sp_getD_snoc {l : List Nat} {x k : Nat} : (l ++ [x]).getD k 0 = if k = l.length then x else l.getD k 0 := by
  rw [List.getD_eq_getElem?_getD, List.getD_eq_getElem?_getD]
  by_cases h : k = l.length
  · rw [if_pos h, h, List.getElem?_append_right (Nat.le_refl _), Nat.sub_self]
    rfl
  · rw [if_neg h]
    by_cases h2 : k < l.length
    · rw [List.getElem?_append_left h2]
    · rw [List.getElem?_eq_none (by rw [List.length_append]; show l.length + 1 ≤ k; omega), List.getElem?_eq_none (by omega)]
theorem m_addTerm {G : rv_G} (hG : rv_GK G) {d : Nat} {σ : rv_S} {S : List Nat} {dr : wDr} {t : Nat} (hS : mRel σ S) (h : mDraft σ S dr) (hw : wfD S dr) (hk : dr.k ≠ 0) (hl : dr.lacks S = true) : mC G d yX4_addTerm wX4_addTerm [.int (nI t)] σ (mPv (fun τ => mDraft τ S (dr.addT t) ∧ mAgr σ τ ∧ rv_same [24] [5, 9] σ τ)) := by
  refine mv_start hG (by decide +kernel) (Nat.le_of_ble_eq_true rfl) (fun X Hb o hX1 hX hE => ?_)
  subst hX1
  show rv_V X (rv_mh Hb o _) 0 [some (.ref o), some (.int (nI t))] []
  obtain ⟨m1, m2, m3, m4, m5, m6⟩ := h
  obtain ⟨h1, h2, h3, h4, h5, h6, h7⟩ := m6 hk
  obtain ⟨w1, w2, w3, w4, w5, w6, w7, w8, w9⟩ := hw.2.2.2 hk
  have hS3 := hS.2.2.1
  have hrel3 := (hS3 _ (List.mem_of_getElem? (sp_S_getD h2))).2
  unfold wDr.lacks at hl
  have hl := of_decide_eq_true hl
  refine rv_aload_n hX dX4_addTerm_0 rfl ?_
  refine mv_ga hX (k := 6) (j := 6) gX4_25_X4 (by decide) rfl (by decide) dX4_addTerm_1 ?_
  refine nv_bipush hX (m := 16) (by decide) dX4_addTerm_4 ?_
  refine mv_ld hX (j := 6) (by decide) (by decide) rfl (by decide) (show _ < 17 by omega) dX4_addTerm_6 ?_
  rw [h3]
  first | refine zv_if_ne hX 26 dX4_addTerm_7 (by decide) (fun c_7 => ?_) (fun c_7 => ?_) | refine nv_if_ne hX 26 (by omega) dX4_addTerm_7 (by decide) (fun c_7 => ?_) (fun c_7 => ?_) | refine rv_if_ne hX 26 dX4_addTerm_7 (by decide) (fun c_7 => ?_) (fun c_7 => ?_)
  · skip
    obtain ⟨it, hit1, hit2⟩ := sp_last_get (l := dr.its) (fun e => by rw [e] at c_7; exact absurd c_7 (by decide))
    have hpre := w8 it (List.mem_of_getElem? hit2)
    have ht : dr.typed = it.2.2.length := by unfold wDr.typed; rw [hit1]
    have hwt : dr.want S = sp_tof S it := by unfold wDr.want; rw [hit1]
    have ha : dr.addT t = d_mk dr.k dr.mod dr.sal dr.tells dr.rel dr.hts (dr.its.dropLast ++ [(it.1, it.2.1, it.2.2 ++ [t])]) := by unfold wDr.addT; rw [hit1]
    have htof : ∀ it, it ∈ dr.its → sp_tof S it ≤ 3 := fun it hm => by
      unfold sp_tof
      split
      · rename_i q
        exact (hS3 _ (List.mem_of_getElem? (sp_S_getD ((w8 it hm).2.1 q)))).2
      · split <;> omega
    have htof1 := htof it (List.mem_of_getElem? hit2)
    rw [ht] at h5
    refine rv_aload_n hX dX4_addTerm_26 rfl ?_
    refine mv_ga hX (k := 9) (j := 9) gX4_34_X4 (by decide) rfl (by decide) dX4_addTerm_27 ?_
    refine nv_iconst hX (m := 3) (by decide) dX4_addTerm_30 ?_
    refine nv_bipush hX (m := 96) (by decide) dX4_addTerm_31 ?_
    refine rv_aload_n hX dX4_addTerm_33 rfl ?_
    refine mv_ga hX (k := 6) (j := 6) gX4_25_X4 (by decide) rfl (by decide) dX4_addTerm_34 ?_
    refine nv_bipush hX (m := 16) (by decide) dX4_addTerm_37 ?_
    refine mv_ld hX (j := 6) (by decide) (by decide) rfl (by decide) (show _ < 17 by omega) dX4_addTerm_39 ?_
    rw [h3]
    first | refine nv_iadd hX dX4_addTerm_40 ?_ | refine rv_iadd hX dX4_addTerm_40 ?_
    refine nv_iconst hX (m := 1) (by decide) dX4_addTerm_41 ?_
    first | refine nv_isub hX (by omega) dX4_addTerm_42 ?_ | refine rv_isub hX dX4_addTerm_42 ?_
    first | refine nv_imul hX dX4_addTerm_43 ?_ | refine rv_imul hX dX4_addTerm_43 ?_
    refine rv_aload_n hX dX4_addTerm_44 rfl ?_
    refine mv_gi hX (k := 24) gX4_296_X4 (by decide) rfl dX4_addTerm_45 ?_
    rw [h5]
    first | refine nv_iadd hX dX4_addTerm_48 ?_ | refine rv_iadd hX dX4_addTerm_48 ?_
    refine rv_iload_n hX dX4_addTerm_49 rfl ?_
    refine mv_st hX (j := 9) (by decide) (by decide) rfl (by decide) (show _ < 306 by omega) dX4_addTerm_50 ?_
    refine rv_aload_n hX dX4_addTerm_51 rfl ?_
    refine rv_dup hX dX4_addTerm_52 rfl ?_
    refine mv_gi hX (k := 24) gX4_296_X4 (by decide) rfl dX4_addTerm_53 ?_
    rw [show (rv_sU σ _ _ (nI t)).1 24 = _ from h5]
    refine nv_iconst hX (m := 1) (by decide) dX4_addTerm_56 ?_
    first | refine nv_iadd hX dX4_addTerm_57 ?_ | refine rv_iadd hX dX4_addTerm_57 ?_
    refine mv_pi hX (k := 24) pX4_296_X4 (by decide) rfl rfl rfl dX4_addTerm_58 ?_
    refine mv_retv hX hE dX4_addTerm_61 ?_
    first
    | (rw [ha]
       refine ⟨?_, mAgr.of (fs := [24]) (js := [5, 9]) (((rv_same.u (by decide)).tr (.f (by decide)))) (fun e he hj i hi => ?_), (rv_same.u (by decide)).tr (.f (by decide))⟩
       · refine ⟨m1, m2, m3, m4, m5, fun _ => ⟨h1, h2, h3, h4, ?_, fun k hk3 => ?_, h7⟩⟩
         · show nI (dr.hts.length + 1) = nI (d_mk dr.k dr.mod dr.sal dr.tells dr.rel (dr.hts ++ [t]) dr.its).typed
           congr 1
           show _ = match dr.its.getLast? with
             | none => (dr.hts ++ [t]).length
             | some it => it.2.2.length
           rw [hn]
           show _ = (dr.hts ++ [t]).length
           rw [List.length_append]
           rfl
         · show (rv_sU σ 5 (48 + dr.hts.length) (nI t)).2.1 5 (48 + k) = nI ((dr.hts ++ [t]).getD k 0)
           rw [sp_getD_snoc, rv_sU_2]
           by_cases q : k = dr.hts.length
           · rw [if_pos ⟨rfl, by omega⟩, if_pos q]
           · rw [if_neg (fun q2 => q (by have := q2.2; omega)), if_neg q]
             exact h6 k hk3
       · show (rv_sU σ 5 (48 + dr.hts.length) (nI t)).2.1 e.1 i = _
         rw [rv_sU_2, if_neg]
         intro q
         have : e = (5, 48) ∨ e = (9, 288) := by
           clear q hi
           revert hj
           revert he
           revert e
           decide
         rcases this with rfl | rfl
         · have : i < 48 := hi
           have := q.2
           omega
         · exact absurd q.1 (by decide))
    | (rw [ha]
       have hlen : 0 < dr.its.length := by omega
       refine ⟨?_, mAgr.of (fs := [24]) (js := [5, 9]) (((rv_same.u (by decide)).tr (.f (by decide)))) (fun e he hj i hi => ?_), (rv_same.u (by decide)).tr (.f (by decide))⟩
       · refine ⟨m1, m2, m3, m4, m5, fun _ => ⟨h1, h2, ?_, ?_, ?_, h6, fun i x hx => ?_⟩⟩
         · show σ.2.1 6 16 = nI (dr.its.dropLast ++ [(it.1, it.2.1, it.2.2 ++ [t])]).length
           rw [h3, List.length_append, List.length_dropLast]
           congr 1
           show _ = dr.its.length - 1 + 1
           omega
         · show (dr.its.dropLast ++ [(it.1, it.2.1, it.2.2 ++ [t])]).length ≤ 6
           rw [List.length_append, List.length_dropLast]
           show dr.its.length - 1 + 1 ≤ 6
           omega
         · show nI (it.2.2.length + 1) = nI (d_mk dr.k dr.mod dr.sal dr.tells dr.rel dr.hts (dr.its.dropLast ++ [(it.1, it.2.1, it.2.2 ++ [t])])).typed
           congr 1
           show _ = match (dr.its.dropLast ++ [(it.1, it.2.1, it.2.2 ++ [t])]).getLast? with
             | none => dr.hts.length
             | some it => it.2.2.length
           rw [List.getLast?_concat]
           show _ = (it.2.2 ++ [t]).length
           rw [List.length_append]
           rfl
         · have hx' : (dr.its.dropLast ++ [(it.1, it.2.1, it.2.2 ++ [t])])[i]? = some x := hx
           have hg : ∀ j, (rv_sU σ 9 (3 * (96 + dr.its.length - 1) + it.2.2.length) (nI t)).2.1 9 j = if j = 3 * (96 + dr.its.length - 1) + it.2.2.length then nI t else σ.2.1 9 j := fun j => by
             rw [rv_sU_2]
             by_cases q : j = 3 * (96 + dr.its.length - 1) + it.2.2.length
             · rw [if_pos ⟨rfl, q⟩, if_pos q]
             · rw [if_neg (fun q2 => q q2.2), if_neg q]
           by_cases q : i = dr.its.length - 1
           · rw [List.getElem?_append_right (by rw [List.length_dropLast]; omega), List.length_dropLast, q, Nat.sub_self] at hx'
             cases hx'
             obtain ⟨i1, i2, i3⟩ := h7 _ it hit2
             rw [q]
             refine ⟨i1, i2, fun k u hu => ?_⟩
             have hu' : (it.2.2 ++ [t])[k]? = some u := hu
             show (rv_sU σ 9 (3 * (96 + dr.its.length - 1) + it.2.2.length) (nI t)).2.1 9 _ = _
             rw [hg]
             by_cases q2 : k < it.2.2.length
             · rw [List.getElem?_append_left q2] at hu'
               rw [if_neg (by omega)]
               exact i3 k u hu'
             · have hk9 := (List.getElem?_eq_some_iff.mp hu').1
               rw [List.length_append] at hk9
               have hk8 : k < it.2.2.length + 1 := hk9
               have hk7 : k = it.2.2.length := by omega
               subst hk7
               rw [List.getElem?_append_right (Nat.le_refl _), Nat.sub_self] at hu'
               cases hu'
               rw [if_pos (by omega)]
           · have hi1 : i < dr.its.length - 1 := by
               have hk9 := (List.getElem?_eq_some_iff.mp hx').1
               rw [List.length_append, List.length_dropLast] at hk9
               have hk8 : i < dr.its.length - 1 + 1 := hk9
               omega
             rw [List.getElem?_append_left (by rw [List.length_dropLast]; exact hi1), List.dropLast_eq_take, List.getElem?_take, if_pos hi1] at hx'
             obtain ⟨i1, i2, i3⟩ := h7 i x hx'
             have hx3 := htof x (List.mem_of_getElem? hx')
             have hx4 := (w8 x (List.mem_of_getElem? hx')).2.2.2.2.1
             refine ⟨i1, i2, fun k u hu => ?_⟩
             have hk9 := (List.getElem?_eq_some_iff.mp hu).1
             show (rv_sU σ 9 (3 * (96 + dr.its.length - 1) + it.2.2.length) (nI t)).2.1 9 _ = _
             rw [hg, if_neg (by omega)]
             exact i3 k u hu
       · show (rv_sU σ 9 (3 * (96 + dr.its.length - 1) + it.2.2.length) (nI t)).2.1 e.1 i = _
         rw [rv_sU_2, if_neg]
         intro q
         have : e = (5, 48) ∨ e = (9, 288) := by
           clear q hi
           revert hj
           revert he
           revert e
           decide
         rcases this with rfl | rfl
         · exact absurd q.1 (by decide)
         · have : i < 288 := hi
           have := q.2
           omega)
  · skip
    have hn : dr.its = [] := List.eq_nil_of_length_eq_zero (by omega)
    have ht : dr.typed = dr.hts.length := by unfold wDr.typed; rw [hn]; rfl
    have hwt : dr.want S = S.getD dr.rel 0 := by unfold wDr.want; rw [hn]; rfl
    have ha : dr.addT t = d_mk dr.k dr.mod dr.sal dr.tells dr.rel (dr.hts ++ [t]) dr.its := by unfold wDr.addT; rw [hn]; rfl
    rw [ht] at h5
    refine rv_aload_n hX dX4_addTerm_10 rfl ?_
    refine mv_ga hX (k := 5) (j := 5) gX4_22_X4 (by decide) rfl (by decide) dX4_addTerm_11 ?_
    refine nv_bipush hX (m := 48) (by decide) dX4_addTerm_14 ?_
    refine rv_aload_n hX dX4_addTerm_16 rfl ?_
    refine mv_gi hX (k := 24) gX4_296_X4 (by decide) rfl dX4_addTerm_17 ?_
    rw [h5]
    first | refine nv_iadd hX dX4_addTerm_20 ?_ | refine rv_iadd hX dX4_addTerm_20 ?_
    refine rv_iload_n hX dX4_addTerm_21 rfl ?_
    refine mv_st hX (j := 5) (by decide) (by decide) rfl (by decide) (show _ < 51 by omega) dX4_addTerm_22 ?_
    refine rv_goto hX 51 dX4_addTerm_23 (by decide) ?_
    refine rv_aload_n hX dX4_addTerm_51 rfl ?_
    refine rv_dup hX dX4_addTerm_52 rfl ?_
    refine mv_gi hX (k := 24) gX4_296_X4 (by decide) rfl dX4_addTerm_53 ?_
    rw [show (rv_sU σ _ _ (nI t)).1 24 = _ from h5]
    refine nv_iconst hX (m := 1) (by decide) dX4_addTerm_56 ?_
    first | refine nv_iadd hX dX4_addTerm_57 ?_ | refine rv_iadd hX dX4_addTerm_57 ?_
    refine mv_pi hX (k := 24) pX4_296_X4 (by decide) rfl rfl rfl dX4_addTerm_58 ?_
    refine mv_retv hX hE dX4_addTerm_61 ?_
    first
    | (rw [ha]
       refine ⟨?_, mAgr.of (fs := [24]) (js := [5, 9]) (((rv_same.u (by decide)).tr (.f (by decide)))) (fun e he hj i hi => ?_), (rv_same.u (by decide)).tr (.f (by decide))⟩
       · refine ⟨m1, m2, m3, m4, m5, fun _ => ⟨h1, h2, h3, h4, ?_, fun k hk3 => ?_, h7⟩⟩
         · show nI (dr.hts.length + 1) = nI (d_mk dr.k dr.mod dr.sal dr.tells dr.rel (dr.hts ++ [t]) dr.its).typed
           congr 1
           show _ = match dr.its.getLast? with
             | none => (dr.hts ++ [t]).length
             | some it => it.2.2.length
           rw [hn]
           show _ = (dr.hts ++ [t]).length
           rw [List.length_append]
           rfl
         · show (rv_sU σ 5 (48 + dr.hts.length) (nI t)).2.1 5 (48 + k) = nI ((dr.hts ++ [t]).getD k 0)
           rw [sp_getD_snoc, rv_sU_2]
           by_cases q : k = dr.hts.length
           · rw [if_pos ⟨rfl, by omega⟩, if_pos q]
           · rw [if_neg (fun q2 => q (by have := q2.2; omega)), if_neg q]
             exact h6 k hk3
       · show (rv_sU σ 5 (48 + dr.hts.length) (nI t)).2.1 e.1 i = _
         rw [rv_sU_2, if_neg]
         intro q
         have : e = (5, 48) ∨ e = (9, 288) := by
           clear q hi
           revert hj
           revert he
           revert e
           decide
         rcases this with rfl | rfl
         · have : i < 48 := hi
           have := q.2
           omega
         · exact absurd q.1 (by decide))
    | (rw [ha]
       have hlen : 0 < dr.its.length := by omega
       refine ⟨?_, mAgr.of (fs := [24]) (js := [5, 9]) (((rv_same.u (by decide)).tr (.f (by decide)))) (fun e he hj i hi => ?_), (rv_same.u (by decide)).tr (.f (by decide))⟩
       · refine ⟨m1, m2, m3, m4, m5, fun _ => ⟨h1, h2, ?_, ?_, ?_, h6, fun i x hx => ?_⟩⟩
         · show σ.2.1 6 16 = nI (dr.its.dropLast ++ [(it.1, it.2.1, it.2.2 ++ [t])]).length
           rw [h3, List.length_append, List.length_dropLast]
           congr 1
           show _ = dr.its.length - 1 + 1
           omega
         · show (dr.its.dropLast ++ [(it.1, it.2.1, it.2.2 ++ [t])]).length ≤ 6
           rw [List.length_append, List.length_dropLast]
           show dr.its.length - 1 + 1 ≤ 6
           omega
         · show nI (it.2.2.length + 1) = nI (d_mk dr.k dr.mod dr.sal dr.tells dr.rel dr.hts (dr.its.dropLast ++ [(it.1, it.2.1, it.2.2 ++ [t])])).typed
           congr 1
           show _ = match (dr.its.dropLast ++ [(it.1, it.2.1, it.2.2 ++ [t])]).getLast? with
             | none => dr.hts.length
             | some it => it.2.2.length
           rw [List.getLast?_concat]
           show _ = (it.2.2 ++ [t]).length
           rw [List.length_append]
           rfl
         · have hx' : (dr.its.dropLast ++ [(it.1, it.2.1, it.2.2 ++ [t])])[i]? = some x := hx
           have hg : ∀ j, (rv_sU σ 9 (3 * (96 + dr.its.length - 1) + it.2.2.length) (nI t)).2.1 9 j = if j = 3 * (96 + dr.its.length - 1) + it.2.2.length then nI t else σ.2.1 9 j := fun j => by
             rw [rv_sU_2]
             by_cases q : j = 3 * (96 + dr.its.length - 1) + it.2.2.length
             · rw [if_pos ⟨rfl, q⟩, if_pos q]
             · rw [if_neg (fun q2 => q q2.2), if_neg q]
           by_cases q : i = dr.its.length - 1
           · rw [List.getElem?_append_right (by rw [List.length_dropLast]; omega), List.length_dropLast, q, Nat.sub_self] at hx'
             cases hx'
             obtain ⟨i1, i2, i3⟩ := h7 _ it hit2
             rw [q]
             refine ⟨i1, i2, fun k u hu => ?_⟩
             have hu' : (it.2.2 ++ [t])[k]? = some u := hu
             show (rv_sU σ 9 (3 * (96 + dr.its.length - 1) + it.2.2.length) (nI t)).2.1 9 _ = _
             rw [hg]
             by_cases q2 : k < it.2.2.length
             · rw [List.getElem?_append_left q2] at hu'
               rw [if_neg (by omega)]
               exact i3 k u hu'
             · have hk9 := (List.getElem?_eq_some_iff.mp hu').1
               rw [List.length_append] at hk9
               have hk8 : k < it.2.2.length + 1 := hk9
               have hk7 : k = it.2.2.length := by omega
               subst hk7
               rw [List.getElem?_append_right (Nat.le_refl _), Nat.sub_self] at hu'
               cases hu'
               rw [if_pos (by omega)]
           · have hi1 : i < dr.its.length - 1 := by
               have hk9 := (List.getElem?_eq_some_iff.mp hx').1
               rw [List.length_append, List.length_dropLast] at hk9
               have hk8 : i < dr.its.length - 1 + 1 := hk9
               omega
             rw [List.getElem?_append_left (by rw [List.length_dropLast]; exact hi1), List.dropLast_eq_take, List.getElem?_take, if_pos hi1] at hx'
             obtain ⟨i1, i2, i3⟩ := h7 i x hx'
             have hx3 := htof x (List.mem_of_getElem? hx')
             have hx4 := (w8 x (List.mem_of_getElem? hx')).2.2.2.2.1
             refine ⟨i1, i2, fun k u hu => ?_⟩
             have hk9 := (List.getElem?_eq_some_iff.mp hu).1
             show (rv_sU σ 9 (3 * (96 + dr.its.length - 1) + it.2.2.length) (nI t)).2.1 9 _ = _
             rw [hg, if_neg (by omega)]
             exact i3 k u hu
       · show (rv_sU σ 9 (3 * (96 + dr.its.length - 1) + it.2.2.length) (nI t)).2.1 e.1 i = _
         rw [rv_sU_2, if_neg]
         intro q
         have : e = (5, 48) ∨ e = (9, 288) := by
           clear q hi
           revert hj
           revert he
           revert e
           decide
         rcases this with rfl | rfl
         · exact absurd q.1 (by decide)
         · have : i < 288 := hi
           have := q.2
           omega)
