/-! THE SYSTEM: rules and deeds found, dropped -/
set_option maxRecDepth 100000
theorem j_removeO {G : rv_G} (hG : rv_GK G) {d a k v ci n m : Nat} (hd : 4 ≤ d) {C : String} {fs : List Value} {F : xF} {es : List Nat} {N : xM} {h : rv_H} (hse : (Cond.selects C ⟨"java/lang/Object", "equals", "(Ljava/lang/Object;)Z"⟩ yJ22_equals) ∈ lw_all) (hci : rv_rc ci C) (hv : xr G F v (cO ci fs)) (ha : xAL G a es N) (hk : es[k]? = some v) (hfirst : ∀ i e, i < k → es[i]? = some e → e ≠ v) (helm : ∀ e, e ∈ es → xElm G F e) (hH : xH G F N n m h) : rv_Call G d yJ2_remove_2 wJ2_remove_2 [.ref a, .ref v] h (xN (fun u h' => ∃ N', u = some (.int (nI 1)) ∧ xAL G a (es.eraseIdx k) N' ∧ xS G F h (xad N) N' n m h')) := by
  have hkl := (List.getElem?_eq_some_iff.mp hk).1
  rcases ha with ⟨mc, ed, ⟨cap, f, rfl, hcap, hle, hlf, hoa⟩ | ⟨rfl, -, -, -⟩⟩
  · skip
    refine rv_startF hG (by decide +kernel) (L := [some (.ref a), some (.ref v), none, none, none]) rfl (Nat.le_of_ble_eq_true rfl) (fun X hX1 hX hE => ?_)
    subst hX1
    have hS : xS X.1 F h [a, ed] [(a, lO mc ed es.length), (ed, cR cap f)] n m h := hH.start
    have loop : ∀ (z i : Nat), k - i < z → i ≤ k → rv_V X h 39 [some (.ref a), some (.ref v), some (.ref ed), some (.int (nI es.length)), some (.int (nI i))] [] := by
      intro z
      induction z with
      | zero => intro i g1; omega
      | succ z ih =>
        intro i g1 g2
        obtain ⟨e, he⟩ : ∃ e, es[i]? = some e := ⟨_, List.getElem?_eq_getElem (by omega)⟩
        by_cases hik : i = k
        · subst hik
          rw [hk] at he
          cases he
          refine rv_iload hX dJ2_remove_2_39 rfl ?_
          refine rv_iload_n hX dJ2_remove_2_41 rfl ?_
          refine nv_icmp_ge hX 65 (by omega) (by omega) dJ2_remove_2_42 (by decide) (fun q => absurd q (by omega)) (fun c_42 => ?_)
          refine rv_aload_n hX dJ2_remove_2_45 rfl ?_
          refine rv_aload_n hX dJ2_remove_2_46 rfl ?_
          refine rv_iload hX dJ2_remove_2_47 rfl ?_
          refine xv_aald hX (k := 4) rfl (hS.mc (k := 1) rfl) (by omega) (by omega) dJ2_remove_2_49 ?_
          rw [hlf _ _ hk]
          refine rv_invU hX jl_equals hse q791 rfl mdJ22_equals (d2 := d - 1) (b := v) (as := [.ref v]) (hS.f hv) hci (j_equals hG) (by omega) rfl rfl (Nat.le_of_ble_eq_true rfl) dJ2_remove_2_50 (fun v9 h' hq => ?_) (fun E h' hq => hq.elim)
          obtain ⟨rfl, hq⟩ := hq
          cases hq
          rw [decide_eq_true rfl]
          refine rv_if_eq hX 59 dJ2_remove_2_53 (by decide) (fun q => absurd q (by decide)) (fun c_53 => ?_)
          refine rv_goto hX 67 dJ2_remove_2_56 (by decide) ?_
          refine rv_aload_n hX dJ2_remove_2_67 rfl ?_
          refine rv_aload_n hX dJ2_remove_2_68 rfl ?_
          refine rv_iload hX dJ2_remove_2_69 rfl ?_
          refine rv_invVR hX iJ2_144 mdJ2_fastRemove (hS.mc (k := 0) rfl) ⟨TJ2, 3, rv_c17⟩ (j_fastRemove hG (d := d - 1) (by omega) (by omega) hle hlf hoa hkl (xlel_of helm hS.1) (fun e he => (helm e he).ne hS.1) (hS.cpre0 [1,1] 0 rfl rfl rfl)) (by omega) rfl rfl (Nat.le_of_ble_eq_true rfl) dJ2_remove_2_71 (fun v h' hq => ?_) (fun E h' hq => by first | exact hq.elim | cases hq.2 | cases hq.1)
          obtain ⟨f', hu, q1, q2, hQ⟩ := hq
          have hS := hS.cpost0 [1,1] 0 rfl rfl rfl hQ
          cases hu
          refine nv_iconst hX (m := 1) (by decide) dJ2_remove_2_74 ?_
          refine rv_ireturn hX hE rfl ?_ dJ2_remove_2_75
          have hl : (es.eraseIdx i).length = es.length - 1 := List.length_eraseIdx_of_lt hkl
          refine ⟨[(a, lO (mc + nI 1) ed (es.eraseIdx i).length), (ed, cR cap f')], rfl, xAL.of hcap (by rw [hl]; omega) q1 (by rw [hl]; exact q2), ?_⟩
          rw [hl]
          exact hS
        · have hne := hfirst i e (by omega) he
          refine rv_iload hX dJ2_remove_2_39 rfl ?_
          refine rv_iload_n hX dJ2_remove_2_41 rfl ?_
          refine nv_icmp_ge hX 65 (by omega) (by omega) dJ2_remove_2_42 (by decide) (fun q => absurd q (by omega)) (fun c_42 => ?_)
          refine rv_aload_n hX dJ2_remove_2_45 rfl ?_
          refine rv_aload_n hX dJ2_remove_2_46 rfl ?_
          refine rv_iload hX dJ2_remove_2_47 rfl ?_
          refine xv_aald hX (k := 4) rfl (hS.mc (k := 1) rfl) (by omega) (by omega) dJ2_remove_2_49 ?_
          rw [hlf _ _ he]
          refine rv_invU hX jl_equals hse q791 rfl mdJ22_equals (d2 := d - 1) (b := v) (as := [.ref e]) (hS.f hv) hci (j_equals hG) (by omega) rfl rfl (Nat.le_of_ble_eq_true rfl) dJ2_remove_2_50 (fun v9 h' hq => ?_) (fun E h' hq => hq.elim)
          obtain ⟨rfl, hq⟩ := hq
          cases hq
          rw [decide_eq_false (fun q => hne q.symm)]
          refine rv_if_eq hX 59 dJ2_remove_2_53 (by decide) (fun c_53 => ?_) (fun q => absurd rfl q)
          first | refine nv_iinc hX (m := 1) dJ2_remove_2_59 rfl (by decide) (rv_st_4 rfl) ?_ | refine rv_iinc hX dJ2_remove_2_59 rfl rfl (rv_st_4 rfl) ?_
          refine rv_goto hX 39 dJ2_remove_2_62 (by decide) ?_
          exact ih (i + 1) (by omega) (by omega)
    refine rv_aload_n hX dJ2_remove_2_0 rfl ?_
    refine rv_getfR hX gJ2_9_J2 (hS.mc (k := 0) rfl) rfl dJ2_remove_2_1 ?_
    refine rv_astore_n hX dJ2_remove_2_4 (rv_st_2 rfl) ?_
    refine rv_aload_n hX dJ2_remove_2_5 rfl ?_
    refine rv_getfR hX gJ2_48_J2 (hS.mc (k := 0) rfl) rfl dJ2_remove_2_6 ?_
    refine rv_istore_n hX dJ2_remove_2_9 (rv_st_3 rfl) ?_
    refine nv_iconst hX (m := 0) (by decide) dJ2_remove_2_10 ?_
    refine rv_istore hX dJ2_remove_2_11 (rv_st_4 rfl) ?_
    refine rv_aload_n hX dJ2_remove_2_13 rfl ?_
    refine rv_ifnonnull hX 39 dJ2_remove_2_14 (by decide) ?_
    exact loop _ 0 (Nat.lt_succ_self _) (Nat.zero_le _)
  · simp at hkl
theorem sp_find_at {Cs : List sp_C} {num : Int32} {k : Nat} (h : ∀ i C, i < k → Cs[i]? = some C → nI C.num ≠ num) : (k = Cs.length → sp_find Cs num = none) ∧ ∀ C, Cs[k]? = some C → nI C.num = num → sp_find Cs num = some k := by
  refine ⟨fun e => ?_, fun C hC hn => ?_⟩
  · unfold sp_find
    rw [List.findIdx?_eq_none_iff]
    intro C hC
    obtain ⟨i, hi⟩ := List.getElem?_of_mem hC
    exact decide_eq_false (h i C (by have := (List.getElem?_eq_some_iff.mp hi).1; omega) hi)
  · unfold sp_find
    rw [List.findIdx?_eq_some_iff_getElem]
    obtain ⟨hk, ek⟩ := List.getElem?_eq_some_iff.mp hC
    refine ⟨hk, by rw [ek]; exact decide_eq_true hn, fun j hj => ?_⟩
    simpa using h j Cs[j] hj (List.getElem?_eq_getElem (by omega))
theorem x_find {G : rv_G} (hG : rv_GK G) {d a n m : Nat} (hd : 8 ≤ d) {b : Bool} {num : Int32} {es : List Nat} {Cs : List sp_C} {F : xF} {h : rv_H} (hL : xLs G (xr G F) a es) (hEs : xEs (xr G F) (xCl G b) es Cs) (hn : 1 ≤ n) (hm : 6 ≤ m) (hH : xH G F [] n m h) : rv_Call G d yX1_find wX1_find [.ref a, .int num] h (xT (fun u h' => (∃ k C e, sp_find Cs num = some k ∧ Cs[k]? = some C ∧ es[k]? = some e ∧ nI C.num = num ∧ (∀ i C, i < k → Cs[i]? = some C → nI C.num ≠ num) ∧ u = some (.ref e)) ∧ h' = h) (fun E h' => E = RJ19 ∧ sp_find Cs num = none ∧ xS G F h [] [] (n - 1) (m - 6) h')) := by
  refine rv_start hG (by decide +kernel) (L := [some (.ref a), some (.int num), none]) rfl (Nat.le_of_ble_eq_true rfl) (fun X hX1 hX hE => ?_)
  subst hX1
  have hS := hH.start
  obtain ⟨lm, led, lcap, lf, l1, l2⟩ := id hL
  have hlen := hL.len
  have hlen2 := hEs.1
  have loop : ∀ (z k : Nat), Cs.length - k < z → k ≤ Cs.length → (∀ i C, i < k → Cs[i]? = some C → nI C.num ≠ num) → rv_V X h 2 [some (.ref a), some (.int num), some (.int (nI k))] [] := by
    intro z
    induction z with
    | zero => intro k g1; omega
    | succ z ih =>
      intro k g1 g2 g3
      obtain ⟨q1, q2⟩ := sp_find_at g3
      by_cases hk : k = Cs.length
      · skip
        refine rv_iload_n hX dX1_find_2 rfl ?_
        refine rv_aload_n hX dX1_find_3 rfl ?_
        refine rv_invVR hX iX1_58 mdJ2_size (hS.f l1) ⟨TJ2, 3, rv_c17⟩ (j_size hG (d := d - 1) (hL.mono (fun _ _ => hS.f)).L) (by omega) rfl rfl (Nat.le_of_ble_eq_true rfl) dX1_find_4 (fun v h' hq => ?_) (fun E h' hq => by first | exact hq.elim | cases hq.2 | cases hq.1)
        obtain ⟨rfl, hq⟩ := hq
        cases hq
        rw [hEs.1]
        refine nv_icmp_ge hX 40 (by omega) (by omega) dX1_find_7 (by decide) (fun c_7 => ?_) (fun q => absurd q (by omega))
        refine rv_throw0 hX hE (names := ["java/lang/RuntimeException", "java/lang/Exception"]) (by decide +kernel) (by decide +kernel) q1186 q149 (tw_IOB q1195) dX1_find_40 dX1_find_43 dX1_find_44 dX1_find_47 (by first | exact fun x hx => by cases hx | decide) (by show _ + 4 ≤ _; simp; omega) (by decide) (Nat.le_of_ble_eq_true rfl) (hS.1.cN (by omega)) (hS.1.cS (by omega)) (fun h_40 e1 e2 e3 e4 => ?_)
        have hS := hS.thrown (by omega) (by omega) e1 e2 e3 e4
        exact ⟨rfl, q1 hk, hS⟩
      · obtain ⟨C, hC⟩ : ∃ C, Cs[k]? = some C := ⟨_, List.getElem?_eq_getElem (by omega)⟩
        obtain ⟨e, he, hCl⟩ := xLp.get hEs.1 hEs.2 hC
        obtain ⟨hd1, bo, gk, md, sal, tl, h1, -⟩ := id hCl
        refine rv_iload_n hX dX1_find_2 rfl ?_
        refine rv_aload_n hX dX1_find_3 rfl ?_
        refine rv_invVR hX iX1_58 mdJ2_size (hS.f l1) ⟨TJ2, 3, rv_c17⟩ (j_size hG (d := d - 1) (hL.mono (fun _ _ => hS.f)).L) (by omega) rfl rfl (Nat.le_of_ble_eq_true rfl) dX1_find_4 (fun v h' hq => ?_) (fun E h' hq => by first | exact hq.elim | cases hq.2 | cases hq.1)
        obtain ⟨rfl, hq⟩ := hq
        cases hq
        rw [hEs.1]
        refine nv_icmp_ge hX 40 (by omega) (by omega) dX1_find_7 (by decide) (fun q => absurd q (by omega)) (fun c_7 => ?_)
        refine rv_aload_n hX dX1_find_10 rfl ?_
        refine rv_iload_n hX dX1_find_11 rfl ?_
        refine rv_invVR hX iX1_70 mdJ2_get (hS.f l1) ⟨TJ2, 3, rv_c17⟩ (j_get hG (d := d - 1) (by omega) (hL.mono (fun _ _ => hS.f)).L he) (by omega) rfl rfl (Nat.le_of_ble_eq_true rfl) dX1_find_12 (fun v h' hq => ?_) (fun E h' hq => by first | exact hq.elim | cases hq.2 | cases hq.1)
        obtain ⟨rfl, hq⟩ := hq
        cases hq
        refine rv_castOR hX (hS.f h1) rv_c9 q742 dX1_find_15 ?_
        refine rv_getfR hX gX1_91_X10 (hS.f h1) rfl dX1_find_18 ?_
        refine rv_iload_n hX dX1_find_21 rfl ?_
        first | refine nv_icmp_ne hX 34 (by omega) (by omega) dX1_find_22 (by decide) (fun c_22 => ?_) (fun c_22 => ?_) | refine rv_icmp_ne hX 34 dX1_find_22 (by decide) (fun c_22 => ?_) (fun c_22 => ?_)
        · skip
          first | refine nv_iinc hX (m := 1) dX1_find_34 rfl (by decide) (rv_st_2 rfl) ?_ | refine rv_iinc hX dX1_find_34 rfl rfl (rv_st_2 rfl) ?_
          refine rv_goto hX 2 dX1_find_37 (by decide) ?_
          refine ih (k + 1) (by omega) (by omega) (fun i C' hi hC' => ?_)
          by_cases e9 : i = k
          · subst e9
            rw [hC] at hC'
            cases hC'
            exact c_22
          · exact g3 i C' (by omega) hC'
        · skip
          refine rv_aload_n hX dX1_find_25 rfl ?_
          refine rv_iload_n hX dX1_find_26 rfl ?_
          refine rv_invVR hX iX1_70 mdJ2_get (hS.f l1) ⟨TJ2, 3, rv_c17⟩ (j_get hG (d := d - 1) (by omega) (hL.mono (fun _ _ => hS.f)).L he) (by omega) rfl rfl (Nat.le_of_ble_eq_true rfl) dX1_find_27 (fun v h' hq => ?_) (fun E h' hq => by first | exact hq.elim | cases hq.2 | cases hq.1)
          obtain ⟨rfl, hq⟩ := hq
          cases hq
          refine rv_castOR hX (hS.f h1) rv_c9 q742 dX1_find_30 ?_
          refine rv_areturn hX hE (Or.inl ⟨_, rfl⟩) (Or.inr ⟨_, rfl⟩) ?_ dX1_find_33
          exact ⟨⟨k, C, e, q2 C hC c_22, hC, he, c_22, g3, rfl⟩, rfl⟩
  refine nv_iconst hX (m := 0) (by decide) dX1_find_0 ?_
  refine rv_istore_n hX dX1_find_1 (rv_st_2 rfl) ?_
  exact loop _ 0 (Nat.lt_succ_self _) (Nat.zero_le _) (fun i C q => absurd q (Nat.not_lt_zero i))
