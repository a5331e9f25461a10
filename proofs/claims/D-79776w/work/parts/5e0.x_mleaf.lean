/-! THE SYSTEM: the matcher's leaves -/
set_option maxRecDepth 100000
abbrev mX (its len st tk vr fr : Nat) (nw ro : Int32) (ov : Bool) (rch : Nat) : rv_C := cO 8 [.ref its, .int (nI len), .ref st, .ref tk, .ref vr, .ref fr, .int nw, .int ro, .int (rv_z ov), .int (nI rch)]
/-- which facts an ATOM may take: by the round in which they came -/
def xal (F : List Nat) (r : Nat → Nat) (nw : Option (Nat × Nat)) (a k : Nat) : Bool := match nw with
  | none => true
  | some (j, q) => if a < j then decide (r (F.getD k 0) < q) else decide (j < a) || decide (r (F.getD k 0) = q)
def x3 (g : Nat → Nat) (w : Nat) : Nat → Nat
  | 0 => w
  | k + 1 => 100 * x3 g w k + g k
theorem x3_eq (g : Nat → Nat) (w : Nat) : x3 g w 3 = 1000000 * w + (10000 * g 0 + (100 * g 1 + g 2)) := by
  show 100 * (100 * (100 * w + g 0) + g 1) + g 2 = _
  omega
def xtv (v : sp_V) (ts : List Nat) (k : Nat) : Nat := if k < ts.length then (sp_val v (ts.getD k 0)).getD 0 else 0
theorem x3_num {v : sp_V} {w : Nat} {ts : List Nat} (h : ts.length ≤ 3) : x3 (xtv v ts) w 3 = sp_num v w ts := by
  rw [x3_eq]
  unfold sp_num
  congr 1
  match ts, h with
  | [], _ => rfl
  | [a], _ =>
    show 10000 * (sp_val v a).getD 0 + (100 * 0 + 0) = sp_wt 0 * (sp_val v a).getD 0 + 0
    show _ = 10000 * (sp_val v a).getD 0 + 0
    omega
  | [a, b], _ =>
    show 10000 * (sp_val v a).getD 0 + (100 * (sp_val v b).getD 0 + 0) = 10000 * (sp_val v a).getD 0 + (100 * (sp_val v b).getD 0 + 0)
    rfl
  | [a, b, c], _ =>
    show 10000 * (sp_val v a).getD 0 + (100 * (sp_val v b).getD 0 + (sp_val v c).getD 0) = 10000 * (sp_val v a).getD 0 + (100 * (sp_val v b).getD 0 + (1 * (sp_val v c).getD 0 + 0))
    omega
  | _ :: _ :: _ :: _ :: _, h => simp at h
theorem x_mask {G : rv_G} (hG : rv_GK G) {d a vr its len st tk fr rch : Nat} {nw ro : Int32} {ov : Bool} {v : sp_V} {f : Nat → Int32} {h : rv_H} (h1 : rv_rd G h a (mX its len st tk vr fr nw ro ov rch)) (h2 : rv_rd G h vr (cI 8 f)) (hv : xva v f) : rv_Call G d yX9_mask wX9_mask [.ref a] h (xN (fun u h' => h' = h ∧ ∃ x, u = some (.int x) ∧ mMsk x (fun k => (v k).isSome))) := by
  refine rv_start hG (by decide +kernel) (L := [some (.ref a), none, none]) rfl (Nat.le_of_ble_eq_true rfl) (fun X hX1 hX hE => ?_)
  subst hX1
  have loop : ∀ (z k : Nat) (x : Int32), 8 - k < z → k ≤ 8 → mMsk x (fun j => decide (j < k) && (v j).isSome) → rv_V X h 4 [some (.ref a), some (.int x), some (.int (nI k))] [] := by
    intro z
    induction z with
    | zero => intro k x g1; omega
    | succ z ih =>
      intro k x g1 g2 hx
      refine rv_iload_n hX dX9_mask_4 rfl ?_
      refine nv_bipush hX (m := 8) (by decide) dX9_mask_5 ?_
      first | refine nv_icmp_ge hX 36 (by omega) (by omega) dX9_mask_7 (by decide) (fun c_7 => ?_) (fun c_7 => ?_) | refine rv_icmp_ge hX 36 dX9_mask_7 (by decide) (fun c_7 => ?_) (fun c_7 => ?_)
      · skip
        refine rv_iload_n hX dX9_mask_36 rfl ?_
        refine rv_ireturn hX hE rfl ?_ dX9_mask_37
        refine ⟨rfl, _, rfl, hx.cg (fun j hj => ?_)⟩
        rw [decide_eq_true (show j < k by omega), Bool.true_and]
      · skip
        refine rv_iload_n hX dX9_mask_10 rfl ?_
        refine rv_aload_n hX dX9_mask_11 rfl ?_
        refine rv_getfR hX gX9_30_X9 h1 rfl dX9_mask_12 ?_
        refine rv_iload_n hX dX9_mask_15 rfl ?_
        refine xv_iald hX h2 (by omega) (by omega) dX9_mask_16 ?_
        rw [hv.1 k (by omega)]
        refine rv_iconst hX (v := -1) dX9_mask_17 (by decide) ?_
        first | refine nv_icmp_eq hX 27 (by omega) (by omega) dX9_mask_18 (by decide) (fun c_18 => ?_) (fun c_18 => ?_) | refine rv_icmp_eq hX 27 dX9_mask_18 (by decide) (fun c_18 => ?_) (fun c_18 => ?_)
        · skip
          have e := (rv_oi_m1 (fun b e => by have := hv.2 k b e; omega)).mp c_18
          have hy : mMsk (x ||| nI 0) (fun j => decide (j < k + 1) && (v j).isSome) := (hx.or mMsk.zero).cg (fun j hj => by
            show ((decide (j < k) && (v j).isSome) || false) = _
            by_cases ej : j = k
            · subst ej
              rw [e]
              simp
            · rw [Bool.or_false, show decide (j < k + 1) = decide (j < k) from decide_eq_decide.mpr (by omega)])
          refine nv_iconst hX (m := 0) (by decide) dX9_mask_27 ?_
          refine rv_ior hX dX9_mask_28 ?_
          refine rv_istore_n hX dX9_mask_29 (rv_st_1 rfl) ?_
          first | refine nv_iinc hX (m := 1) dX9_mask_30 rfl (by decide) (rv_st_2 rfl) ?_ | refine rv_iinc hX dX9_mask_30 rfl rfl (rv_st_2 rfl) ?_
          refine rv_goto hX 4 dX9_mask_33 (by decide) ?_
          exact ih _ _ (by omega) (by omega) hy
        · skip
          have e : (v k).isSome = true := by
            cases e : v k with
            | some b => rfl
            | none => exact absurd (by rw [e]; rfl) c_18
          have hy : mMsk (x ||| nI 1 <<< (nI k &&& 31)) (fun j => decide (j < k + 1) && (v j).isSome) := (hx.or (mMsk.one (show k < 8 by omega))).cg (fun j hj => by
            show ((decide (j < k) && (v j).isSome) || decide (j = k)) = _
            by_cases ej : j = k
            · subst ej
              rw [e]
              simp
            · rw [decide_eq_false ej, Bool.or_false, show decide (j < k + 1) = decide (j < k) from decide_eq_decide.mpr (by omega)])
          refine nv_iconst hX (m := 1) (by decide) dX9_mask_21 ?_
          refine rv_iload_n hX dX9_mask_22 rfl ?_
          refine rv_ishl hX dX9_mask_23 ?_
          refine rv_goto hX 28 dX9_mask_24 (by decide) ?_
          refine rv_ior hX dX9_mask_28 ?_
          refine rv_istore_n hX dX9_mask_29 (rv_st_1 rfl) ?_
          first | refine nv_iinc hX (m := 1) dX9_mask_30 rfl (by decide) (rv_st_2 rfl) ?_ | refine rv_iinc hX dX9_mask_30 rfl rfl (rv_st_2 rfl) ?_
          refine rv_goto hX 4 dX9_mask_33 (by decide) ?_
          exact ih _ _ (by omega) (by omega) hy
  refine nv_iconst hX (m := 0) (by decide) dX9_mask_0 ?_
  refine rv_istore_n hX dX9_mask_1 (rv_st_1 rfl) ?_
  refine nv_iconst hX (m := 0) (by decide) dX9_mask_2 ?_
  refine rv_istore_n hX dX9_mask_3 (rv_st_2 rfl) ?_
  exact loop 9 0 _ (by omega) (by omega) (mMsk.zero.cg (fun j _ => by simp))
theorem x_unbind {G : rv_G} (hG : rv_GK G) {d a vr its len st tk fr rch : Nat} {nw ro x : Int32} {ov : Bool} {w : sp_V} {V : Nat → Bool} {f : Nat → Int32} {h : rv_H} {F : xF} {n m : Nat} (hH : xH G F [(a, mX its len st tk vr fr nw ro ov rch), (vr, cI 8 f)] n m h) (hv : xva w f) (hx : mMsk x V) : rv_Call G d yX9_unbind wX9_unbind [.ref a, .int x] h (xN (fun u h' => ∃ f', u = none ∧ xva (fun k => if V k = true then w k else none) f' ∧ xS G F h [a, vr] [(a, mX its len st tk vr fr nw ro ov rch), (vr, cI 8 f')] n m h')) := by
  refine rv_start hG (by decide +kernel) (L := [some (.ref a), some (.int x), none]) rfl (Nat.le_of_ble_eq_true rfl) (fun X hX1 hX hE => ?_)
  subst hX1
  have loop : ∀ (z k : Nat) (g : Nat → Int32) (h1 : rv_H), 8 - k < z → k ≤ 8 → (∀ j, j < 8 → g j = if j < k then rv_oi (if V j = true then w j else none) else f j) → xS X.1 F h [a, vr] [(a, mX its len st tk vr fr nw ro ov rch), (vr, cI 8 g)] n m h1 → rv_V X h1 2 [some (.ref a), some (.int x), some (.int (nI k))] [] := by
    intro z
    induction z with
    | zero => intro k g h1 g1; omega
    | succ z ih =>
      intro k g h1 g1 g2 hg hS
      have step : ∀ y : Int32, k < 8 → y = rv_oi (if V k = true then w k else none) → ∀ j, j < 8 → va_up g k y j = if j < k + 1 then rv_oi (if V j = true then w j else none) else f j := by
        intro y hk ey j hj
        unfold va_up
        by_cases e : j = k
        · subst e
          rw [if_pos rfl, if_pos (by omega), ey]
        · rw [if_neg e, hg j hj]
          by_cases e2 : j < k
          · rw [if_pos e2, if_pos (show j < k + 1 by omega)]
          · rw [if_neg e2, if_neg (show ¬ j < k + 1 by omega)]
      refine rv_iload_n hX dX9_unbind_2 rfl ?_
      refine nv_bipush hX (m := 8) (by decide) dX9_unbind_3 ?_
      first | refine nv_icmp_ge hX 39 (by omega) (by omega) dX9_unbind_5 (by decide) (fun c_5 => ?_) (fun c_5 => ?_) | refine rv_icmp_ge hX 39 dX9_unbind_5 (by decide) (fun c_5 => ?_) (fun c_5 => ?_)
      · skip
        refine rv_return hX hE ?_ dX9_unbind_39
        refine ⟨g, rfl, ⟨fun j hj => ?_, fun j b e => ?_⟩, hS⟩
        · rw [hg j hj, if_pos (by omega)]
        · have e' : (if V j = true then w j else none) = some b := e
          split at e'
          · exact hv.2 j b e'
          · cases e'
      · skip
        refine rv_aload_n hX dX9_unbind_8 rfl ?_
        refine rv_getfR hX gX9_30_X9 (hS.mc (k := 0) rfl) rfl dX9_unbind_9 ?_
        refine rv_iload_n hX dX9_unbind_12 rfl ?_
        refine rv_iload_n hX dX9_unbind_13 rfl ?_
        refine rv_iload_n hX dX9_unbind_14 rfl ?_
        refine rv_ishr hX dX9_unbind_15 ?_
        refine nv_iconst hX (m := 1) (by decide) dX9_unbind_16 ?_
        refine rv_iand hX dX9_unbind_17 ?_
        refine nv_iconst hX (m := 1) (by decide) dX9_unbind_18 ?_
        first | refine nv_icmp_ne hX 31 (by omega) (by omega) dX9_unbind_19 (by decide) (fun c_19 => ?_) (fun c_19 => ?_) | refine rv_icmp_ne hX 31 dX9_unbind_19 (by decide) (fun c_19 => ?_) (fun c_19 => ?_)
        · skip
          have e : V k = false := by
            have := hx k
            rw [decide_eq_true (show k < 8 by omega), Bool.true_and] at this
            rw [← this]
            cases eb : ib x k with
            | false => rfl
            | true => exact absurd ((ib_test (show k < 32 by omega) x).mpr eb) c_19
          have hy := step (-1) (by omega) (by rw [e]; rfl)
          refine rv_iconst hX (v := -1) dX9_unbind_31 (by decide) ?_
          refine xv_iast hX hS (k := 1) rfl (by omega) (by omega) dX9_unbind_32 (fun h_32 hS => ?_)
          first | refine nv_iinc hX (m := 1) dX9_unbind_33 rfl (by decide) (rv_st_2 rfl) ?_ | refine rv_iinc hX dX9_unbind_33 rfl rfl (rv_st_2 rfl) ?_
          refine rv_goto hX 2 dX9_unbind_36 (by decide) ?_
          exact ih _ _ _ (by omega) (by omega) hy hS
        · skip
          have e : V k = true := by
            have := hx k
            rw [decide_eq_true (show k < 8 by omega), Bool.true_and] at this
            rw [← this]
            exact (ib_test (show k < 32 by omega) x).mp c_19
          have hy := step (g k) (by omega) (by rw [e, hg k (by omega), if_neg (Nat.lt_irrefl _), hv.1 k (by omega), if_pos rfl])
          refine rv_aload_n hX dX9_unbind_22 rfl ?_
          refine rv_getfR hX gX9_30_X9 (hS.mc (k := 0) rfl) rfl dX9_unbind_23 ?_
          refine rv_iload_n hX dX9_unbind_26 rfl ?_
          refine xv_iald hX (hS.mc (k := 1) rfl) (by omega) (by omega) dX9_unbind_27 ?_
          refine rv_goto hX 32 dX9_unbind_28 (by decide) ?_
          refine xv_iast hX hS (k := 1) rfl (by omega) (by omega) dX9_unbind_32 (fun h_32 hS => ?_)
          first | refine nv_iinc hX (m := 1) dX9_unbind_33 rfl (by decide) (rv_st_2 rfl) ?_ | refine rv_iinc hX dX9_unbind_33 rfl rfl (rv_st_2 rfl) ?_
          refine rv_goto hX 2 dX9_unbind_36 (by decide) ?_
          exact ih _ _ _ (by omega) (by omega) hy hS
  refine nv_iconst hX (m := 0) (by decide) dX9_unbind_0 ?_
  refine rv_istore_n hX dX9_unbind_1 (rv_st_2 rfl) ?_
  exact loop 9 0 f h (by omega) (by omega) (fun j hj => by rw [if_neg (Nat.not_lt_zero _)]) hH.start
theorem x_factOf {G : rv_G} (hG : rv_GK G) {d a b vr its len st tk fr rch : Nat} (hd : 1 ≤ d) {nw ro : Int32} {ov : Bool} {v : sp_V} {f : Nat → Int32} {it : sp_I} {h : rv_H} (h1 : rv_rd G h a (mX its len st tk vr fr nw ro ov rch)) (h2 : rv_rd G h vr (cI 8 f)) (hv : xva v f) (hb : xIt (rv_rd G h) b it) (hl : it.2.2.length ≤ 3) (ht : ∀ t, t ∈ it.2.2 → t < 108) (hk : ∀ t, t ∈ it.2.2 → (sp_val v t).isSome = true) : rv_Call G d yX9_factOf wX9_factOf [.ref a, .ref b] h (xN (fun u h' => h' = h ∧ u = some (.int (nI (sp_num v it.2.1 it.2.2))))) := by
  refine rv_start hG (by decide +kernel) (L := [some (.ref a), some (.ref b), none, none]) rfl (Nat.le_of_ble_eq_true rfl) (fun X hX1 hX hE => ?_)
  subst hX1
  obtain ⟨tm, tf, h3, h4, h5⟩ := hb
  have loop : ∀ (z k : Nat), 3 - k < z → k ≤ 3 → rv_V X h 7 [some (.ref a), some (.ref b), some (.int (nI (x3 (xtv v it.2.2) it.2.1 k))), some (.int (nI k))] [] := by
    intro z
    induction z with
    | zero => intro k g1; omega
    | succ z ih =>
      intro k g1 g2
      refine rv_iload_n hX dX9_factOf_7 rfl ?_
      refine nv_iconst hX (m := 3) (by decide) dX9_factOf_8 ?_
      first | refine nv_icmp_ge hX 50 (by omega) (by omega) dX9_factOf_9 (by decide) (fun c_9 => ?_) (fun c_9 => ?_) | refine rv_icmp_ge hX 50 dX9_factOf_9 (by decide) (fun c_9 => ?_) (fun c_9 => ?_)
      · skip
        refine rv_iload_n hX dX9_factOf_50 rfl ?_
        refine rv_ireturn hX hE rfl ?_ dX9_factOf_51
        refine ⟨rfl, ?_⟩
        rw [show k = 3 by omega, x3_num hl]
      · skip
        have hk3 : k < 3 := by omega
        refine nv_bipush hX (m := 100) (by decide) dX9_factOf_12 ?_
        refine rv_iload_n hX dX9_factOf_14 rfl ?_
        first | refine nv_imul hX dX9_factOf_15 ?_ | refine rv_imul hX dX9_factOf_15 ?_
        refine rv_iload_n hX dX9_factOf_16 rfl ?_
        refine rv_aload_n hX dX9_factOf_17 rfl ?_
        refine rv_getfR hX gX9_101_X11 h3 rfl dX9_factOf_18 ?_
        refine xv_alen hX h4 dX9_factOf_21 ?_
        first | refine nv_icmp_ge hX 41 (by omega) (by omega) dX9_factOf_22 (by decide) (fun c_22 => ?_) (fun c_22 => ?_) | refine rv_icmp_ge hX 41 dX9_factOf_22 (by decide) (fun c_22 => ?_) (fun c_22 => ?_)
        · skip
          have hg : xtv v it.2.2 k = 0 := by unfold xtv; rw [if_neg (by omega)]
          refine nv_iconst hX (m := 0) (by decide) dX9_factOf_41 ?_
          first | refine nv_iadd hX dX9_factOf_42 ?_ | refine rv_iadd hX dX9_factOf_42 ?_
          refine rv_istore_n hX dX9_factOf_43 (rv_st_2 rfl) ?_
          first | refine nv_iinc hX (m := 1) dX9_factOf_44 rfl (by decide) (rv_st_3 rfl) ?_ | refine rv_iinc hX dX9_factOf_44 rfl rfl (rv_st_3 rfl) ?_
          refine rv_goto hX 7 dX9_factOf_47 (by decide) ?_
          have e := ih (k + 1) (by omega) (by omega)
          have e2 : x3 (xtv v it.2.2) it.2.1 (k + 1) = 100 * x3 (xtv v it.2.2) it.2.1 k + xtv v it.2.2 k := rfl
          rw [e2, hg] at e
          exact e
        · skip
          obtain ⟨t, hkt⟩ : ∃ t, it.2.2[k]? = some t := ⟨it.2.2[k], List.getElem?_eq_getElem (by omega)⟩
          have ht2 := ht t (List.mem_of_getElem? hkt)
          obtain ⟨c, hc⟩ := Option.isSome_iff_exists.mp (hk t (List.mem_of_getElem? hkt))
          have hg : xtv v it.2.2 k = c := by unfold xtv; rw [if_pos (by omega), sp_getD hkt, hc]; rfl
          refine rv_aload_n hX dX9_factOf_25 rfl ?_
          refine rv_getfR hX gX9_101_X11 h3 rfl dX9_factOf_26 ?_
          refine rv_iload_n hX dX9_factOf_29 rfl ?_
          refine xv_iald hX h4 (by omega) (by omega) dX9_factOf_30 ?_
          rw [h5 k t hkt]
          refine rv_aload_n hX dX9_factOf_31 rfl ?_
          refine rv_getfR hX gX9_30_X9 h1 rfl dX9_factOf_32 ?_
          refine rv_invS hX iX9_104 mdX1_valueOf (x_valueOf hG (d := d - 1) ht2 h2 hv) (by omega) rfl rfl (Nat.le_of_ble_eq_true rfl) dX9_factOf_35 (fun v h' hq => ?_) (fun E h' hq => by first | exact hq.elim | cases hq.2 | cases hq.1)
          obtain ⟨rfl, hq⟩ := hq
          cases hq
          rw [hc, show rv_oi (some c) = nI c from rfl]
          refine rv_goto hX 42 dX9_factOf_38 (by decide) ?_
          first | refine nv_iadd hX dX9_factOf_42 ?_ | refine rv_iadd hX dX9_factOf_42 ?_
          refine rv_istore_n hX dX9_factOf_43 (rv_st_2 rfl) ?_
          first | refine nv_iinc hX (m := 1) dX9_factOf_44 rfl (by decide) (rv_st_3 rfl) ?_ | refine rv_iinc hX dX9_factOf_44 rfl rfl (rv_st_3 rfl) ?_
          refine rv_goto hX 7 dX9_factOf_47 (by decide) ?_
          have e := ih (k + 1) (by omega) (by omega)
          have e2 : x3 (xtv v it.2.2) it.2.1 (k + 1) = 100 * x3 (xtv v it.2.2) it.2.1 k + xtv v it.2.2 k := rfl
          rw [e2, hg] at e
          exact e
  refine rv_aload_n hX dX9_factOf_0 rfl ?_
  refine rv_getfR hX gX9_98_X11 h3 rfl dX9_factOf_1 ?_
  refine rv_istore_n hX dX9_factOf_4 (rv_st_2 rfl) ?_
  refine nv_iconst hX (m := 0) (by decide) dX9_factOf_5 ?_
  refine rv_istore_n hX dX9_factOf_6 (rv_st_3 rfl) ?_
  exact loop 4 0 (by omega) (by omega)
theorem x_holds {G : rv_G} (hG : rv_GK G) {d a b vr its len st tk fr rch : Nat} (hd : 1 ≤ d) {nw ro : Int32} {ov : Bool} {v : sp_V} {f : Nat → Int32} {it : sp_I} {h : rv_H} (h1 : rv_rd G h a (mX its len st tk vr fr nw ro ov rch)) (h2 : rv_rd G h vr (cI 8 f)) (hv : xva v f) (hb : xIt (rv_rd G h) b it) (hl : it.2.2.length = 2) (hw : it.2.1 ≤ 2) (ht : ∀ t, t ∈ it.2.2 → t < 108) (hk : ∀ k, k < 2 → (sp_val v (it.2.2.getD k 0)).isSome = true) : rv_Call G d yX9_holds wX9_holds [.ref a, .ref b] h (xN (fun u h' => h' = h ∧ u = some (.int (rv_z (sp_test it.2.1 (sp_get v it.2.2 0) (sp_get v it.2.2 1)))))) := by
  refine rv_start hG (by decide +kernel) (L := [some (.ref a), some (.ref b), none, none]) rfl (Nat.le_of_ble_eq_true rfl) (fun X hX1 hX hE => ?_)
  subst hX1
  obtain ⟨tm, tf, h3, h4, h5⟩ := hb
  obtain ⟨t0, e0⟩ : ∃ t, it.2.2[0]? = some t := ⟨it.2.2[0], List.getElem?_eq_getElem (by omega)⟩
  obtain ⟨t1, e1⟩ : ∃ t, it.2.2[1]? = some t := ⟨it.2.2[1], List.getElem?_eq_getElem (by omega)⟩
  have k0 := hk 0 (by omega)
  have k1 := hk 1 (by omega)
  rw [sp_getD e0] at k0
  rw [sp_getD e1] at k1
  obtain ⟨c0, q0⟩ := Option.isSome_iff_exists.mp k0
  obtain ⟨c1, q1⟩ := Option.isSome_iff_exists.mp k1
  have b0 := sp_val100 hv.2 q0
  have b1 := sp_val100 hv.2 q1
  have g0 : sp_get v it.2.2 0 = c0 := by unfold sp_get; rw [sp_getD e0, q0]; rfl
  have g1 : sp_get v it.2.2 1 = c1 := by unfold sp_get; rw [sp_getD e1, q1]; rfl
  rw [g0, g1] at hE
  have z0 : it.2.1 = 0 → sp_test it.2.1 c0 c1 = decide (c0 = c1) := fun e => by unfold sp_test; rw [if_pos e]
  have z1 : it.2.1 ≠ 0 → it.2.1 = 1 → sp_test it.2.1 c0 c1 = decide (c0 ≠ c1) := fun e e' => by unfold sp_test; rw [if_neg e, if_pos e']
  have z2 : it.2.1 ≠ 0 → it.2.1 ≠ 1 → sp_test it.2.1 c0 c1 = decide (c0 < c1) := fun e e' => by unfold sp_test; rw [if_neg e, if_neg e']
  refine rv_aload_n hX dX9_holds_0 rfl ?_
  refine rv_getfR hX gX9_101_X11 h3 rfl dX9_holds_1 ?_
  refine nv_iconst hX (m := 0) (by decide) dX9_holds_4 ?_
  refine xv_iald hX h4 (by omega) (by omega) dX9_holds_5 ?_
  rw [h5 0 t0 e0]
  refine rv_aload_n hX dX9_holds_6 rfl ?_
  refine rv_getfR hX gX9_30_X9 h1 rfl dX9_holds_7 ?_
  refine rv_invS hX iX9_104 mdX1_valueOf (x_valueOf hG (d := d - 1) (ht t0 (List.mem_of_getElem? e0)) h2 hv) (by omega) rfl rfl (Nat.le_of_ble_eq_true rfl) dX9_holds_10 (fun v h' hq => ?_) (fun E h' hq => by first | exact hq.elim | cases hq.2 | cases hq.1)
  obtain ⟨rfl, hq⟩ := hq
  cases hq
  rw [q0, show rv_oi (some c0) = nI c0 from rfl]
  refine rv_istore_n hX dX9_holds_13 (rv_st_2 rfl) ?_
  refine rv_aload_n hX dX9_holds_14 rfl ?_
  refine rv_getfR hX gX9_101_X11 h3 rfl dX9_holds_15 ?_
  refine nv_iconst hX (m := 1) (by decide) dX9_holds_18 ?_
  refine xv_iald hX h4 (by omega) (by omega) dX9_holds_19 ?_
  rw [h5 1 t1 e1]
  refine rv_aload_n hX dX9_holds_20 rfl ?_
  refine rv_getfR hX gX9_30_X9 h1 rfl dX9_holds_21 ?_
  refine rv_invS hX iX9_104 mdX1_valueOf (x_valueOf hG (d := d - 1) (ht t1 (List.mem_of_getElem? e1)) h2 hv) (by omega) rfl rfl (Nat.le_of_ble_eq_true rfl) dX9_holds_24 (fun v h' hq => ?_) (fun E h' hq => by first | exact hq.elim | cases hq.2 | cases hq.1)
  obtain ⟨rfl, hq⟩ := hq
  cases hq
  rw [q1, show rv_oi (some c1) = nI c1 from rfl]
  refine rv_istore_n hX dX9_holds_27 (rv_st_3 rfl) ?_
  refine rv_aload_n hX dX9_holds_28 rfl ?_
  refine rv_getfR hX gX9_98_X11 h3 rfl dX9_holds_29 ?_
  first | refine zv_if_ne hX 48 dX9_holds_32 (by decide) (fun c_32 => ?_) (fun c_32 => ?_) | refine nv_if_ne hX 48 (by omega) dX9_holds_32 (by decide) (fun c_32 => ?_) (fun c_32 => ?_) | refine rv_if_ne hX 48 dX9_holds_32 (by decide) (fun c_32 => ?_) (fun c_32 => ?_)
  · skip
    refine rv_aload_n hX dX9_holds_48 rfl ?_
    refine rv_getfR hX gX9_98_X11 h3 rfl dX9_holds_49 ?_
    refine nv_iconst hX (m := 1) (by decide) dX9_holds_52 ?_
    first | refine nv_icmp_ne hX 69 (by omega) (by omega) dX9_holds_53 (by decide) (fun c_53 => ?_) (fun c_53 => ?_) | refine rv_icmp_ne hX 69 dX9_holds_53 (by decide) (fun c_53 => ?_) (fun c_53 => ?_)
    · skip
      refine rv_iload_n hX dX9_holds_69 rfl ?_
      refine rv_iload_n hX dX9_holds_70 rfl ?_
      first | refine nv_icmp_ge hX 78 (by omega) (by omega) dX9_holds_71 (by decide) (fun c_71 => ?_) (fun c_71 => ?_) | refine rv_icmp_ge hX 78 dX9_holds_71 (by decide) (fun c_71 => ?_) (fun c_71 => ?_)
      · skip
        refine nv_iconst hX (m := 0) (by decide) dX9_holds_78 ?_
        refine rv_ireturn hX hE rfl ?_ dX9_holds_79
        refine ⟨rfl, ?_⟩
        first
          | (rw [z0 (by omega), decide_eq_true (show c0 = c1 by omega)]; rfl)
          | (rw [z0 (by omega), decide_eq_false (show ¬ c0 = c1 by omega)]; rfl)
          | (rw [z1 (by omega) (by omega), decide_eq_true (show c0 ≠ c1 by omega)]; rfl)
          | (rw [z1 (by omega) (by omega), decide_eq_false (show ¬ c0 ≠ c1 by omega)]; rfl)
          | (rw [z2 (by omega) (by omega), decide_eq_true (show c0 < c1 by omega)]; rfl)
          | (rw [z2 (by omega) (by omega), decide_eq_false (show ¬ c0 < c1 by omega)]; rfl)
      · skip
        refine nv_iconst hX (m := 1) (by decide) dX9_holds_74 ?_
        refine rv_goto hX 79 dX9_holds_75 (by decide) ?_
        refine rv_ireturn hX hE rfl ?_ dX9_holds_79
        refine ⟨rfl, ?_⟩
        first
          | (rw [z0 (by omega), decide_eq_true (show c0 = c1 by omega)]; rfl)
          | (rw [z0 (by omega), decide_eq_false (show ¬ c0 = c1 by omega)]; rfl)
          | (rw [z1 (by omega) (by omega), decide_eq_true (show c0 ≠ c1 by omega)]; rfl)
          | (rw [z1 (by omega) (by omega), decide_eq_false (show ¬ c0 ≠ c1 by omega)]; rfl)
          | (rw [z2 (by omega) (by omega), decide_eq_true (show c0 < c1 by omega)]; rfl)
          | (rw [z2 (by omega) (by omega), decide_eq_false (show ¬ c0 < c1 by omega)]; rfl)
    · skip
      refine rv_iload_n hX dX9_holds_56 rfl ?_
      refine rv_iload_n hX dX9_holds_57 rfl ?_
      first | refine nv_icmp_eq hX 65 (by omega) (by omega) dX9_holds_58 (by decide) (fun c_58 => ?_) (fun c_58 => ?_) | refine rv_icmp_eq hX 65 dX9_holds_58 (by decide) (fun c_58 => ?_) (fun c_58 => ?_)
      · skip
        refine nv_iconst hX (m := 0) (by decide) dX9_holds_65 ?_
        refine rv_goto hX 79 dX9_holds_66 (by decide) ?_
        refine rv_ireturn hX hE rfl ?_ dX9_holds_79
        refine ⟨rfl, ?_⟩
        first
          | (rw [z0 (by omega), decide_eq_true (show c0 = c1 by omega)]; rfl)
          | (rw [z0 (by omega), decide_eq_false (show ¬ c0 = c1 by omega)]; rfl)
          | (rw [z1 (by omega) (by omega), decide_eq_true (show c0 ≠ c1 by omega)]; rfl)
          | (rw [z1 (by omega) (by omega), decide_eq_false (show ¬ c0 ≠ c1 by omega)]; rfl)
          | (rw [z2 (by omega) (by omega), decide_eq_true (show c0 < c1 by omega)]; rfl)
          | (rw [z2 (by omega) (by omega), decide_eq_false (show ¬ c0 < c1 by omega)]; rfl)
      · skip
        refine nv_iconst hX (m := 1) (by decide) dX9_holds_61 ?_
        refine rv_goto hX 79 dX9_holds_62 (by decide) ?_
        refine rv_ireturn hX hE rfl ?_ dX9_holds_79
        refine ⟨rfl, ?_⟩
        first
          | (rw [z0 (by omega), decide_eq_true (show c0 = c1 by omega)]; rfl)
          | (rw [z0 (by omega), decide_eq_false (show ¬ c0 = c1 by omega)]; rfl)
          | (rw [z1 (by omega) (by omega), decide_eq_true (show c0 ≠ c1 by omega)]; rfl)
          | (rw [z1 (by omega) (by omega), decide_eq_false (show ¬ c0 ≠ c1 by omega)]; rfl)
          | (rw [z2 (by omega) (by omega), decide_eq_true (show c0 < c1 by omega)]; rfl)
          | (rw [z2 (by omega) (by omega), decide_eq_false (show ¬ c0 < c1 by omega)]; rfl)
  · skip
    refine rv_iload_n hX dX9_holds_35 rfl ?_
    refine rv_iload_n hX dX9_holds_36 rfl ?_
    first | refine nv_icmp_ne hX 44 (by omega) (by omega) dX9_holds_37 (by decide) (fun c_37 => ?_) (fun c_37 => ?_) | refine rv_icmp_ne hX 44 dX9_holds_37 (by decide) (fun c_37 => ?_) (fun c_37 => ?_)
    · skip
      refine nv_iconst hX (m := 0) (by decide) dX9_holds_44 ?_
      refine rv_goto hX 79 dX9_holds_45 (by decide) ?_
      refine rv_ireturn hX hE rfl ?_ dX9_holds_79
      refine ⟨rfl, ?_⟩
      first
        | (rw [z0 (by omega), decide_eq_true (show c0 = c1 by omega)]; rfl)
        | (rw [z0 (by omega), decide_eq_false (show ¬ c0 = c1 by omega)]; rfl)
        | (rw [z1 (by omega) (by omega), decide_eq_true (show c0 ≠ c1 by omega)]; rfl)
        | (rw [z1 (by omega) (by omega), decide_eq_false (show ¬ c0 ≠ c1 by omega)]; rfl)
        | (rw [z2 (by omega) (by omega), decide_eq_true (show c0 < c1 by omega)]; rfl)
        | (rw [z2 (by omega) (by omega), decide_eq_false (show ¬ c0 < c1 by omega)]; rfl)
    · skip
      refine nv_iconst hX (m := 1) (by decide) dX9_holds_40 ?_
      refine rv_goto hX 79 dX9_holds_41 (by decide) ?_
      refine rv_ireturn hX hE rfl ?_ dX9_holds_79
      refine ⟨rfl, ?_⟩
      first
        | (rw [z0 (by omega), decide_eq_true (show c0 = c1 by omega)]; rfl)
        | (rw [z0 (by omega), decide_eq_false (show ¬ c0 = c1 by omega)]; rfl)
        | (rw [z1 (by omega) (by omega), decide_eq_true (show c0 ≠ c1 by omega)]; rfl)
        | (rw [z1 (by omega) (by omega), decide_eq_false (show ¬ c0 ≠ c1 by omega)]; rfl)
        | (rw [z2 (by omega) (by omega), decide_eq_true (show c0 < c1 by omega)]; rfl)
        | (rw [z2 (by omega) (by omega), decide_eq_false (show ¬ c0 < c1 by omega)]; rfl)
theorem x_isAllowed {G : rv_G} (hG : rv_GK G) {d a k at0 vr its len st tk fr rch : Nat} {ro : Int32} {ov : Bool} {Fs : List Nat} {r : Nat → Nat} {nw : Option (Nat × Nat)} {h : rv_H} (h1 : rv_rd G h a (mX its len st tk vr fr (rv_oi (nw.map (fun p => p.1))) ro ov rch)) (hro : ∀ p, nw = some p → ro = nI p.2 ∧ p.1 < 6 ∧ p.2 < 1000000) (hr : ∀ x, x ∈ Fs → r x < 1000000) (hst : xFc (rv_rd G h) st Fs r) (hk : k < Fs.length) (hat : at0 < 100) : rv_Call G d yX9_isAllowed wX9_isAllowed [.ref a, .int (nI k), .int (nI at0)] h (xN (fun u h' => h' = h ∧ u = some (.int (rv_z (xal Fs r nw at0 k))))) := by
  refine rv_start hG (by decide +kernel) (L := [some (.ref a), some (.int (nI k)), some (.int (nI at0))]) rfl (Nat.le_of_ble_eq_true rfl) (fun X hX1 hX hE => ?_)
  subst hX1
  obtain ⟨an, ar, nf, rf, h2, h3, h4, ⟨⟨hs, h60, hb⟩, h5⟩⟩ := hst
  obtain ⟨x, hx⟩ : ∃ x, Fs[k]? = some x := ⟨Fs[k], List.getElem?_eq_getElem hk⟩
  have hrx := hr x (List.mem_of_getElem? hx)
  cases nw with
  | none =>
    refine rv_aload_n hX dX9_isAllowed_0 rfl ?_
    refine rv_getfR hX gX9_15_X9 h1 rfl dX9_isAllowed_1 ?_
    refine rv_iconst hX (v := -1) dX9_isAllowed_4 (by decide) ?_
    refine rv_icmp_eq hX 59 dX9_isAllowed_5 (by decide) (fun _ => ?_) (fun q => absurd q (by decide))
    refine nv_iconst hX (m := 1) (by decide) dX9_isAllowed_59 ?_
    refine rv_goto hX 64 dX9_isAllowed_60 (by decide) ?_
    refine rv_ireturn hX hE rfl ?_ dX9_isAllowed_64
    exact ⟨rfl, rfl⟩
  | some p =>
    obtain ⟨hp1, hp2, hp3⟩ := hro p rfl
    subst hp1
    have z : xal Fs r (some p) at0 k = if at0 < p.1 then decide (r x < p.2) else decide (p.1 < at0) || decide (r x = p.2) := by
      unfold xal
      rw [sp_getD hx]
    rw [z] at hE
    refine rv_aload_n hX dX9_isAllowed_0 rfl ?_
    refine rv_getfR hX gX9_15_X9 h1 rfl dX9_isAllowed_1 ?_
    rw [show rv_oi (Option.map (fun p => p.1) (some p)) = nI p.1 from rfl]
    refine rv_iconst hX (v := -1) dX9_isAllowed_4 (by decide) ?_
    refine rv_icmp_eq hX 59 dX9_isAllowed_5 (by decide) (fun q => absurd q (nI_m1 (by omega))) (fun c_5 => ?_)
    refine rv_iload_n hX dX9_isAllowed_8 rfl ?_
    refine rv_aload_n hX dX9_isAllowed_9 rfl ?_
    refine rv_getfR hX gX9_15_X9 h1 rfl dX9_isAllowed_10 ?_
    rw [show rv_oi (Option.map (fun p => p.1) (some p)) = nI p.1 from rfl]
    first | refine nv_icmp_ge hX 35 (by omega) (by omega) dX9_isAllowed_13 (by decide) (fun c_13 => ?_) (fun c_13 => ?_) | refine rv_icmp_ge hX 35 dX9_isAllowed_13 (by decide) (fun c_13 => ?_) (fun c_13 => ?_)
    · skip
      refine rv_iload_n hX dX9_isAllowed_35 rfl ?_
      refine rv_aload_n hX dX9_isAllowed_36 rfl ?_
      refine rv_getfR hX gX9_15_X9 h1 rfl dX9_isAllowed_37 ?_
      rw [show rv_oi (Option.map (fun p => p.1) (some p)) = nI p.1 from rfl]
      first | refine nv_icmp_gt hX 59 (by omega) (by omega) dX9_isAllowed_40 (by decide) (fun c_40 => ?_) (fun c_40 => ?_) | refine rv_icmp_gt hX 59 dX9_isAllowed_40 (by decide) (fun c_40 => ?_) (fun c_40 => ?_)
      · skip
        refine nv_iconst hX (m := 1) (by decide) dX9_isAllowed_59 ?_
        refine rv_goto hX 64 dX9_isAllowed_60 (by decide) ?_
        refine rv_ireturn hX hE rfl ?_ dX9_isAllowed_64
        refine ⟨rfl, ?_⟩
        first
          | (rw [if_pos (by omega), decide_eq_true (show r x < p.2 by omega)]; rfl)
          | (rw [if_pos (by omega), decide_eq_false (show ¬ r x < p.2 by omega)]; rfl)
          | (rw [if_neg (by omega), decide_eq_true (show p.1 < at0 by omega)]; rfl)
          | (rw [if_neg (by omega), decide_eq_false (show ¬ p.1 < at0 by omega), decide_eq_true (show r x = p.2 by omega)]; rfl)
          | (rw [if_neg (by omega), decide_eq_false (show ¬ p.1 < at0 by omega), decide_eq_false (show ¬ r x = p.2 by omega)]; rfl)
      · skip
        refine rv_aload_n hX dX9_isAllowed_43 rfl ?_
        refine rv_getfR hX gX9_26_X9 h1 rfl dX9_isAllowed_44 ?_
        refine rv_getfR hX gX9_108_X3 h2 rfl dX9_isAllowed_47 ?_
        refine rv_iload_n hX dX9_isAllowed_50 rfl ?_
        refine xv_iald hX h4 (by omega) (by omega) dX9_isAllowed_51 ?_
        rw [(h5 k x hx).2]
        refine rv_aload_n hX dX9_isAllowed_52 rfl ?_
        refine rv_getfR hX gX9_45_X9 h1 rfl dX9_isAllowed_53 ?_
        first | refine nv_icmp_ne hX 63 (by omega) (by omega) dX9_isAllowed_56 (by decide) (fun c_56 => ?_) (fun c_56 => ?_) | refine rv_icmp_ne hX 63 dX9_isAllowed_56 (by decide) (fun c_56 => ?_) (fun c_56 => ?_)
        · skip
          refine nv_iconst hX (m := 0) (by decide) dX9_isAllowed_63 ?_
          refine rv_ireturn hX hE rfl ?_ dX9_isAllowed_64
          refine ⟨rfl, ?_⟩
          first
            | (rw [if_pos (by omega), decide_eq_true (show r x < p.2 by omega)]; rfl)
            | (rw [if_pos (by omega), decide_eq_false (show ¬ r x < p.2 by omega)]; rfl)
            | (rw [if_neg (by omega), decide_eq_true (show p.1 < at0 by omega)]; rfl)
            | (rw [if_neg (by omega), decide_eq_false (show ¬ p.1 < at0 by omega), decide_eq_true (show r x = p.2 by omega)]; rfl)
            | (rw [if_neg (by omega), decide_eq_false (show ¬ p.1 < at0 by omega), decide_eq_false (show ¬ r x = p.2 by omega)]; rfl)
        · skip
          refine nv_iconst hX (m := 1) (by decide) dX9_isAllowed_59 ?_
          refine rv_goto hX 64 dX9_isAllowed_60 (by decide) ?_
          refine rv_ireturn hX hE rfl ?_ dX9_isAllowed_64
          refine ⟨rfl, ?_⟩
          first
            | (rw [if_pos (by omega), decide_eq_true (show r x < p.2 by omega)]; rfl)
            | (rw [if_pos (by omega), decide_eq_false (show ¬ r x < p.2 by omega)]; rfl)
            | (rw [if_neg (by omega), decide_eq_true (show p.1 < at0 by omega)]; rfl)
            | (rw [if_neg (by omega), decide_eq_false (show ¬ p.1 < at0 by omega), decide_eq_true (show r x = p.2 by omega)]; rfl)
            | (rw [if_neg (by omega), decide_eq_false (show ¬ p.1 < at0 by omega), decide_eq_false (show ¬ r x = p.2 by omega)]; rfl)
    · skip
      refine rv_aload_n hX dX9_isAllowed_16 rfl ?_
      refine rv_getfR hX gX9_26_X9 h1 rfl dX9_isAllowed_17 ?_
      refine rv_getfR hX gX9_108_X3 h2 rfl dX9_isAllowed_20 ?_
      refine rv_iload_n hX dX9_isAllowed_23 rfl ?_
      refine xv_iald hX h4 (by omega) (by omega) dX9_isAllowed_24 ?_
      rw [(h5 k x hx).2]
      refine rv_aload_n hX dX9_isAllowed_25 rfl ?_
      refine rv_getfR hX gX9_45_X9 h1 rfl dX9_isAllowed_26 ?_
      first | refine nv_icmp_ge hX 63 (by omega) (by omega) dX9_isAllowed_29 (by decide) (fun c_29 => ?_) (fun c_29 => ?_) | refine rv_icmp_ge hX 63 dX9_isAllowed_29 (by decide) (fun c_29 => ?_) (fun c_29 => ?_)
      · skip
        refine nv_iconst hX (m := 0) (by decide) dX9_isAllowed_63 ?_
        refine rv_ireturn hX hE rfl ?_ dX9_isAllowed_64
        refine ⟨rfl, ?_⟩
        first
          | (rw [if_pos (by omega), decide_eq_true (show r x < p.2 by omega)]; rfl)
          | (rw [if_pos (by omega), decide_eq_false (show ¬ r x < p.2 by omega)]; rfl)
          | (rw [if_neg (by omega), decide_eq_true (show p.1 < at0 by omega)]; rfl)
          | (rw [if_neg (by omega), decide_eq_false (show ¬ p.1 < at0 by omega), decide_eq_true (show r x = p.2 by omega)]; rfl)
          | (rw [if_neg (by omega), decide_eq_false (show ¬ p.1 < at0 by omega), decide_eq_false (show ¬ r x = p.2 by omega)]; rfl)
      · skip
        refine rv_goto hX 59 dX9_isAllowed_32 (by decide) ?_
        refine nv_iconst hX (m := 1) (by decide) dX9_isAllowed_59 ?_
        refine rv_goto hX 64 dX9_isAllowed_60 (by decide) ?_
        refine rv_ireturn hX hE rfl ?_ dX9_isAllowed_64
        refine ⟨rfl, ?_⟩
        first
          | (rw [if_pos (by omega), decide_eq_true (show r x < p.2 by omega)]; rfl)
          | (rw [if_pos (by omega), decide_eq_false (show ¬ r x < p.2 by omega)]; rfl)
          | (rw [if_neg (by omega), decide_eq_true (show p.1 < at0 by omega)]; rfl)
          | (rw [if_neg (by omega), decide_eq_false (show ¬ p.1 < at0 by omega), decide_eq_true (show r x = p.2 by omega)]; rfl)
          | (rw [if_neg (by omega), decide_eq_false (show ¬ p.1 < at0 by omega), decide_eq_false (show ¬ r x = p.2 by omega)]; rfl)
