/-! THE SYSTEM: rules and deeds -/
set_option maxRecDepth 100000
/-- a term of a head, as the system keeps it -/
def xtm (t : Nat) : Nat := if 200 ≤ t then 100 + (t - 200) % 8 else t
/-- a rule or a deed: kept in an object; what only deeds need is told of deeds alone -/
def xCl (G : rv_G) (isd : Bool) (rd : Nat → rv_C → Prop) (a : Nat) (C : sp_C) : Prop := ∃ (hd bo : Nat) (gk md sal : Int32) (tl : Bool), rd a (cO 9 [.int (nI C.num), .ref hd, .int (rv_oi C.gath), .int gk, .ref bo, .int (rv_z isd), .int md, .int sal, .int (rv_z tl)]) ∧ xIt rd hd (0, C.rel, C.hts.map xtm) ∧ xLp G rd xIt bo C.its ∧ (∀ s, C.gath = some s → gk = nI ((C.gt - 200) / 8)) ∧ (isd = true → md = nI C.mod ∧ sal = C.sal ∧ tl = C.tells)
theorem xCl.mono {G : rv_G} {isd : Bool} {rd rd2 : Nat → rv_C → Prop} {a : Nat} {C : sp_C} (h : xCl G isd rd a C) (hm : ∀ a c, rd a c → rd2 a c) : xCl G isd rd2 a C := by
  obtain ⟨hd, bo, gk, md, sal, tl, h1, h2, h3, h4⟩ := h
  exact ⟨hd, bo, gk, md, sal, tl, hm _ _ h1, h2.mono hm, h3.mono hm (fun _ _ q => q.mono hm), h4⟩
theorem sp_gslot_at {ts : List Nat} {s : Nat} (h : sp_wfH ts) : sp_gslot ts 0 = some s ↔ ∃ t, ts[s]? = some t ∧ 200 ≤ t := by
  constructor
  · intro e
    obtain ⟨-, t, h1, h2⟩ := sp_gslot_get e
    exact ⟨t, h1, h2⟩
  · rintro ⟨t, h1, h2⟩
    cases e : sp_gslot ts 0 with
    | none => exact absurd (sp_gslot_none e t (List.mem_of_getElem? h1)) (by omega)
    | some z =>
      obtain ⟨-, u, k1, k2⟩ := sp_gslot_get e
      rw [h.2 z s u t k1 h1 k2 h2]
def xhv (v : sp_V) (g : Nat) (ts : List Nat) (k : Nat) : Nat := if k < ts.length then sp_hval v g (ts.getD k 0) else 0
theorem x3_hfact {v : sp_V} {g w : Nat} {ts : List Nat} (h : ts.length ≤ 3) : x3 (xhv v g ts) w 3 = 1000000 * w + sp_hsum v g ts 0 := by
  rw [x3_eq]
  congr 1
  match ts, h with
  | [], _ => rfl
  | [a], _ =>
    show 10000 * sp_hval v g a + (100 * 0 + 0) = 10000 * sp_hval v g a + 0
    omega
  | [a, b], _ =>
    show 10000 * sp_hval v g a + (100 * sp_hval v g b + 0) = 10000 * sp_hval v g a + (100 * sp_hval v g b + 0)
    rfl
  | [a, b, c], _ =>
    show 10000 * sp_hval v g a + (100 * sp_hval v g b + sp_hval v g c) = 10000 * sp_hval v g a + (100 * sp_hval v g b + (1 * sp_hval v g c + 0))
    omega
  | _ :: _ :: _ :: _ :: _, h => simp at h
theorem x_fact {G : rv_G} (hG : rv_GK G) {d a vr g : Nat} (hd : 1 ≤ d) {isd : Bool} {C : sp_C} {v : sp_V} {f : Nat → Int32} {h : rv_H} (ha : xCl G isd (rv_rd G h) a C) (hw : sp_wfH C.hts) (hl : C.hts.length ≤ 3) (h2 : rv_rd G h vr (cI 8 f)) (hv : xva v f) (hk : ∀ t, t ∈ C.hts → t < 200 → (sp_val v t).isSome = true) : rv_Call G d yX10_fact wX10_fact [.ref a, .ref vr, .int (nI g)] h (xN (fun u h' => h' = h ∧ u = some (.int (nI (sp_hfact C v g))))) := by
  refine rv_start hG (by decide +kernel) (L := [some (.ref a), some (.ref vr), some (.int (nI g)), none, none, none]) rfl (Nat.le_of_ble_eq_true rfl) (fun X hX1 hX hE => ?_)
  subst hX1
  obtain ⟨hd1, bo, gk, md, sal, tl, h1, ⟨tm, tf, h3, h4, h5⟩, -, -⟩ := ha
  rw [List.length_map] at h3 h4
  have hgs : ∀ s, C.gath = some s ↔ ∃ t, C.hts[s]? = some t ∧ 200 ≤ t := fun s => sp_gslot_at hw
  have hgo : ∀ s, C.gath = some s → s < 2147483648 := fun s e => by
    obtain ⟨t, e1, -⟩ := (hgs s).mp e
    have := (List.getElem?_eq_some_iff.mp e1).1
    omega
  have loop : ∀ (z k : Nat) (L5 : Option Value), 3 - k < z → k ≤ 3 → rv_V X h 11 [some (.ref a), some (.ref vr), some (.int (nI g)), some (.int (nI (x3 (xhv v g C.hts) C.rel k))), some (.int (nI k)), L5] [] := by
    intro z
    induction z with
    | zero => intro k L5 g1; omega
    | succ z ih =>
      intro k L5 g1 g2
      have e2 : x3 (xhv v g C.hts) C.rel (k + 1) = 100 * x3 (xhv v g C.hts) C.rel k + xhv v g C.hts k := rfl
      have hih := fun (q : k < 3) (y : Nat) (ey : xhv v g C.hts k = y) => (show rv_V X h 11 [some (.ref a), some (.ref vr), some (.int (nI g)), some (.int (nI (100 * x3 (xhv v g C.hts) C.rel k + y))), some (.int (nI (k + 1))), some (.int (nI y))] [] from by
        have := ih (k + 1) (some (.int (nI y))) (by omega) (by omega)
        rw [e2, ey] at this
        exact this)
      by_cases hk3 : k = 3
      · subst hk3
        refine rv_iload hX dX10_fact_11 rfl ?_
        refine nv_iconst hX (m := 3) (by decide) dX10_fact_13 ?_
        refine nv_icmp_ge hX 77 (by omega) (by omega) dX10_fact_14 (by decide) (fun c_14 => ?_) (fun q => absurd q (by omega))
        refine rv_iload_n hX dX10_fact_77 rfl ?_
        refine rv_ireturn hX hE rfl ?_ dX10_fact_78
        refine ⟨rfl, ?_⟩
        rw [x3_hfact hl]
        rfl
      · by_cases hkl : k < C.hts.length
        · obtain ⟨t, hkt⟩ : ∃ t, C.hts[k]? = some t := ⟨C.hts[k], List.getElem?_eq_getElem hkl⟩
          have htm : (C.hts.map xtm)[k]? = some (xtm t) := by rw [List.getElem?_map, hkt]; rfl
          have hxv : xhv v g C.hts k = sp_hval v g t := by unfold xhv; rw [if_pos hkl, sp_getD hkt]
          by_cases ht : 200 ≤ t
          · have hgk : C.gath = some k := (hgs k).mpr ⟨t, hkt, ht⟩
            have hx2 : xhv v g C.hts k = g := by rw [hxv]; unfold sp_hval; rw [if_pos ht]
            refine rv_iload hX dX10_fact_11 rfl ?_
            refine nv_iconst hX (m := 3) (by decide) dX10_fact_13 ?_
            refine nv_icmp_ge hX 77 (by omega) (by omega) dX10_fact_14 (by decide) (fun q => absurd q (by omega)) (fun c_14 => ?_)
            refine rv_iload hX dX10_fact_17 rfl ?_
            refine rv_aload_n hX dX10_fact_19 rfl ?_
            refine rv_getfR hX gX10_24_X10 h1 rfl dX10_fact_20 ?_
            refine rv_getfR hX gX10_61_X11 h3 rfl dX10_fact_23 ?_
            refine xv_alen hX h4 dX10_fact_26 ?_
            refine nv_icmp_lt hX 34 (by omega) (by omega) dX10_fact_27 (by decide) (fun c_27 => ?_) (fun q => absurd q (by omega))
            refine rv_iload hX dX10_fact_34 rfl ?_
            refine rv_aload_n hX dX10_fact_36 rfl ?_
            refine rv_getfR hX gX10_9_X10 h1 rfl dX10_fact_37 ?_
            rw [hgk, show rv_oi (some k) = nI k from rfl]
            refine nv_icmp_ne hX 47 (by omega) (by omega) dX10_fact_40 (by decide) (fun q => absurd rfl (by omega)) (fun c_40 => ?_)
            refine rv_iload_n hX dX10_fact_43 rfl ?_
            refine rv_goto hX 61 dX10_fact_44 (by decide) ?_
            refine rv_istore hX dX10_fact_61 (rv_st_5 rfl) ?_
            refine nv_bipush hX (m := 100) (by decide) dX10_fact_63 ?_
            refine rv_iload_n hX dX10_fact_65 rfl ?_
            first | refine nv_imul hX dX10_fact_66 ?_ | refine rv_imul hX dX10_fact_66 ?_
            refine rv_iload hX dX10_fact_67 rfl ?_
            first | refine nv_iadd hX dX10_fact_69 ?_ | refine rv_iadd hX dX10_fact_69 ?_
            refine rv_istore_n hX dX10_fact_70 (rv_st_3 rfl) ?_
            first | refine nv_iinc hX (m := 1) dX10_fact_71 rfl (by decide) (rv_st_4 rfl) ?_ | refine rv_iinc hX dX10_fact_71 rfl rfl (rv_st_4 rfl) ?_
            refine rv_goto hX 11 dX10_fact_74 (by decide) ?_
            exact hih (by omega) g hx2
          · have hgk : C.gath ≠ some k := fun e => by
              obtain ⟨u, e1, e2⟩ := (hgs k).mp e
              rw [hkt] at e1
              cases e1
              exact ht e2
            have ht8 : t < 108 := by
              rcases hw.1 t (List.mem_of_getElem? hkt) with q | q
              · exact q
              · omega
            obtain ⟨c, hc⟩ := Option.isSome_iff_exists.mp (hk t (List.mem_of_getElem? hkt) (by omega))
            have hx2 : xhv v g C.hts k = c := by rw [hxv]; unfold sp_hval; rw [if_neg ht, hc]; rfl
            have hxt : xtm t = t := by unfold xtm; rw [if_neg ht]
            refine rv_iload hX dX10_fact_11 rfl ?_
            refine nv_iconst hX (m := 3) (by decide) dX10_fact_13 ?_
            refine nv_icmp_ge hX 77 (by omega) (by omega) dX10_fact_14 (by decide) (fun q => absurd q (by omega)) (fun c_14 => ?_)
            refine rv_iload hX dX10_fact_17 rfl ?_
            refine rv_aload_n hX dX10_fact_19 rfl ?_
            refine rv_getfR hX gX10_24_X10 h1 rfl dX10_fact_20 ?_
            refine rv_getfR hX gX10_61_X11 h3 rfl dX10_fact_23 ?_
            refine xv_alen hX h4 dX10_fact_26 ?_
            refine nv_icmp_lt hX 34 (by omega) (by omega) dX10_fact_27 (by decide) (fun c_27 => ?_) (fun q => absurd q (by omega))
            refine rv_iload hX dX10_fact_34 rfl ?_
            refine rv_aload_n hX dX10_fact_36 rfl ?_
            refine rv_getfR hX gX10_9_X10 h1 rfl dX10_fact_37 ?_
            refine rv_icmp_ne hX 47 dX10_fact_40 (by decide) (fun c_40 => ?_) (fun q => absurd ((rv_oi_inj (x := some k) (y := C.gath) (fun b e => by cases e; omega) hgo).mp q) (fun e => hgk e.symm))
            refine rv_aload_n hX dX10_fact_47 rfl ?_
            refine rv_getfR hX gX10_24_X10 h1 rfl dX10_fact_48 ?_
            refine rv_getfR hX gX10_61_X11 h3 rfl dX10_fact_51 ?_
            refine rv_iload hX dX10_fact_54 rfl ?_
            refine xv_iald hX h4 (by omega) (by omega) dX10_fact_56 ?_
            refine rv_aload_n hX dX10_fact_57 rfl ?_
            rw [h5 k _ htm, hxt]
            refine rv_invS hX iX10_65 mdX1_valueOf (x_valueOf hG (d := d - 1) ht8 h2 hv) (by omega) rfl rfl (Nat.le_of_ble_eq_true rfl) dX10_fact_58 (fun v h' hq => ?_) (fun E h' hq => by first | exact hq.elim | cases hq.2 | cases hq.1)
            obtain ⟨rfl, hq⟩ := hq
            cases hq
            rw [hc, show rv_oi (some c) = nI c from rfl]
            refine rv_istore hX dX10_fact_61 (rv_st_5 rfl) ?_
            refine nv_bipush hX (m := 100) (by decide) dX10_fact_63 ?_
            refine rv_iload_n hX dX10_fact_65 rfl ?_
            first | refine nv_imul hX dX10_fact_66 ?_ | refine rv_imul hX dX10_fact_66 ?_
            refine rv_iload hX dX10_fact_67 rfl ?_
            first | refine nv_iadd hX dX10_fact_69 ?_ | refine rv_iadd hX dX10_fact_69 ?_
            refine rv_istore_n hX dX10_fact_70 (rv_st_3 rfl) ?_
            first | refine nv_iinc hX (m := 1) dX10_fact_71 rfl (by decide) (rv_st_4 rfl) ?_ | refine rv_iinc hX dX10_fact_71 rfl rfl (rv_st_4 rfl) ?_
            refine rv_goto hX 11 dX10_fact_74 (by decide) ?_
            exact hih (by omega) c hx2
        · have hx2 : xhv v g C.hts k = 0 := by unfold xhv; rw [if_neg hkl]
          refine rv_iload hX dX10_fact_11 rfl ?_
          refine nv_iconst hX (m := 3) (by decide) dX10_fact_13 ?_
          refine nv_icmp_ge hX 77 (by omega) (by omega) dX10_fact_14 (by decide) (fun q => absurd q (by omega)) (fun c_14 => ?_)
          refine rv_iload hX dX10_fact_17 rfl ?_
          refine rv_aload_n hX dX10_fact_19 rfl ?_
          refine rv_getfR hX gX10_24_X10 h1 rfl dX10_fact_20 ?_
          refine rv_getfR hX gX10_61_X11 h3 rfl dX10_fact_23 ?_
          refine xv_alen hX h4 dX10_fact_26 ?_
          refine nv_icmp_lt hX 34 (by omega) (by omega) dX10_fact_27 (by decide) (fun q => absurd q (by omega)) (fun c_27 => ?_)
          refine nv_iconst hX (m := 0) (by decide) dX10_fact_30 ?_
          refine rv_goto hX 61 dX10_fact_31 (by decide) ?_
          refine rv_istore hX dX10_fact_61 (rv_st_5 rfl) ?_
          refine nv_bipush hX (m := 100) (by decide) dX10_fact_63 ?_
          refine rv_iload_n hX dX10_fact_65 rfl ?_
          first | refine nv_imul hX dX10_fact_66 ?_ | refine rv_imul hX dX10_fact_66 ?_
          refine rv_iload hX dX10_fact_67 rfl ?_
          first | refine nv_iadd hX dX10_fact_69 ?_ | refine rv_iadd hX dX10_fact_69 ?_
          refine rv_istore_n hX dX10_fact_70 (rv_st_3 rfl) ?_
          first | refine nv_iinc hX (m := 1) dX10_fact_71 rfl (by decide) (rv_st_4 rfl) ?_ | refine rv_iinc hX dX10_fact_71 rfl rfl (rv_st_4 rfl) ?_
          refine rv_goto hX 11 dX10_fact_74 (by decide) ?_
          exact hih (by omega) 0 hx2
  refine rv_aload_n hX dX10_fact_0 rfl ?_
  refine rv_getfR hX gX10_24_X10 h1 rfl dX10_fact_1 ?_
  refine rv_getfR hX gX10_58_X11 h3 rfl dX10_fact_4 ?_
  refine rv_istore_n hX dX10_fact_7 (rv_st_3 rfl) ?_
  refine nv_iconst hX (m := 0) (by decide) dX10_fact_8 ?_
  refine rv_istore hX dX10_fact_9 (rv_st_4 rfl) ?_
  exact loop 4 0 _ (by omega) (by omega)
theorem x_atoms {G : rv_G} (hG : rv_GK G) {d a : Nat} (hd : 3 ≤ d) {isd : Bool} {C : sp_C} {h : rv_H} (ha : xCl G isd (rv_rd G h) a C) (hl : C.its.length ≤ 6) (hkd : ∀ it, it ∈ C.its → it.1 < 4) : rv_Call G d yX10_atoms wX10_atoms [.ref a] h (xN (fun u h' => h' = h ∧ u = some (.int (nI (C.its.filter (fun it => it.1 == 0)).length)))) := by
  refine rv_start hG (by decide +kernel) (L := [some (.ref a), none, none]) rfl (Nat.le_of_ble_eq_true rfl) (fun X hX1 hX hE => ?_)
  subst hX1
  obtain ⟨hd1, bo, gk, md, sal, tl, h1, -, ⟨es, hL, hes, hxs⟩, -⟩ := ha
  have hL' := hL
  obtain ⟨lm, led, lcap, lf, l1, l2⟩ := hL'
  have loop : ∀ (z k : Nat), C.its.length - k < z → k ≤ C.its.length → rv_V X h 4 [some (.ref a), some (.int (nI ((C.its.take k).filter (fun it => it.1 == 0)).length)), some (.int (nI k))] [] := by
    intro z
    induction z with
    | zero => intro k g1; omega
    | succ z ih =>
      intro k g1 g2
      by_cases hk : k = C.its.length
      · subst hk
        refine rv_iload_n hX dX10_atoms_4 rfl ?_
        refine rv_aload_n hX dX10_atoms_5 rfl ?_
        refine rv_getfR hX gX10_20_X10 h1 rfl dX10_atoms_6 ?_
        refine rv_invVR hX iX10_45 mdJ2_size l1 ⟨TJ2, 3, rv_c17⟩ (j_size hG (d := d - 1) hL.L) (by omega) rfl rfl (Nat.le_of_ble_eq_true rfl) dX10_atoms_9 (fun v h' hq => ?_) (fun E h' hq => by first | exact hq.elim | cases hq.2 | cases hq.1)
        obtain ⟨rfl, hq⟩ := hq
        cases hq
        rw [hes]
        refine nv_icmp_ge hX 46 (by omega) (by omega) dX10_atoms_12 (by decide) (fun c_12 => ?_) (fun q => absurd q (by omega))
        refine rv_iload_n hX dX10_atoms_46 rfl ?_
        refine rv_ireturn hX hE rfl ?_ dX10_atoms_47
        refine ⟨rfl, ?_⟩
        rw [List.take_length]
      · obtain ⟨it, hit⟩ : ∃ it, C.its[k]? = some it := ⟨C.its[k], List.getElem?_eq_getElem (by omega)⟩
        obtain ⟨ie, hie, hIt⟩ := xLp.get hes hxs hit
        have hkd2 := hkd it (List.mem_of_getElem? hit)
        have htk : C.its.take (k + 1) = C.its.take k ++ [it] := by rw [List.take_add_one, hit]; rfl
        have hih := ih (k + 1) (by omega) (by omega)
        rw [htk, List.filter_append, List.length_append] at hih
        obtain ⟨tm, tf, i1, i2, i3⟩ := hIt
        refine rv_iload_n hX dX10_atoms_4 rfl ?_
        refine rv_aload_n hX dX10_atoms_5 rfl ?_
        refine rv_getfR hX gX10_20_X10 h1 rfl dX10_atoms_6 ?_
        refine rv_invVR hX iX10_45 mdJ2_size l1 ⟨TJ2, 3, rv_c17⟩ (j_size hG (d := d - 1) hL.L) (by omega) rfl rfl (Nat.le_of_ble_eq_true rfl) dX10_atoms_9 (fun v h' hq => ?_) (fun E h' hq => by first | exact hq.elim | cases hq.2 | cases hq.1)
        obtain ⟨rfl, hq⟩ := hq
        cases hq
        rw [hes]
        refine nv_icmp_ge hX 46 (by omega) (by omega) dX10_atoms_12 (by decide) (fun q => absurd q (by omega)) (fun c_12 => ?_)
        refine rv_iload_n hX dX10_atoms_15 rfl ?_
        refine rv_aload_n hX dX10_atoms_16 rfl ?_
        refine rv_getfR hX gX10_20_X10 h1 rfl dX10_atoms_17 ?_
        refine rv_iload_n hX dX10_atoms_20 rfl ?_
        refine rv_invVR hX iX10_49 mdJ2_get l1 ⟨TJ2, 3, rv_c17⟩ (j_get hG (d := d - 1) (by omega) hL.L hie) (by omega) rfl rfl (Nat.le_of_ble_eq_true rfl) dX10_atoms_21 (fun v h' hq => ?_) (fun E h' hq => by first | exact hq.elim | cases hq.2 | cases hq.1)
        obtain ⟨rfl, hq⟩ := hq
        cases hq
        refine rv_castOR hX i1 rv_c10 q949 dX10_atoms_24 ?_
        refine rv_getfR hX gX10_55_X11 i1 rfl dX10_atoms_27 ?_
        first | refine zv_if_ne hX 37 dX10_atoms_30 (by decide) (fun c_30 => ?_) (fun c_30 => ?_) | refine nv_if_ne hX 37 (by omega) dX10_atoms_30 (by decide) (fun c_30 => ?_) (fun c_30 => ?_) | refine rv_if_ne hX 37 dX10_atoms_30 (by decide) (fun c_30 => ?_) (fun c_30 => ?_)
        · skip
          rw [List.filter_cons_of_neg (by simp; omega)] at hih
          refine nv_iconst hX (m := 0) (by decide) dX10_atoms_37 ?_
          first | refine nv_iadd hX dX10_atoms_38 ?_ | refine rv_iadd hX dX10_atoms_38 ?_
          refine rv_istore_n hX dX10_atoms_39 (rv_st_1 rfl) ?_
          first | refine nv_iinc hX (m := 1) dX10_atoms_40 rfl (by decide) (rv_st_2 rfl) ?_ | refine rv_iinc hX dX10_atoms_40 rfl rfl (rv_st_2 rfl) ?_
          refine rv_goto hX 4 dX10_atoms_43 (by decide) ?_
          exact hih
        · skip
          rw [List.filter_cons_of_pos (by simp; omega)] at hih
          refine nv_iconst hX (m := 1) (by decide) dX10_atoms_33 ?_
          refine rv_goto hX 38 dX10_atoms_34 (by decide) ?_
          first | refine nv_iadd hX dX10_atoms_38 ?_ | refine rv_iadd hX dX10_atoms_38 ?_
          refine rv_istore_n hX dX10_atoms_39 (rv_st_1 rfl) ?_
          first | refine nv_iinc hX (m := 1) dX10_atoms_40 rfl (by decide) (rv_st_2 rfl) ?_ | refine rv_iinc hX dX10_atoms_40 rfl rfl (rv_st_2 rfl) ?_
          refine rv_goto hX 4 dX10_atoms_43 (by decide) ?_
          exact hih
  refine nv_iconst hX (m := 0) (by decide) dX10_atoms_0 ?_
  refine rv_istore_n hX dX10_atoms_1 (rv_st_1 rfl) ?_
  refine nv_iconst hX (m := 0) (by decide) dX10_atoms_2 ?_
  refine rv_istore_n hX dX10_atoms_3 (rv_st_2 rfl) ?_
  exact loop (C.its.length + 1) 0 (by omega) (by omega)
