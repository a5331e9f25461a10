/-! THE SYSTEM: a head laid over a fact; the latest item; a rule made -/
set_option maxRecDepth 100000
theorem sp_lay_cons {g : Nat → Option Nat} {t s a : Nat} {ts : List Nat} {v : sp_V} (hg : g s = some a) : sp_lay g (t :: ts) s v = if t < 200 then (sp_bind v t a).bind (sp_lay g ts (s + 1)) else sp_lay g ts (s + 1) v := by
  show (match g s with
    | none => sp_lay g ts (s + 1) v
    | some a => if t < 200 then (sp_bind v t a).bind (sp_lay g ts (s + 1)) else sp_lay g ts (s + 1) v) = _
  rw [hg]
/-- the values of a head by a fact -/
def sp_hbs (C : sp_C) (f : Nat) (v : sp_V) : Option sp_V := if f / 1000000 = C.rel then sp_lay (fun s => some (sp_slot f s)) C.hts 0 v else none
theorem x_binds {G : rv_G} (hG : rv_GK G) {d ca vr f n m : Nat} (hd : 2 ≤ d) {isd : Bool} {C : sp_C} {v : sp_V} {vf : Nat → Int32} {F : xF} {h : rv_H} (hC : xCl G isd (xr G F) ca C) (hw : sp_wfH C.hts) (hl : C.hts.length ≤ 3) (hrel : C.rel < 8) (hv : xva v vf) (hf : f < 2147483648) (hH : xH G F [(vr, cI 8 vf)] n m h) : rv_Call G d yX10_binds wX10_binds [.ref ca, .int (nI f), .ref vr] h (xN (fun u h' => ∃ w vf', u = some (.int (rv_z (sp_hbs C f v).isSome)) ∧ (∀ v', sp_hbs C f v = some v' → w = v') ∧ xva w vf' ∧ xS G F h [vr] [(vr, cI 8 vf')] n m h')) := by
  refine rv_start hG (by decide +kernel) (L := [some (.ref ca), some (.int (nI f)), some (.ref vr), none, none]) rfl (Nat.le_of_ble_eq_true rfl) (fun X hX1 hX hE => ?_)
  subst hX1
  have hS := hH.start
  generalize hR : sp_hbs C f v = R
  obtain ⟨hd1, bo, gk, md, sal, tl, h1, ⟨tm, tf, h3, h4, h5⟩, -, -⟩ := hC
  rw [List.length_map] at h3 h4
  have h3 : xr X.1 F hd1 (cO 10 [.int (nI 0), .int (nI C.rel), .ref tm, .int (nI C.hts.length)]) := h3
  have hgs : ∀ s, C.gath = some s ↔ ∃ t, C.hts[s]? = some t ∧ 200 ≤ t := fun s => sp_gslot_at hw
  have hgo : ∀ s, C.gath = some s → s < 2147483648 := fun s e => by
    obtain ⟨t, e1, -⟩ := (hgs s).mp e
    have := (List.getElem?_eq_some_iff.mp e1).1
    omega
  have loop : ∀ (z s : Nat) (b : Bool) (w : sp_V) (vf : Nat → Int32) (h1 : rv_H), C.hts.length - s < z → s ≤ C.hts.length → (b = true → R = sp_lay (fun s => some (sp_slot f s)) (C.hts.drop s) s w) → (b = false → R = none) → xva w vf → xS X.1 F h [vr] [(vr, cI 8 vf)] n m h1 → rv_V X h1 23 [some (.ref ca), some (.int (nI f)), some (.ref vr), some (.int (rv_z b)), some (.int (nI s))] [] := by
    intro z
    induction z with
    | zero => intro s b w vf h9 g1; omega
    | succ z ih =>
      intro s b w vf h9 g1 g2 g3 g4 hv hS
      by_cases hs : s = C.hts.length
      · have hb : R = if b = true then some w else none := by
          cases b with
          | true => rw [g3 rfl, hs, List.drop_length]; rfl
          | false => exact g4 rfl
        refine rv_iload hX dX10_binds_23 rfl ?_
        refine rv_aload_n hX dX10_binds_25 rfl ?_
        refine rv_getfR hX gX10_24_X10 (hS.f h1) rfl dX10_binds_26 ?_
        refine rv_getfR hX gX10_61_X11 (hS.f h3) rfl dX10_binds_29 ?_
        refine xv_alen hX (hS.f h4) dX10_binds_32 ?_
        refine nv_icmp_ge hX 84 (by omega) (by omega) dX10_binds_33 (by decide) (fun c_33 => ?_) (fun q => absurd q (by omega))
        refine rv_iload_n hX dX10_binds_84 rfl ?_
        refine rv_ireturn hX hE (rv_zn _) ?_ dX10_binds_85
        refine ⟨w, vf, ?_, fun v' e => ?_, hv, hS⟩
        · rw [hR, hb]
          cases b <;> rfl
        · rw [hR, hb] at e
          cases b with
          | true => cases e; rfl
          | false => cases e
      · cases b with
        | false =>
          have hb := g4 rfl
          refine rv_iload hX dX10_binds_23 rfl ?_
          refine rv_aload_n hX dX10_binds_25 rfl ?_
          refine rv_getfR hX gX10_24_X10 (hS.f h1) rfl dX10_binds_26 ?_
          refine rv_getfR hX gX10_61_X11 (hS.f h3) rfl dX10_binds_29 ?_
          refine xv_alen hX (hS.f h4) dX10_binds_32 ?_
          refine nv_icmp_ge hX 84 (by omega) (by omega) dX10_binds_33 (by decide) (fun q => absurd q (by omega)) (fun c_33 => ?_)
          refine rv_iload_n hX dX10_binds_36 rfl ?_
          refine rv_if_eq hX 84 dX10_binds_37 (by decide) (fun c_37 => ?_) (fun q => absurd rfl q)
          refine rv_iload_n hX dX10_binds_84 rfl ?_
          refine rv_ireturn hX hE (rv_zn _) ?_ dX10_binds_85
          exact ⟨w, vf, by rw [hR, hb]; rfl, fun v' e => by rw [hR, hb] at e; (cases e), hv, hS⟩
        | true =>
          have g3 := g3 rfl
          obtain ⟨t, hkt⟩ : ∃ t, C.hts[s]? = some t := ⟨C.hts[s], List.getElem?_eq_getElem (by omega)⟩
          have htm : (C.hts.map xtm)[s]? = some (xtm t) := by rw [List.getElem?_map, hkt]; rfl
          have h5' := h5 s _ htm
          rw [(List.drop_eq_getElem_cons (by omega) : C.hts.drop s = _), (List.getElem?_eq_some_iff.mp hkt).2, sp_lay_cons (g := fun s => some (sp_slot f s)) (a := sp_slot f s) rfl] at g3
          by_cases ht : 200 ≤ t
          · rw [if_neg (by omega)] at g3
            have hgk : C.gath = some s := (hgs s).mpr ⟨t, hkt, ht⟩
            rw [hgk, rv_oi_some] at h1
            refine rv_iload hX dX10_binds_23 rfl ?_
            refine rv_aload_n hX dX10_binds_25 rfl ?_
            refine rv_getfR hX gX10_24_X10 (hS.f h1) rfl dX10_binds_26 ?_
            refine rv_getfR hX gX10_61_X11 (hS.f h3) rfl dX10_binds_29 ?_
            refine xv_alen hX (hS.f h4) dX10_binds_32 ?_
            refine nv_icmp_ge hX 84 (by omega) (by omega) dX10_binds_33 (by decide) (fun q => absurd q (by omega)) (fun c_33 => ?_)
            refine rv_iload_n hX dX10_binds_36 rfl ?_
            refine rv_if_eq hX 84 dX10_binds_37 (by decide) (fun q => absurd q (by decide)) (fun c_37 => ?_)
            refine rv_iload hX dX10_binds_40 rfl ?_
            refine rv_aload_n hX dX10_binds_42 rfl ?_
            refine rv_getfR hX gX10_9_X10 (hS.f h1) rfl dX10_binds_43 ?_
            refine rv_icmp_eq hX 72 dX10_binds_46 (by decide) (fun c_46 => ?_) (fun q => absurd rfl q)
            refine nv_iconst hX (m := 1) (by decide) dX10_binds_72 ?_
            refine rv_goto hX 77 dX10_binds_73 (by decide) ?_
            refine rv_istore_n hX dX10_binds_77 (rv_st_3 rfl) ?_
            first | refine nv_iinc hX (m := 1) dX10_binds_78 rfl (by decide) (rv_st_4 rfl) ?_ | refine rv_iinc hX dX10_binds_78 rfl rfl (rv_st_4 rfl) ?_
            refine rv_goto hX 23 dX10_binds_81 (by decide) ?_
            exact ih (s + 1) true w vf _ (by omega) (by omega) (fun _ => g3) (fun e => by cases e) hv hS
          · rw [if_pos (by omega)] at g3
            have hgk : C.gath ≠ some s := fun e => by
              obtain ⟨u, e1, e2⟩ := (hgs s).mp e
              rw [hkt] at e1
              cases e1
              exact ht e2
            have ht8 : t < 108 := by
              rcases hw.1 t (List.mem_of_getElem? hkt) with q | q
              · exact q
              · omega
            have hxt : xtm t = t := by unfold xtm; rw [if_neg ht]
            rw [hxt] at h5'
            refine rv_iload hX dX10_binds_23 rfl ?_
            refine rv_aload_n hX dX10_binds_25 rfl ?_
            refine rv_getfR hX gX10_24_X10 (hS.f h1) rfl dX10_binds_26 ?_
            refine rv_getfR hX gX10_61_X11 (hS.f h3) rfl dX10_binds_29 ?_
            refine xv_alen hX (hS.f h4) dX10_binds_32 ?_
            refine nv_icmp_ge hX 84 (by omega) (by omega) dX10_binds_33 (by decide) (fun q => absurd q (by omega)) (fun c_33 => ?_)
            refine rv_iload_n hX dX10_binds_36 rfl ?_
            refine rv_if_eq hX 84 dX10_binds_37 (by decide) (fun q => absurd q (by decide)) (fun c_37 => ?_)
            refine rv_iload hX dX10_binds_40 rfl ?_
            refine rv_aload_n hX dX10_binds_42 rfl ?_
            refine rv_getfR hX gX10_9_X10 (hS.f h1) rfl dX10_binds_43 ?_
            refine rv_icmp_eq hX 72 dX10_binds_46 (by decide) (fun q => absurd ((rv_oi_inj (x := some s) (y := C.gath) (fun b e => by cases e; omega) hgo).mp q) (fun e => hgk e.symm)) (fun c_46 => ?_)
            refine rv_aload_n hX dX10_binds_49 rfl ?_
            refine rv_getfR hX gX10_24_X10 (hS.f h1) rfl dX10_binds_50 ?_
            refine rv_getfR hX gX10_61_X11 (hS.f h3) rfl dX10_binds_53 ?_
            refine rv_iload hX dX10_binds_56 rfl ?_
            refine xv_iald hX (hS.f h4) (by omega) (by omega) dX10_binds_58 ?_
            rw [h5']
            refine rv_iload_n hX dX10_binds_59 rfl ?_
            refine rv_iload hX dX10_binds_60 rfl ?_
            refine rv_invS hX iX10_73 mdX1_slotOf (x_slotOf hG (d := d - 1) hf (by omega)) (by omega) rfl rfl (Nat.le_of_ble_eq_true rfl) dX10_binds_62 (fun v h' hq => ?_) (fun E h' hq => by first | exact hq.elim | cases hq.2 | cases hq.1)
            obtain ⟨rfl, hq⟩ := hq
            cases hq
            refine rv_aload_n hX dX10_binds_65 rfl ?_
            refine rv_invS hX iX10_77 mdX1_bind (x_bind hG (d := d - 1) (by omega) ht8 (sp_slot_lt _ _) (hS.cpre0 [] 1 rfl rfl rfl) hv) (by omega) rfl rfl (Nat.le_of_ble_eq_true rfl) dX10_binds_66 (fun v h' hq => ?_) (fun E h' hq => by first | exact hq.elim | cases hq.2 | cases hq.1)
            obtain ⟨vf2, hu, hv2, hQ⟩ := hq
            have hS := hS.cpost0 [] 1 rfl rfl rfl hQ
            cases hu
            first | refine zv_if_eq hX 76 dX10_binds_69 (by decide) (fun c_69 => ?_) (fun c_69 => ?_) | refine rv_if_eq hX 76 dX10_binds_69 (by decide) (fun c_69 => ?_) (fun c_69 => ?_)
            · skip
              have hbn : sp_bind w t (sp_slot f s) = none := by cases e : sp_bind w t (sp_slot f s) with | none => rfl | some x => simp [e] at c_69
              rw [hbn] at g3 hv2
              refine nv_iconst hX (m := 0) (by decide) dX10_binds_76 ?_
              refine rv_istore_n hX dX10_binds_77 (rv_st_3 rfl) ?_
              first | refine nv_iinc hX (m := 1) dX10_binds_78 rfl (by decide) (rv_st_4 rfl) ?_ | refine rv_iinc hX dX10_binds_78 rfl rfl (rv_st_4 rfl) ?_
              refine rv_goto hX 23 dX10_binds_81 (by decide) ?_
              first
              | exact ih (s + 1) false w vf2 _ (by omega) (by omega) (fun e => by cases e) (fun _ => g3) hv2 hS
              | exact ih (s + 1) true x vf2 _ (by omega) (by omega) (fun _ => g3) (fun e => by cases e) hv2 hS
            · skip
              have hbs : ∃ x, sp_bind w t (sp_slot f s) = some x := by cases e : sp_bind w t (sp_slot f s) with | none => simp [e] at c_69 | some x => exact ⟨x, rfl⟩
              obtain ⟨x, hbs⟩ := hbs
              rw [hbs] at g3 hv2
              refine nv_iconst hX (m := 1) (by decide) dX10_binds_72 ?_
              refine rv_goto hX 77 dX10_binds_73 (by decide) ?_
              refine rv_istore_n hX dX10_binds_77 (rv_st_3 rfl) ?_
              first | refine nv_iinc hX (m := 1) dX10_binds_78 rfl (by decide) (rv_st_4 rfl) ?_ | refine rv_iinc hX dX10_binds_78 rfl rfl (rv_st_4 rfl) ?_
              refine rv_goto hX 23 dX10_binds_81 (by decide) ?_
              first
              | exact ih (s + 1) false w vf2 _ (by omega) (by omega) (fun e => by cases e) (fun _ => g3) hv2 hS
              | exact ih (s + 1) true x vf2 _ (by omega) (by omega) (fun _ => g3) (fun e => by cases e) hv2 hS
  refine rv_iload_n hX dX10_binds_0 rfl ?_
  refine rv_invS hX iX10_69 mdX1_relationOf (x_relationOf hG (d := d - 1) hf) (by omega) rfl rfl (Nat.le_of_ble_eq_true rfl) dX10_binds_1 (fun v h' hq => ?_) (fun E h' hq => by first | exact hq.elim | cases hq.2 | cases hq.1)
  obtain ⟨rfl, hq⟩ := hq
  cases hq
  refine rv_aload_n hX dX10_binds_4 rfl ?_
  refine rv_getfR hX gX10_24_X10 (hS.f h1) rfl dX10_binds_5 ?_
  refine rv_getfR hX gX10_58_X11 (hS.f h3) rfl dX10_binds_8 ?_
  first | refine nv_icmp_ne hX 18 (by omega) (by omega) dX10_binds_11 (by decide) (fun c_11 => ?_) (fun c_11 => ?_) | refine rv_icmp_ne hX 18 dX10_binds_11 (by decide) (fun c_11 => ?_) (fun c_11 => ?_)
  · skip
    have e9 : R = none := by rw [← hR]; exact if_neg (by omega)
    refine nv_iconst hX (m := 0) (by decide) dX10_binds_18 ?_
    refine rv_istore_n hX dX10_binds_19 (rv_st_3 rfl) ?_
    refine nv_iconst hX (m := 0) (by decide) dX10_binds_20 ?_
    refine rv_istore hX dX10_binds_21 (rv_st_4 rfl) ?_
    first
    | exact loop (C.hts.length + 1) 0 true v vf _ (by omega) (by omega) (fun _ => e9) (fun e => by cases e) hv hS
    | exact loop (C.hts.length + 1) 0 false v vf _ (by omega) (by omega) (fun e => by cases e) (fun _ => e9) hv hS
  · skip
    have e9 : R = sp_lay (fun s => some (sp_slot f s)) C.hts 0 v := by rw [← hR]; exact if_pos (by omega)
    refine nv_iconst hX (m := 1) (by decide) dX10_binds_14 ?_
    refine rv_goto hX 19 dX10_binds_15 (by decide) ?_
    refine rv_istore_n hX dX10_binds_19 (rv_st_3 rfl) ?_
    refine nv_iconst hX (m := 0) (by decide) dX10_binds_20 ?_
    refine rv_istore hX dX10_binds_21 (rv_st_4 rfl) ?_
    first
    | exact loop (C.hts.length + 1) 0 true v vf _ (by omega) (by omega) (fun _ => e9) (fun e => by cases e) hv hS
    | exact loop (C.hts.length + 1) 0 false v vf _ (by omega) (by omega) (fun e => by cases e) (fun _ => e9) hv hS
