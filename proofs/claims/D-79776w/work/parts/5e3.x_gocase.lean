/-! THE SYSTEM: the matcher, from a place on -/
set_option maxRecDepth 100000
theorem sp_rc_reach {F : List Nat} {it : sp_I} {its : List sp_I} {v : sp_V} {p rch : Nat} (h : p ≤ rch) : Nat.max rch (sp_rc F its p (sp_alt F (fun _ => true) it v)) = Nat.max rch (p + sp_reach F (it :: its) v) := by
  show _ = Nat.max rch (p + (sp_alt F (fun _ => true) it v).foldr (fun p n => Nat.max (1 + sp_reach F its p.2) n) 0)
  generalize sp_alt F (fun _ => true) it v = A
  have key : Nat.max p (sp_rc F its p A) = p + A.foldr (fun p n => Nat.max (1 + sp_reach F its p.2) n) 0 := by
    induction A with
    | nil => exact Nat.max_eq_left (Nat.zero_le _)
    | cons a A ih =>
      rw [sp_rc_cons, List.foldr_cons]
      have e1 : Nat.max p (Nat.max (p + 1 + sp_reach F its a.2) (sp_rc F its p A)) = Nat.max (p + 1 + sp_reach F its a.2) (Nat.max p (sp_rc F its p A)) := by
        show max p (max _ _) = max _ (max p _)
        omega
      rw [e1, ih]
      show max _ (p + _) = p + max _ _
      omega
  have e2 : Nat.max rch (Nat.max p (sp_rc F its p A)) = Nat.max rch (sp_rc F its p A) := by
    show max rch (max p _) = max rch _
    omega
  rw [← e2, key]
theorem sp_reach_plus {F : List Nat} {it : sp_I} {its : List sp_I} {v w : sp_V} {k : Nat} (h : sp_alt F (fun _ => true) it v = [(k, w)]) : sp_reach F (it :: its) v = 1 + sp_reach F its w := by
  show (sp_alt F (fun _ => true) it v).foldr (fun p n => Nat.max (1 + sp_reach F its p.2) n) 0 = _
  rw [h]
  exact Nat.max_eq_left (Nat.zero_le _)
theorem sp_reach_nil {F : List Nat} {it : sp_I} {its : List sp_I} {v : sp_V} (h : sp_alt F (fun _ => true) it v = []) : sp_reach F (it :: its) v = 0 := by
  show (sp_alt F (fun _ => true) it v).foldr (fun p n => Nat.max (1 + sp_reach F its p.2) n) 0 = _
  rw [h]
  rfl
theorem x_goPlus {S : Type} {G : rv_G} {F : xF} {T : S → xM} {nb mb : S → Nat} {stp : S → sp_Q → Option (S × Bool)} {dt mo ia st tk vr fr : Nat} {nw : Option (Nat × Nat)} {ro : Int32} {Ss : List Nat} {body its : List sp_I} {Fs : List Nat} {r : Nat → Nat} {M0 : List sp_Q} (hC : xGo G F T nb mb stp dt ia st tk vr fr nw ro Ss body its Fs r M0) {it : sp_I} {rest : List sp_I} (h0 : it.1 = 3) (IH : xGoC G F T nb mb stp dt mo ia st tk vr fr nw ro its Fs r M0 rest) {d a ie rch n m : Nat} {pre : List sp_I} {ks : List Nat} {v : sp_V} {vf ff : Nat → Int32} {s : S} {h : rv_H} (hits : its = pre ++ it :: rest) (hd : 2 * rest.length + dt + 5 ≤ d) (hks : ks.length = pre.length) (ha : a = (sp_atk pre ks).length) (hv : xva v vf) (hff : ∀ i f, (sp_fs Fs (sp_atk pre ks))[i]? = some f → ff i = nI f) (hok : sp_okA Fs (it :: rest) v) (hM0 : ∀ q, q ∈ xMs Fs r nw a ks (it :: rest) v → q ∈ M0) (hrch : rch ≤ 6) (hrch2 : pre.length ≤ rch) (hie : xIt (xr G F) ie it)
    (hH : xH G F ((mo, mX ia its.length st tk vr fr (rv_oi (nw.map (fun p => p.1))) ro false rch) :: (vr, cI 8 vf) :: (fr, cI 3 ff) :: T s) (n + nb s) (m + mb s) h) : rv_Call G d yX9_goPlus wX9_goPlus [.ref mo, .ref ie, .int (nI pre.length), .int (nI a)] h (xGoQ G F T nb mb mo ia st tk vr fr its.length nw ro v ff a n m h s (xfold stp s (xMs Fs r nw a ks (it :: rest) v)) (Nat.max rch (pre.length + sp_reach Fs (it :: rest) v))) := by
  obtain ⟨⟨hG, hia, hst⟩, ⟨hb6, ⟨len, hlenE⟩, hat3⟩, ⟨hS3, hS8, hwf⟩, ⟨hnw, hr⟩, htk⟩ := hC
  refine rv_start hG (by decide +kernel) (L := [some (.ref mo), some (.ref ie), some (.int (nI pre.length)), some (.int (nI a)), none, none]) rfl (Nat.le_of_ble_eq_true rfl) (fun X hX1 hX hE => ?_)
  subst hX1
  have hS := hH.start
  obtain ⟨tm, tf, g1, g2, g3⟩ := hie
  have hit : it ∈ its := by rw [hits]; exact List.mem_append_right _ List.mem_cons_self
  have hwi := hwf it hit
  have hl3 := (hwi.2.2.2.1 h0).2
  have hilen : (pre ++ [it]).length = pre.length + 1 := by simp
  have hits2 : its = (pre ++ [it]) ++ rest := by rw [hits]; simp
  have hat : ∀ k, sp_atk (pre ++ [it]) (ks ++ [k]) = sp_atk pre ks := fun k => by rw [sp_atk_snoc hks.symm, if_neg (by omega), List.append_nil]
  have hok1 := hok.1 (by omega)
  obtain ⟨t0, e0⟩ : ∃ t, it.2.2[0]? = some t := ⟨it.2.2[0], List.getElem?_eq_getElem (by omega)⟩
  obtain ⟨t1, e1⟩ : ∃ t, it.2.2[1]? = some t := ⟨it.2.2[1], List.getElem?_eq_getElem (by omega)⟩
  obtain ⟨t2, e2⟩ : ∃ t, it.2.2[2]? = some t := ⟨it.2.2[2], List.getElem?_eq_getElem (by omega)⟩
  have k0 := hok1.2 (by omega) 0 (by omega)
  have k1 := hok1.2 (by omega) 1 (by omega)
  rw [sp_getD e0] at k0
  rw [sp_getD e1] at k1
  obtain ⟨c0, q0⟩ := Option.isSome_iff_exists.mp k0
  obtain ⟨c1, q1⟩ := Option.isSome_iff_exists.mp k1
  have b0 := sp_val100 hv.2 q0
  have b1 := sp_val100 hv.2 q1
  have z0 : sp_get v it.2.2 0 = c0 := by unfold sp_get; rw [sp_getD e0, q0]; rfl
  have z1 : sp_get v it.2.2 1 = c1 := by unfold sp_get; rw [sp_getD e1, q1]; rfl
  have hsp : ∀ al : Nat → Bool, sp_alt Fs al it v = if c0 + c1 < 100 then ((sp_bind v t2 (c0 + c1)).map (fun w => (0, w))).toList else [] := fun al => by
    rw [sp_alt_plus (by omega), z0, z1, sp_getD e2]
  have hback : ∀ w', sp_le v w' → (fun k' => if (v k').isSome = true then w' k' else none) = v := fun w' hle => funext fun k' => by
    rcases hle k' with e | e
    · rw [e]
      rfl
    · cases ev : v k' with
      | none => rfl
      | some c =>
        rw [← e, ev]
        rfl
  obtain ⟨RES, hRES⟩ : ∃ z, z = xfold stp s (xMs Fs r nw a ks (it :: rest) v) := ⟨_, rfl⟩
  rw [← hRES] at hE
  have hnil : ∀ al : Nat → Bool, sp_alt Fs al it v = [] → True := fun _ _ => trivial
  have hend : (∀ al : Nat → Bool, sp_alt Fs al it v = []) → RES = some (s, true) ∧ Nat.max rch (pre.length + sp_reach Fs (it :: rest) v) = rch := fun e => by
    rw [hRES, xMs_cons, e, sp_reach_nil (e _)]
    exact ⟨rfl, Nat.max_eq_left hrch2⟩
  refine rv_aload_n hX dX9_goPlus_0 rfl ?_
  refine rv_getfR hX gX9_101_X11 (hS.f g1) rfl dX9_goPlus_1 ?_
  refine nv_iconst hX (m := 0) (by decide) dX9_goPlus_4 ?_
  refine xv_iald hX (hS.f g2) (by omega) (by omega) dX9_goPlus_5 ?_
  rw [g3 0 t0 e0]
  refine rv_aload_n hX dX9_goPlus_6 rfl ?_
  refine rv_getfR hX gX9_30_X9 (hS.mc (k := 0) rfl) rfl dX9_goPlus_7 ?_
  refine rv_invS hX iX9_104 mdX1_valueOf (x_valueOf hG (d := d - 1) (hwi.2.2.2.2 t0 (List.mem_of_getElem? e0)) (hS.mc (k := 1) rfl) hv) (by omega) rfl rfl (Nat.le_of_ble_eq_true rfl) dX9_goPlus_10 (fun v h' hq => ?_) (fun E h' hq => by first | exact hq.elim | cases hq.2 | cases hq.1)
  obtain ⟨rfl, hq⟩ := hq
  cases hq
  rw [q0, show rv_oi (some c0) = nI c0 from rfl]
  refine rv_aload_n hX dX9_goPlus_13 rfl ?_
  refine rv_getfR hX gX9_101_X11 (hS.f g1) rfl dX9_goPlus_14 ?_
  refine nv_iconst hX (m := 1) (by decide) dX9_goPlus_17 ?_
  refine xv_iald hX (hS.f g2) (by omega) (by omega) dX9_goPlus_18 ?_
  rw [g3 1 t1 e1]
  refine rv_aload_n hX dX9_goPlus_19 rfl ?_
  refine rv_getfR hX gX9_30_X9 (hS.mc (k := 0) rfl) rfl dX9_goPlus_20 ?_
  refine rv_invS hX iX9_104 mdX1_valueOf (x_valueOf hG (d := d - 1) (hwi.2.2.2.2 t1 (List.mem_of_getElem? e1)) (hS.mc (k := 1) rfl) hv) (by omega) rfl rfl (Nat.le_of_ble_eq_true rfl) dX9_goPlus_23 (fun v h' hq => ?_) (fun E h' hq => by first | exact hq.elim | cases hq.2 | cases hq.1)
  obtain ⟨rfl, hq⟩ := hq
  cases hq
  rw [q1, show rv_oi (some c1) = nI c1 from rfl]
  first | refine nv_iadd hX dX9_goPlus_26 ?_ | refine rv_iadd hX dX9_goPlus_26 ?_
  refine rv_istore hX dX9_goPlus_27 (rv_st_4 rfl) ?_
  refine rv_aload_n hX dX9_goPlus_29 rfl ?_
  refine rv_invVR hX iX9_116 mdX9_mask (hS.mc (k := 0) rfl) ⟨TX9, 10, rv_c8⟩ (x_mask hG (d := d - 1) (hS.mc (k := 0) rfl) (hS.mc (k := 1) rfl) hv) (by omega) rfl rfl (Nat.le_of_ble_eq_true rfl) dX9_goPlus_30 (fun v h' hq => ?_) (fun E h' hq => by first | exact hq.elim | cases hq.2 | cases hq.1)
  obtain ⟨rfl, x, hq, hx⟩ := hq
  cases hq
  refine rv_istore hX dX9_goPlus_33 (rv_st_5 rfl) ?_
  by_cases h100 : c0 + c1 < 100
  · cases hb : sp_bind v t2 (c0 + c1) with
    | none =>
      obtain ⟨er, et⟩ := hend (fun al => by rw [hsp, if_pos h100, hb]; rfl)
      refine rv_iload hX dX9_goPlus_35 rfl ?_
      refine nv_bipush hX (m := 100) (by decide) dX9_goPlus_37 ?_
      refine nv_icmp_ge hX 68 (by omega) (by omega) dX9_goPlus_39 (by decide) (fun q => absurd q (by omega)) (fun c_39 => ?_)
      refine rv_aload_n hX dX9_goPlus_42 rfl ?_
      refine rv_getfR hX gX9_101_X11 (hS.f g1) rfl dX9_goPlus_43 ?_
      refine nv_iconst hX (m := 2) (by decide) dX9_goPlus_46 ?_
      refine xv_iald hX (hS.f g2) (by omega) (by omega) dX9_goPlus_47 ?_
      rw [g3 2 t2 e2]
      refine rv_iload hX dX9_goPlus_48 rfl ?_
      refine rv_aload_n hX dX9_goPlus_50 rfl ?_
      refine rv_getfR hX gX9_30_X9 (hS.mc (k := 0) rfl) rfl dX9_goPlus_51 ?_
      refine rv_invS hX iX9_130 mdX1_bind (x_bind hG (d := d - 1) (by omega) (hwi.2.2.2.2 t2 (List.mem_of_getElem? e2)) h100 (hS.cpre0 [0,1,0] 0 rfl rfl rfl) hv) (by omega) rfl rfl (Nat.le_of_ble_eq_true rfl) dX9_goPlus_54 (fun v h' hq => ?_) (fun E h' hq => by first | exact hq.elim | cases hq.2 | cases hq.1)
      obtain ⟨vf3, hu, hv3, hQ⟩ := hq
      have hS := hS.cpost0 [0,1,0] 0 rfl rfl rfl hQ
      cases hu
      rw [hb] at hv3
      have hv3 : xva v vf3 := hv3
      rw [hb, show rv_z (none : Option sp_V).isSome = nI 0 from rfl]
      refine rv_if_eq hX 68 dX9_goPlus_57 (by decide) (fun _ => ?_) (fun q => absurd q (by decide))
      refine rv_aload_n hX dX9_goPlus_68 rfl ?_
      refine rv_iload hX dX9_goPlus_69 rfl ?_
      refine rv_invVR hX iX9_134 mdX9_unbind (hS.mc (k := 0) rfl) ⟨TX9, 10, rv_c8⟩ (x_unbind hG (d := d - 1) (hS.cpre0 [1,1] 0 rfl rfl rfl) hv3 hx) (by omega) rfl rfl (Nat.le_of_ble_eq_true rfl) dX9_goPlus_71 (fun v h' hq => ?_) (fun E h' hq => by first | exact hq.elim | cases hq.2 | cases hq.1)
      obtain ⟨vf4, hu, hv4, hQ⟩ := hq
      have hS := hS.cpost0 [1,1] 0 rfl rfl rfl hQ
      cases hu
      rw [hback _ sp_le.rf] at hv4
      refine rv_return hX hE ?_ dX9_goPlus_74
      exact ⟨s, true, vf4, ff, rch, er, rfl, hv4, fun _ _ => rfl, ⟨hrch, fun _ => et.symm⟩, hS⟩
    | some w =>
      have hpl : ∀ al : Nat → Bool, sp_alt Fs al it v = [(0, w)] := fun al => by rw [hsp, if_pos h100, hb]; rfl
      rw [xMs_cons, hpl, if_neg (by omega), xEx_cons] at hRES hM0
      rw [show xEx Fs r nw a ks rest [] = [] from rfl, List.append_nil] at hRES hM0
      have hokw : sp_okA Fs rest w := hok.2 (0, w) (by rw [hpl]; exact List.mem_singleton.mpr rfl)
      rw [sp_reach_plus (hpl _)] at hE
      refine rv_iload hX dX9_goPlus_35 rfl ?_
      refine nv_bipush hX (m := 100) (by decide) dX9_goPlus_37 ?_
      refine nv_icmp_ge hX 68 (by omega) (by omega) dX9_goPlus_39 (by decide) (fun q => absurd q (by omega)) (fun c_39 => ?_)
      refine rv_aload_n hX dX9_goPlus_42 rfl ?_
      refine rv_getfR hX gX9_101_X11 (hS.f g1) rfl dX9_goPlus_43 ?_
      refine nv_iconst hX (m := 2) (by decide) dX9_goPlus_46 ?_
      refine xv_iald hX (hS.f g2) (by omega) (by omega) dX9_goPlus_47 ?_
      rw [g3 2 t2 e2]
      refine rv_iload hX dX9_goPlus_48 rfl ?_
      refine rv_aload_n hX dX9_goPlus_50 rfl ?_
      refine rv_getfR hX gX9_30_X9 (hS.mc (k := 0) rfl) rfl dX9_goPlus_51 ?_
      refine rv_invS hX iX9_130 mdX1_bind (x_bind hG (d := d - 1) (by omega) (hwi.2.2.2.2 t2 (List.mem_of_getElem? e2)) h100 (hS.cpre0 [0,1,0] 0 rfl rfl rfl) hv) (by omega) rfl rfl (Nat.le_of_ble_eq_true rfl) dX9_goPlus_54 (fun v h' hq => ?_) (fun E h' hq => by first | exact hq.elim | cases hq.2 | cases hq.1)
      obtain ⟨vf3, hu, hv3, hQ⟩ := hq
      have hS := hS.cpost0 [0,1,0] 0 rfl rfl rfl hQ
      cases hu
      rw [hb] at hv3
      have hv3 : xva w vf3 := hv3
      rw [hb, show rv_z (some w).isSome = nI 1 from rfl]
      refine rv_if_eq hX 68 dX9_goPlus_57 (by decide) (fun q => absurd q (by decide)) (fun _ => ?_)
      refine rv_aload_n hX dX9_goPlus_60 rfl ?_
      refine rv_iload_n hX dX9_goPlus_61 rfl ?_
      refine nv_iconst hX (m := 1) (by decide) dX9_goPlus_62 ?_
      first | refine nv_iadd hX dX9_goPlus_63 ?_ | refine rv_iadd hX dX9_goPlus_63 ?_
      refine rv_iload_n hX dX9_goPlus_64 rfl ?_
      have hgo := IH (d - 1) a (pre ++ [it]) (ks ++ [0]) w vf3 ff s rch n m h' hits2 (by omega) (by rw [List.length_append, List.length_append, hks]; rfl) (by rw [hat]; exact ha) hv3 (fun i f hi => by rw [hat] at hi; exact hff i f hi) hokw hM0 hrch (hS.cpre0 [] 1 rfl rfl rfl)
      rw [hilen] at hgo
      refine rv_invVR hX iX9_41 mdX9_go (hS.mc (k := 0) rfl) ⟨TX9, 10, rv_c8⟩ (hgo) (by omega) rfl rfl (Nat.le_of_ble_eq_true rfl) dX9_goPlus_65 (fun v h' hq => ?_) (fun E h' hq => by exact rv_out hX hE (fun x hx => by cases hx) ⟨hq.1, hRES.trans hq.2.1, hS.exc0 [] 1 rfl rfl rfl hq.2.2⟩)
      obtain ⟨s2, b2, vf4, ff4, rch4, hR2, hu, hv4, hff4, ⟨hr4, hTG4⟩, hQ⟩ := hq
      have hS := hS.cpost0 [] 1 rfl rfl rfl hQ
      cases hu
      refine rv_aload_n hX dX9_goPlus_68 rfl ?_
      refine rv_iload hX dX9_goPlus_69 rfl ?_
      refine rv_invVR hX iX9_134 mdX9_unbind (hS.mc (k := 0) rfl) ⟨TX9, 10, rv_c8⟩ (x_unbind hG (d := d - 1) (hS.cpre0 [1,1] 0 rfl rfl rfl) hv4 hx) (by omega) rfl rfl (Nat.le_of_ble_eq_true rfl) dX9_goPlus_71 (fun v h' hq => ?_) (fun E h' hq => by first | exact hq.elim | cases hq.2 | cases hq.1)
      obtain ⟨vf5, hu, hv5, hQ⟩ := hq
      have hS := hS.cpost0 [1,1] 0 rfl rfl rfl hQ
      cases hu
      rw [hback _ (sp_bind_le hb)] at hv5
      refine rv_return hX hE ?_ dX9_goPlus_74
      refine ⟨s2, b2, vf5, ff4, rch4, hRES.trans hR2, rfl, hv5, hff4, ⟨hr4, fun e => ?_⟩, hS⟩
      rw [hTG4 e, Nat.add_assoc]
  · obtain ⟨er, et⟩ := hend (fun al => by rw [hsp, if_neg h100])
    refine rv_iload hX dX9_goPlus_35 rfl ?_
    refine nv_bipush hX (m := 100) (by decide) dX9_goPlus_37 ?_
    refine nv_icmp_ge hX 68 (by omega) (by omega) dX9_goPlus_39 (by decide) (fun c_39 => ?_) (fun q => absurd q (by omega))
    refine rv_aload_n hX dX9_goPlus_68 rfl ?_
    refine rv_iload hX dX9_goPlus_69 rfl ?_
    refine rv_invVR hX iX9_134 mdX9_unbind (hS.mc (k := 0) rfl) ⟨TX9, 10, rv_c8⟩ (x_unbind hG (d := d - 1) (hS.cpre0 [1,1] 0 rfl rfl rfl) hv hx) (by omega) rfl rfl (Nat.le_of_ble_eq_true rfl) dX9_goPlus_71 (fun v h' hq => ?_) (fun E h' hq => by first | exact hq.elim | cases hq.2 | cases hq.1)
    obtain ⟨vf4, hu, hv4, hQ⟩ := hq
    have hS := hS.cpost0 [1,1] 0 rfl rfl rfl hQ
    cases hu
    rw [hback _ sp_le.rf] at hv4
    refine rv_return hX hE ?_ dX9_goPlus_74
    exact ⟨s, true, vf4, ff, rch, er, rfl, hv4, fun _ _ => rfl, ⟨hrch, fun _ => et.symm⟩, hS⟩
theorem x_go {S : Type} {G : rv_G} {F : xF} {T : S → xM} {nb mb : S → Nat} {stp : S → sp_Q → Option (S × Bool)} {dt mo ia st tk vr fr : Nat} {nw : Option (Nat × Nat)} {ro : Int32} {Ss : List Nat} {body its : List sp_I} {Fs : List Nat} {r : Nat → Nat} {M0 : List sp_Q} (hC : xGo G F T nb mb stp dt ia st tk vr fr nw ro Ss body its Fs r M0) : ∀ rest, xGoC G F T nb mb stp dt mo ia st tk vr fr nw ro its Fs r M0 rest := by
  intro rest
  have hC' := hC
  obtain ⟨⟨hG, hia, hst⟩, ⟨hb6, ⟨len, hlenE⟩, hat3⟩, ⟨hS3, hS8, hwf⟩, ⟨hnw, hr⟩, htk⟩ := hC'
  have hbl : its.length ≤ body.length := by
    rw [hlenE, List.length_take]
    exact Nat.min_le_right _ _
  induction rest with
  | nil =>
    intro d a pre ks v vf ff s rch n m h hits hd hks ha hv hff hok hM0 hrch hH
    rw [List.append_nil] at hits
    subst hits
    refine rv_start hG (by decide +kernel) (L := [some (.ref mo), some (.int (nI its.length)), some (.int (nI a)), none]) rfl (Nat.le_of_ble_eq_true rfl) (fun X hX1 hX hE => ?_)
    subst hX1
    have hS := hH.start
    have hq1 : xMs Fs r nw a ks [] v = [(ks, v)] := by
      unfold xMs
      show [(ks ++ [], v)] = _
      rw [List.append_nil]
    rw [hq1] at hE hM0
    have hmem := hM0 (ks, v) (List.mem_singleton.mpr rfl)
    have hone : ∀ s' b, stp s (ks, v) = some (s', b) → xfold stp s [(ks, v)] = some (s', b) := fun s' b e => by
      unfold xfold
      rw [e]
      cases b <;> rfl
    have hnone : stp s (ks, v) = none → xfold stp s [(ks, v)] = none := fun e => by
      unfold xfold
      rw [e]
    have hrm : Nat.max rch its.length ≤ 6 := Nat.max_le.mpr ⟨hrch, by omega⟩
    refine rv_aload_n hX dX9_go_0 rfl ?_
    refine rv_aload_n hX dX9_go_1 rfl ?_
    refine rv_getfR hX gX9_51_X9 (hS.mc (k := 0) rfl) rfl dX9_go_2 ?_
    refine rv_iload_n hX dX9_go_5 rfl ?_
    refine rv_invS hX iX9_54 mdJ12_max (j_max hG (d := d - 1) (by omega) (by omega)) (by omega) rfl rfl (Nat.le_of_ble_eq_true rfl) dX9_go_6 (fun v h' hq => ?_) (fun E h' hq => by first | exact hq.elim | cases hq.2 | cases hq.1)
    obtain ⟨rfl, hq⟩ := hq
    cases hq
    refine xv_putf hX hS (k := 0) rfl pX9_51_X9 (fun q => by cases q) rfl rfl rfl dX9_go_9 (fun h_9 hS => ?_)
    refine rv_iload_n hX dX9_go_12 rfl ?_
    refine rv_aload_n hX dX9_go_13 rfl ?_
    refine rv_getfR hX gX9_23_X9 (hS.mc (k := 0) rfl) rfl dX9_go_14 ?_
    refine nv_icmp_ne hX 50 (by omega) (by omega) dX9_go_17 (by decide) (fun q => absurd q (by omega)) (fun c_17 => ?_)
    refine rv_aload_n hX dX9_go_20 rfl ?_
    refine rv_aload_n hX dX9_go_21 rfl ?_
    refine rv_getfR hX gX9_33_X9 (hS.mc (k := 0) rfl) rfl dX9_go_22 ?_
    refine rv_aload_n hX dX9_go_25 rfl ?_
    refine rv_getfR hX gX9_30_X9 (hS.mc (k := 0) rfl) rfl dX9_go_26 ?_
    refine rv_aload_n hX dX9_go_29 rfl ?_
    refine rv_getfR hX gX9_9_X9 (hS.mc (k := 0) rfl) rfl dX9_go_30 ?_
    refine htk s (ks, v) vf ff n m h_9 hmem hv hff (hS.cpre0 [0] 1 rfl rfl rfl) X d _ _ rfl hX (by omega) (Nat.le_of_ble_eq_true rfl) (fun v2 h' hq => ?_) (fun E h' hq => rv_out hX hE (fun x hx => by cases hx) ⟨hq.1, hnone hq.2.1, hS.exc0 [0] 1 rfl rfl rfl hq.2.2⟩)
    obtain ⟨s', b, hst1, hu, hQ⟩ := hq
    cases hu
    have hS := hS.cpost0 [0] 1 rfl rfl rfl hQ
    first | refine zv_if_ne hX 45 dX9_go_38 (by decide) (fun c_38 => ?_) (fun c_38 => ?_) | refine rv_if_ne hX 45 dX9_go_38 (by decide) (fun c_38 => ?_) (fun c_38 => ?_)
    · skip
      have hb : b = true := by first | exact c_38 | (cases b with | true => rfl | false => exact absurd rfl c_38)
      subst hb
      refine nv_iconst hX (m := 0) (by decide) dX9_go_45 ?_
      refine xv_putf hX hS (k := 0) rfl pX9_37_X9 (fun q => by cases q) rfl rfl rfl dX9_go_46 (fun h_46 hS => ?_)
      refine rv_return hX hE ?_ dX9_go_49
      first
      | exact ⟨s', true, vf, ff, _, hone _ _ hst1, rfl, hv, fun _ _ => rfl, ⟨hrm, fun _ => rfl⟩, hS⟩
      | exact ⟨s', false, vf, ff, _, hone _ _ hst1, rfl, hv, fun _ _ => rfl, ⟨hrm, fun _ => rfl⟩, hS⟩
    · skip
      have hb : b = false := by first | exact c_38 | (cases b with | false => rfl | true => exact absurd c_38 (by decide))
      subst hb
      refine nv_iconst hX (m := 1) (by decide) dX9_go_41 ?_
      refine rv_goto hX 46 dX9_go_42 (by decide) ?_
      refine xv_putf hX hS (k := 0) rfl pX9_37_X9 (fun q => by cases q) rfl rfl rfl dX9_go_46 (fun h_46 hS => ?_)
      refine rv_return hX hE ?_ dX9_go_49
      first
      | exact ⟨s', true, vf, ff, _, hone _ _ hst1, rfl, hv, fun _ _ => rfl, ⟨hrm, fun _ => rfl⟩, hS⟩
      | exact ⟨s', false, vf, ff, _, hone _ _ hst1, rfl, hv, fun _ _ => rfl, ⟨hrm, fun _ => rfl⟩, hS⟩
  | cons it rest ih =>
    intro d a pre ks v vf ff s rch n m h hits hd hks ha hv hff hok hM0 hrch hH
    rw [List.length_cons] at hd
    have hilen : (pre ++ [it]).length = pre.length + 1 := by simp
    have hits2 : its = (pre ++ [it]) ++ rest := by rw [hits]; simp
    have hlen6 : its.length = pre.length + 1 + rest.length := by rw [hits2, List.length_append, hilen]
    have hit : it ∈ its := by rw [hits]; exact List.mem_append_right _ List.mem_cons_self
    have hwi := hwf it hit
    have hl3 := hwi.len hS3
    have hitb : body[pre.length]? = some it := by
      have e : its[pre.length]? = some it := by rw [hits, List.getElem?_append_right (Nat.le_refl _), Nat.sub_self]; rfl
      rw [hlenE, List.getElem?_take] at e
      split at e
      · exact e
      · cases e
    obtain ⟨es, hL, hes, hxs⟩ := hia
    obtain ⟨ie, hie, hIt⟩ := xLp.get hes hxs hitb
    have hIt' := hIt
    obtain ⟨tm, tf, g1, g2, g3⟩ := hIt'
    have hrm : Nat.max rch pre.length ≤ 6 := Nat.max_le.mpr ⟨hrch, by omega⟩
    have hat : it.1 ≠ 0 → ∀ k, sp_atk (pre ++ [it]) (ks ++ [k]) = sp_atk pre ks := fun e k => by rw [sp_atk_snoc hks.symm, if_neg e, List.append_nil]
    have hmm : ∀ z, Nat.max (Nat.max rch pre.length) (pre.length + z) = Nat.max rch (pre.length + z) := fun z => by
      show max (max rch pre.length) (pre.length + z) = max rch (pre.length + z)
      omega
    obtain ⟨RES, hRES⟩ : ∃ z, z = xfold stp s (xMs Fs r nw a ks (it :: rest) v) := ⟨_, rfl⟩
    refine rv_start hG (by decide +kernel) (L := [some (.ref mo), some (.int (nI pre.length)), some (.int (nI a)), none]) rfl (Nat.le_of_ble_eq_true rfl) (fun X hX1 hX hE => ?_)
    subst hX1
    have hS := hH.start
    rw [← hRES] at hE
    have hend : (∀ al : Nat → Bool, sp_alt Fs al it v = []) → RES = some (s, true) ∧ Nat.max rch (pre.length + sp_reach Fs (it :: rest) v) = Nat.max rch pre.length := fun e => by
      rw [hRES, xMs_cons, e, sp_reach_nil (e _)]
      exact ⟨rfl, rfl⟩
    refine rv_aload_n hX dX9_go_0 rfl ?_
    refine rv_aload_n hX dX9_go_1 rfl ?_
    refine rv_getfR hX gX9_51_X9 (hS.mc (k := 0) rfl) rfl dX9_go_2 ?_
    refine rv_iload_n hX dX9_go_5 rfl ?_
    refine rv_invS hX iX9_54 mdJ12_max (j_max hG (d := d - 1) (by omega) (by omega)) (by omega) rfl rfl (Nat.le_of_ble_eq_true rfl) dX9_go_6 (fun v h' hq => ?_) (fun E h' hq => by first | exact hq.elim | cases hq.2 | cases hq.1)
    obtain ⟨rfl, hq⟩ := hq
    cases hq
    refine xv_putf hX hS (k := 0) rfl pX9_51_X9 (fun q => by cases q) rfl rfl rfl dX9_go_9 (fun h_9 hS => ?_)
    refine rv_iload_n hX dX9_go_12 rfl ?_
    refine rv_aload_n hX dX9_go_13 rfl ?_
    refine rv_getfR hX gX9_23_X9 (hS.mc (k := 0) rfl) rfl dX9_go_14 ?_
    refine nv_icmp_ne hX 50 (by omega) (by omega) dX9_go_17 (by decide) (fun c_17 => ?_) (fun q => absurd q (by omega))
    refine rv_aload_n hX dX9_go_50 rfl ?_
    refine rv_getfR hX gX9_19_X9 (hS.mc (k := 0) rfl) rfl dX9_go_51 ?_
    refine rv_iload_n hX dX9_go_54 rfl ?_
    obtain ⟨lm, led, lcap, lf, L, L2⟩ := hL
    have hL : xLs X.1 (xr X.1 F) ia es := ⟨lm, led, lcap, lf, L, L2⟩
    refine rv_invVR hX iX9_66 mdJ2_get (hS.f L) ⟨TJ2, 3, rv_c17⟩ (j_get hG (d := d - 1) (by omega) (hL.mono (fun _ _ => hS.f)).L hie) (by omega) rfl rfl (Nat.le_of_ble_eq_true rfl) dX9_go_55 (fun v h' hq => ?_) (fun E h' hq => by first | exact hq.elim | cases hq.2 | cases hq.1)
    obtain ⟨rfl, hq⟩ := hq
    cases hq
    refine rv_castOR hX (hS.f g1) rv_c10 q1026 dX9_go_58 ?_
    refine rv_astore_n hX dX9_go_61 (rv_st_3 rfl) ?_
    refine rv_aload_n hX dX9_go_62 rfl ?_
    refine rv_getfR hX gX9_74_X11 (hS.f g1) rfl dX9_go_63 ?_
    rcases (by have := hwi.1; omega : it.1 = 0 ∨ it.1 = 1 ∨ it.1 = 2 ∨ it.1 = 3) with h0 | h0 | h0 | h0
    · rw [h0]
      refine rv_tableIn hX 92 dX9_go_66 (by decide) (by decide) (off := 26) rfl (by decide) ?_
      refine rv_aload_n hX dX9_go_92 rfl ?_
      refine rv_aload_n hX dX9_go_93 rfl ?_
      refine rv_iload_n hX dX9_go_94 rfl ?_
      refine rv_iload_n hX dX9_go_95 rfl ?_
      refine rv_invVR hX iX9_77 mdX9_goAtom (hS.mc (k := 0) rfl) ⟨TX9, 10, rv_c8⟩ (x_goAtom hC h0 ih hits (by omega) hks ha hv hff hok hM0 hrm hIt (hS.cpre0 [] 1 rfl rfl rfl) (d := d - 1)) (by omega) rfl rfl (Nat.le_of_ble_eq_true rfl) dX9_go_96 (fun v h' hq => ?_) (fun E h' hq => by exact rv_out hX hE (fun x hx => by cases hx) ⟨hq.1, hRES.trans hq.2.1, hS.exc0 [] 1 rfl rfl rfl hq.2.2⟩)
      obtain ⟨s2, b2, vf4, ff4, rch4, hR2, hu, hv4, hff4, ⟨hr4, hTG4⟩, hQ⟩ := hq
      have hS := hS.cpost0 [] 1 rfl rfl rfl hQ
      cases hu
      refine rv_goto hX 154 dX9_go_99 (by decide) ?_
      refine rv_return hX hE ?_ dX9_go_154
      refine ⟨s2, b2, vf4, ff4, rch4, hRES.trans hR2, rfl, hv4, hff4, ⟨hr4, fun e => ?_⟩, hS⟩
      rw [hTG4 e, sp_rc_reach (Nat.le_max_right _ _), hmm]
    · rw [h0]
      refine rv_tableIn hX 102 dX9_go_66 (by decide) (by decide) (off := 36) rfl (by decide) ?_
      have hok1 := (hok.1 (by omega)).1 h0
      have hw8 : it.2.1 < 8 := by
        have := (List.getElem?_eq_some_iff.mp (hwi.2.1 (by omega))).1
        omega
      have hnum : sp_num v it.2.1 it.2.2 < 2147483648 := by
        rw [← x3_num hl3.2, x3_eq]
        have hx : ∀ k, xtv v it.2.2 k < 100 := fun k => by
          unfold xtv
          split
          · cases e : sp_val v (it.2.2.getD k 0) with
            | none => exact (by decide : 0 < 100)
            | some c => exact sp_val100 hv.2 e
          · decide
        have := hx 0
        have := hx 1
        have := hx 2
        omega
      by_cases hin : sp_num v it.2.1 it.2.2 ∈ Fs
      · obtain ⟨er, et⟩ := hend (fun al => by rw [sp_alt_not h0, if_pos hin])
        obtain ⟨an, ar, nf, rf, f1, f2⟩ := hst
        have hst : xFc (xr X.1 F) st Fs r := ⟨an, ar, nf, rf, f1, f2⟩
        refine rv_aload_n hX dX9_go_102 rfl ?_
        refine rv_getfR hX gX9_26_X9 (hS.mc (k := 0) rfl) rfl dX9_go_103 ?_
        refine rv_aload_n hX dX9_go_106 rfl ?_
        refine rv_aload_n hX dX9_go_107 rfl ?_
        refine rv_invVR hX iX9_81 mdX9_factOf (hS.mc (k := 0) rfl) ⟨TX9, 10, rv_c8⟩ (x_factOf hG (d := d - 1) (by omega) (hS.mc (k := 0) rfl) (hS.mc (k := 1) rfl) hv (hIt.mono (fun _ _ => hS.f)) hl3.2 hwi.2.2.2.2 hok1) (by omega) rfl rfl (Nat.le_of_ble_eq_true rfl) dX9_go_108 (fun v h' hq => ?_) (fun E h' hq => by first | exact hq.elim | cases hq.2 | cases hq.1)
        obtain ⟨rfl, hq⟩ := hq
        cases hq
        refine rv_invVR hX iX9_85 mdX3_has (hS.f f1) ⟨TX3, 3, rv_c2⟩ (x_has hG (d := d - 1) (by omega) (hst.mono (fun _ _ => hS.f)) hnum) (by omega) rfl rfl (Nat.le_of_ble_eq_true rfl) dX9_go_111 (fun v h' hq => ?_) (fun E h' hq => by first | exact hq.elim | cases hq.2 | cases hq.1)
        obtain ⟨rfl, hq⟩ := hq
        cases hq
        rw [decide_eq_true hin]
        refine rv_if_ne hX 154 dX9_go_114 (by decide) (fun _ => ?_) (fun q => absurd q (by decide))
        refine rv_return hX hE ?_ dX9_go_154
        exact ⟨s, true, vf, ff, _, er, rfl, hv, fun _ _ => rfl, ⟨hrm, fun _ => et.symm⟩, hS⟩
      · have hpl : ∀ al : Nat → Bool, sp_alt Fs al it v = [(0, v)] := fun al => by rw [sp_alt_not h0, if_neg hin]
        rw [xMs_cons, hpl, if_neg (by omega), xEx_cons] at hRES hM0
        rw [show xEx Fs r nw a ks rest [] = [] from rfl, List.append_nil] at hRES hM0
        have hokw : sp_okA Fs rest v := hok.2 (0, v) (by rw [hpl]; exact List.mem_singleton.mpr rfl)
        rw [sp_reach_plus (hpl _)] at hE
        obtain ⟨an, ar, nf, rf, f1, f2⟩ := hst
        have hst : xFc (xr X.1 F) st Fs r := ⟨an, ar, nf, rf, f1, f2⟩
        refine rv_aload_n hX dX9_go_102 rfl ?_
        refine rv_getfR hX gX9_26_X9 (hS.mc (k := 0) rfl) rfl dX9_go_103 ?_
        refine rv_aload_n hX dX9_go_106 rfl ?_
        refine rv_aload_n hX dX9_go_107 rfl ?_
        refine rv_invVR hX iX9_81 mdX9_factOf (hS.mc (k := 0) rfl) ⟨TX9, 10, rv_c8⟩ (x_factOf hG (d := d - 1) (by omega) (hS.mc (k := 0) rfl) (hS.mc (k := 1) rfl) hv (hIt.mono (fun _ _ => hS.f)) hl3.2 hwi.2.2.2.2 hok1) (by omega) rfl rfl (Nat.le_of_ble_eq_true rfl) dX9_go_108 (fun v h' hq => ?_) (fun E h' hq => by first | exact hq.elim | cases hq.2 | cases hq.1)
        obtain ⟨rfl, hq⟩ := hq
        cases hq
        refine rv_invVR hX iX9_85 mdX3_has (hS.f f1) ⟨TX3, 3, rv_c2⟩ (x_has hG (d := d - 1) (by omega) (hst.mono (fun _ _ => hS.f)) hnum) (by omega) rfl rfl (Nat.le_of_ble_eq_true rfl) dX9_go_111 (fun v h' hq => ?_) (fun E h' hq => by first | exact hq.elim | cases hq.2 | cases hq.1)
        obtain ⟨rfl, hq⟩ := hq
        cases hq
        rw [decide_eq_false hin]
        refine rv_if_ne hX 154 dX9_go_114 (by decide) (fun q => absurd q (by decide)) (fun _ => ?_)
        refine rv_aload_n hX dX9_go_117 rfl ?_
        refine rv_iload_n hX dX9_go_118 rfl ?_
        refine nv_iconst hX (m := 1) (by decide) dX9_go_119 ?_
        first | refine nv_iadd hX dX9_go_120 ?_ | refine rv_iadd hX dX9_go_120 ?_
        refine rv_iload_n hX dX9_go_121 rfl ?_
        have hgo := ih (d - 1) a (pre ++ [it]) (ks ++ [0]) v vf ff s _ n m _ hits2 (by omega) (by rw [List.length_append, List.length_append, hks]; rfl) (by rw [hat (by omega)]; exact ha) hv (fun i f hi => by rw [hat (by omega)] at hi; exact hff i f hi) hokw hM0 hrm (hS.cpre0 [] 1 rfl rfl rfl)
        rw [hilen] at hgo
        refine rv_invVR hX iX9_41 mdX9_go (hS.mc (k := 0) rfl) ⟨TX9, 10, rv_c8⟩ (hgo) (by omega) rfl rfl (Nat.le_of_ble_eq_true rfl) dX9_go_122 (fun v h' hq => ?_) (fun E h' hq => by exact rv_out hX hE (fun x hx => by cases hx) ⟨hq.1, hRES.trans hq.2.1, hS.exc0 [] 1 rfl rfl rfl hq.2.2⟩)
        obtain ⟨s2, b2, vf4, ff4, rch4, hR2, hu, hv4, hff4, ⟨hr4, hTG4⟩, hQ⟩ := hq
        have hS := hS.cpost0 [] 1 rfl rfl rfl hQ
        cases hu
        refine rv_goto hX 154 dX9_go_125 (by decide) ?_
        refine rv_return hX hE ?_ dX9_go_154
        refine ⟨s2, b2, vf4, ff4, rch4, hRES.trans hR2, rfl, hv4, hff4, ⟨hr4, fun e => ?_⟩, hS⟩
        rw [hTG4 e, Nat.add_assoc, hmm]
    · rw [h0]
      refine rv_tableIn hX 128 dX9_go_66 (by decide) (by decide) (off := 62) rfl (by decide) ?_
      have hok1 := (hok.1 (by omega)).2 (by omega)
      have hl2 := hwi.2.2.1 h0
      cases hte : sp_test it.2.1 (sp_get v it.2.2 0) (sp_get v it.2.2 1) with
      | false =>
        obtain ⟨er, et⟩ := hend (fun al => by rw [sp_alt_test h0, hte]; rfl)
        refine rv_aload_n hX dX9_go_128 rfl ?_
        refine rv_aload_n hX dX9_go_129 rfl ?_
        refine rv_invVR hX iX9_91 mdX9_holds (hS.mc (k := 0) rfl) ⟨TX9, 10, rv_c8⟩ (x_holds hG (d := d - 1) (by omega) (hS.mc (k := 0) rfl) (hS.mc (k := 1) rfl) hv (hIt.mono (fun _ _ => hS.f)) hl2.2 hl2.1 hwi.2.2.2.2 hok1) (by omega) rfl rfl (Nat.le_of_ble_eq_true rfl) dX9_go_130 (fun v h' hq => ?_) (fun E h' hq => by first | exact hq.elim | cases hq.2 | cases hq.1)
        obtain ⟨rfl, hq⟩ := hq
        cases hq
        rw [hte]
        refine rv_if_eq hX 154 dX9_go_133 (by decide) (fun _ => ?_) (fun q => absurd q (by decide))
        refine rv_return hX hE ?_ dX9_go_154
        exact ⟨s, true, vf, ff, _, er, rfl, hv, fun _ _ => rfl, ⟨hrm, fun _ => et.symm⟩, hS⟩
      | true =>
        have hpl : ∀ al : Nat → Bool, sp_alt Fs al it v = [(0, v)] := fun al => by rw [sp_alt_test h0, hte]; rfl
        rw [xMs_cons, hpl, if_neg (by omega), xEx_cons] at hRES hM0
        rw [show xEx Fs r nw a ks rest [] = [] from rfl, List.append_nil] at hRES hM0
        have hokw : sp_okA Fs rest v := hok.2 (0, v) (by rw [hpl]; exact List.mem_singleton.mpr rfl)
        rw [sp_reach_plus (hpl _)] at hE
        refine rv_aload_n hX dX9_go_128 rfl ?_
        refine rv_aload_n hX dX9_go_129 rfl ?_
        refine rv_invVR hX iX9_91 mdX9_holds (hS.mc (k := 0) rfl) ⟨TX9, 10, rv_c8⟩ (x_holds hG (d := d - 1) (by omega) (hS.mc (k := 0) rfl) (hS.mc (k := 1) rfl) hv (hIt.mono (fun _ _ => hS.f)) hl2.2 hl2.1 hwi.2.2.2.2 hok1) (by omega) rfl rfl (Nat.le_of_ble_eq_true rfl) dX9_go_130 (fun v h' hq => ?_) (fun E h' hq => by first | exact hq.elim | cases hq.2 | cases hq.1)
        obtain ⟨rfl, hq⟩ := hq
        cases hq
        rw [hte]
        refine rv_if_eq hX 154 dX9_go_133 (by decide) (fun q => absurd q (by decide)) (fun _ => ?_)
        refine rv_aload_n hX dX9_go_136 rfl ?_
        refine rv_iload_n hX dX9_go_137 rfl ?_
        refine nv_iconst hX (m := 1) (by decide) dX9_go_138 ?_
        first | refine nv_iadd hX dX9_go_139 ?_ | refine rv_iadd hX dX9_go_139 ?_
        refine rv_iload_n hX dX9_go_140 rfl ?_
        have hgo := ih (d - 1) a (pre ++ [it]) (ks ++ [0]) v vf ff s _ n m _ hits2 (by omega) (by rw [List.length_append, List.length_append, hks]; rfl) (by rw [hat (by omega)]; exact ha) hv (fun i f hi => by rw [hat (by omega)] at hi; exact hff i f hi) hokw hM0 hrm (hS.cpre0 [] 1 rfl rfl rfl)
        rw [hilen] at hgo
        refine rv_invVR hX iX9_41 mdX9_go (hS.mc (k := 0) rfl) ⟨TX9, 10, rv_c8⟩ (hgo) (by omega) rfl rfl (Nat.le_of_ble_eq_true rfl) dX9_go_141 (fun v h' hq => ?_) (fun E h' hq => by exact rv_out hX hE (fun x hx => by cases hx) ⟨hq.1, hRES.trans hq.2.1, hS.exc0 [] 1 rfl rfl rfl hq.2.2⟩)
        obtain ⟨s2, b2, vf4, ff4, rch4, hR2, hu, hv4, hff4, ⟨hr4, hTG4⟩, hQ⟩ := hq
        have hS := hS.cpost0 [] 1 rfl rfl rfl hQ
        cases hu
        refine rv_goto hX 154 dX9_go_144 (by decide) ?_
        refine rv_return hX hE ?_ dX9_go_154
        refine ⟨s2, b2, vf4, ff4, rch4, hRES.trans hR2, rfl, hv4, hff4, ⟨hr4, fun e => ?_⟩, hS⟩
        rw [hTG4 e, Nat.add_assoc, hmm]
    · rw [h0]
      refine rv_tableOut hX 147 dX9_go_66 (Or.inr (by decide)) (by decide) ?_
      refine rv_aload_n hX dX9_go_147 rfl ?_
      refine rv_aload_n hX dX9_go_148 rfl ?_
      refine rv_iload_n hX dX9_go_149 rfl ?_
      refine rv_iload_n hX dX9_go_150 rfl ?_
      refine rv_invVR hX iX9_95 mdX9_goPlus (hS.mc (k := 0) rfl) ⟨TX9, 10, rv_c8⟩ (x_goPlus hC h0 ih hits (by omega) hks ha hv hff hok hM0 hrm (Nat.le_max_right _ _) hIt (hS.cpre0 [] 1 rfl rfl rfl) (d := d - 1)) (by omega) rfl rfl (Nat.le_of_ble_eq_true rfl) dX9_go_151 (fun v h' hq => ?_) (fun E h' hq => by exact rv_out hX hE (fun x hx => by cases hx) ⟨hq.1, hRES.trans hq.2.1, hS.exc0 [] 1 rfl rfl rfl hq.2.2⟩)
      obtain ⟨s2, b2, vf4, ff4, rch4, hR2, hu, hv4, hff4, ⟨hr4, hTG4⟩, hQ⟩ := hq
      have hS := hS.cpost0 [] 1 rfl rfl rfl hQ
      cases hu
      refine rv_return hX hE ?_ dX9_go_154
      refine ⟨s2, b2, vf4, ff4, rch4, hRES.trans hR2, rfl, hv4, hff4, ⟨hr4, fun e => ?_⟩, hS⟩
      rw [hTG4 e, hmm]
