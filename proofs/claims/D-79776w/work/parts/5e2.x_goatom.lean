/-! THE SYSTEM: the matcher, ATOMs -/
set_option maxRecDepth 100000
/-- the matches by some ways of an item -/
def xEx (Fs : List Nat) (r : Nat → Nat) (nw : Option (Nat × Nat)) (a : Nat) (ks : List Nat) (its : List sp_I) (A : List (Nat × sp_V)) : List sp_Q := A.flatMap (fun p => xMs Fs r nw a (ks ++ [p.1]) its p.2)
theorem xEx_cons {Fs : List Nat} {r : Nat → Nat} {nw : Option (Nat × Nat)} {a : Nat} {ks : List Nat} {its : List sp_I} {p : Nat × sp_V} {A : List (Nat × sp_V)} : xEx Fs r nw a ks its (p :: A) = xMs Fs r nw a (ks ++ [p.1]) its p.2 ++ xEx Fs r nw a ks its A := rfl
theorem xMs_cons {Fs : List Nat} {r : Nat → Nat} {nw : Option (Nat × Nat)} {a : Nat} {ks : List Nat} {it : sp_I} {its : List sp_I} {v : sp_V} : xMs Fs r nw a ks (it :: its) v = xEx Fs r nw (if it.1 = 0 then a + 1 else a) ks its (sp_alt Fs (xal Fs r nw a) it v) := by
  unfold xMs xEx
  show ((sp_alt Fs (xal Fs r nw a) it v).flatMap _).map _ = _
  rw [List.map_flatMap]
  congr 1
  funext p
  unfold xMs
  rw [List.map_map]
  congr 1
  funext q
  simp
theorem sp_frg_true {F : List Nat} {al : Nat → Bool} {it : sp_I} {v : sp_V} {k : Nat} {p : Nat × sp_V} (hk : k < F.length) (h0 : it.1 = 0) (h : sp_frg F al it v k = some p) : p ∈ sp_alt F (fun _ => true) it v := by
  unfold sp_alt
  rw [if_pos h0, List.mem_filterMap]
  refine ⟨k, List.mem_range.mpr hk, ?_⟩
  unfold sp_frg at h
  split at h
  · rename_i e
    rw [if_pos ⟨rfl, e.2⟩]
    exact h
  · cases h
theorem xal_none {F : List Nat} {r : Nat → Nat} {a : Nat} : xal F r none a = fun _ => true := rfl
theorem xMs_none {F : List Nat} {r : Nat → Nat} {a : Nat} {ks : List Nat} {its : List sp_I} {v : sp_V} : xMs F r none a ks its v = (sp_m F its v).map (fun q => (ks ++ q.1, q.2)) := by
  unfold xMs
  rw [show sp_mat F (xal F r none) a its v = sp_m F its v from sp_mat_any F its a 0 v]
theorem x_goAtom {S : Type} {G : rv_G} {F : xF} {T : S → xM} {nb mb : S → Nat} {stp : S → sp_Q → Option (S × Bool)} {dt mo ia st tk vr fr : Nat} {nw : Option (Nat × Nat)} {ro : Int32} {Ss : List Nat} {body its : List sp_I} {Fs : List Nat} {r : Nat → Nat} {M0 : List sp_Q} (hC : xGo G F T nb mb stp dt ia st tk vr fr nw ro Ss body its Fs r M0) {it : sp_I} {rest : List sp_I} (h0 : it.1 = 0) (IH : xGoC G F T nb mb stp dt mo ia st tk vr fr nw ro its Fs r M0 rest) {d a ie rch n m : Nat} {pre : List sp_I} {ks : List Nat} {v : sp_V} {vf ff : Nat → Int32} {s : S} {h : rv_H} (hits : its = pre ++ it :: rest) (hd : 2 * rest.length + dt + 5 ≤ d) (hks : ks.length = pre.length) (ha : a = (sp_atk pre ks).length) (hv : xva v vf) (hff : ∀ i f, (sp_fs Fs (sp_atk pre ks))[i]? = some f → ff i = nI f) (hok : sp_okA Fs (it :: rest) v) (hM0 : ∀ q, q ∈ xMs Fs r nw a ks (it :: rest) v → q ∈ M0) (hrch : rch ≤ 6) (hie : xIt (xr G F) ie it)
    (hH : xH G F ((mo, mX ia its.length st tk vr fr (rv_oi (nw.map (fun p => p.1))) ro false rch) :: (vr, cI 8 vf) :: (fr, cI 3 ff) :: T s) (n + nb s) (m + mb s) h) : rv_Call G d yX9_goAtom wX9_goAtom [.ref mo, .ref ie, .int (nI pre.length), .int (nI a)] h (xGoQ G F T nb mb mo ia st tk vr fr its.length nw ro v ff a n m h s (xfold stp s (xMs Fs r nw a ks (it :: rest) v)) (Nat.max rch (sp_rc Fs rest pre.length (sp_alt Fs (fun _ => true) it v)))) := by
  obtain ⟨⟨hG, hia, hst⟩, ⟨hb6, ⟨len, hlenE⟩, hat3⟩, ⟨hS3, hS8, hwf⟩, ⟨hnw, hr⟩, htk⟩ := hC
  refine rv_start hG (by decide +kernel) (L := [some (.ref mo), some (.ref ie), some (.int (nI pre.length)), some (.int (nI a)), none, none, none, none, none]) rfl (Nat.le_of_ble_eq_true rfl) (fun X hX1 hX hE => ?_)
  subst hX1
  have hS := hH.start
  have hst' := hst
  obtain ⟨an, ar, nf, rf, f1, f2, f3, ⟨⟨fs1, fs2, fs3⟩, f4⟩⟩ := hst'
  obtain ⟨tm, tf, g1, g2, g3⟩ := hie
  have hit : it ∈ its := by rw [hits]; exact List.mem_append_right _ List.mem_cons_self
  have hwi := hwf it hit
  have hlen := hwi.len hS3
  have hw8 : it.2.1 < 8 := by
    have := (List.getElem?_eq_some_iff.mp (hwi.2.1 (by omega))).1
    omega
  have ha3 : a < 3 := by
    rw [hits, List.filter_append, List.length_append, List.filter_cons_of_pos (by rw [h0]; rfl), List.length_cons] at hat3
    rw [ha, sp_atk_nat hks]
    omega
  have hrel := sp_frm_rel fs1 (al := xal Fs r nw a) (it := it) (v := v)
  obtain ⟨r1, r2, r3, r4⟩ := hrel
  have hpl := sf_pl_le Fs (1000000 * (it.2.1 + 1))
  have hilen : (pre ++ [it]).length = pre.length + 1 := by simp
  have hits2 : its = (pre ++ [it]) ++ rest := by rw [hits]; simp
  have hlen6 : pre.length + 1 + rest.length ≤ 6 := by
    have e1 : its.length = pre.length + 1 + rest.length := by rw [hits2, List.length_append, hilen]
    have e2 : its.length ≤ body.length := by
      rw [hlenE, List.length_take]
      exact Nat.min_le_right _ _
    omega
  obtain ⟨RES, hRES⟩ : ∃ z, z = xfold stp s (xMs Fs r nw a ks (it :: rest) v) := ⟨_, rfl⟩
  obtain ⟨TG, hTG⟩ : ∃ z, z = Nat.max rch (sp_rc Fs rest pre.length (sp_alt Fs (fun _ => true) it v)) := ⟨_, rfl⟩
  rw [← hRES, ← hTG] at hE
  have hE9 := hRES
  rw [xMs_cons, if_pos h0, sp_frm_0 h0, r1] at hE9 hM0
  have hE2 : xfold stp s (xEx Fs r nw (a + 1) ks rest (sp_frm Fs (xal Fs r nw a) it v (sf_pl Fs (1000000 * it.2.1)))) = RES := hE9.symm
  obtain ⟨lo, hlo⟩ : ∃ z, z = sf_pl Fs (1000000 * it.2.1) := ⟨_, rfl⟩
  obtain ⟨hi, hhi⟩ : ∃ z, z = sf_pl Fs (1000000 * (it.2.1 + 1)) := ⟨_, rfl⟩
  rw [← hlo] at r1 r3 r4
  rw [← hhi] at r2 r3 r4 hpl
  rw [← hlo] at hE2 hM0
  have htg : nw = none → sp_alt Fs (fun _ => true) it v = sp_frm Fs (xal Fs r nw a) it v lo := fun e => by
    subst e
    rw [xal_none] at r1 ⊢
    rw [← r1, ← sp_frm_0 h0]
  have inner : ∀ (k x : Nat) (w0 : Int32) (s1 : S) (ff1 : Nat → Int32) (rch1 : Nat), Fs[k]? = some x → x / 1000000 = it.2.1 → ∀ (z sl : Nat) (is : Bool) (w : sp_V) (vf2 : Nat → Int32) (h2 : rv_H), it.2.2.length - sl < z → sl ≤ it.2.2.length → ((is = true ∧ xal Fs r nw a k = true ∧ sp_binds v x it.2.2 0 = sp_binds w x (it.2.2.drop sl) sl) ∨ (is = false ∧ sp_frg Fs (xal Fs r nw a) it v k = none)) → xva w vf2 → sp_le v w → xS X.1 F h (mo :: vr :: fr :: xad (T s)) ((mo, mX ia its.length st tk vr fr (rv_oi (nw.map (fun p => p.1))) ro false rch1) :: (vr, cI 8 vf2) :: (fr, cI 3 ff1) :: T s1) (n + nb s1) (m + mb s1) h2 → (∀ (w' : sp_V) (vf' : Nat → Int32) (h' : rv_H) (is' : Bool) (L8 : Option Value), ((is' = true ∧ sp_frg Fs (xal Fs r nw a) it v k = some (k, w')) ∨ (is' = false ∧ sp_frg Fs (xal Fs r nw a) it v k = none)) → xva w' vf' → sp_le v w' → xS X.1 F h (mo :: vr :: fr :: xad (T s)) ((mo, mX ia its.length st tk vr fr (rv_oi (nw.map (fun p => p.1))) ro false rch1) :: (vr, cI 8 vf') :: (fr, cI 3 ff1) :: T s1) (n + nb s1) (m + mb s1) h' → rv_V X h' 118 [some (.ref mo), some (.ref ie), some (.int (nI pre.length)), some (.int (nI a)), some (.int (nI hi)), some (.int w0), some (.int (nI k)), some (.int (rv_z is')), L8] []) → rv_V X h2 66 [some (.ref mo), some (.ref ie), some (.int (nI pre.length)), some (.int (nI a)), some (.int (nI hi)), some (.int w0), some (.int (nI k)), some (.int (rv_z is)), some (.int (nI sl))] [] := by
    intro k x w0 s1 ff1 rch1 hk hxw z
    have hx8 := fs3 x (List.mem_of_getElem? hk)
    have hkl := (List.getElem?_eq_some_iff.mp hk).1
    induction z with
    | zero => intro sl is w vf2 h2 q; omega
    | succ z ihz =>
      intro sl is w vf2 h2 q1 q2 q3 q4 q5 hS kk
      have hno : is = false → sp_frg Fs (xal Fs r nw a) it v k = none := fun e => by
        rcases q3 with ⟨p1, -⟩ | ⟨-, p2⟩
        · rw [e] at p1
          cases p1
        · exact p2
      refine rv_iload hX dX9_goAtom_66 rfl ?_
      refine rv_aload_n hX dX9_goAtom_68 rfl ?_
      refine rv_getfR hX gX9_101_X11 (hS.f g1) rfl dX9_goAtom_69 ?_
      refine xv_alen hX (hS.f g2) dX9_goAtom_72 ?_
      first | refine nv_icmp_ge hX 118 (by omega) (by omega) dX9_goAtom_73 (by decide) (fun c_73 => ?_) (fun c_73 => ?_) | refine rv_icmp_ge hX 118 dX9_goAtom_73 (by decide) (fun c_73 => ?_) (fun c_73 => ?_)
      · skip
        have hsl : sl = it.2.2.length := by omega
        first
          | exact kk w _ _ is _ (Or.inr ⟨c_78, hno c_78⟩) q4 q5 hS
          | refine kk w _ _ is _ ?_ q4 q5 hS
            rcases q3 with ⟨p1, p2, p3⟩ | p
            · refine Or.inl ⟨p1, ?_⟩
              rw [hsl, List.drop_length] at p3
              unfold sp_frg
              rw [sp_getD hk, p3, if_pos ⟨p2, hxw⟩]
              rfl
            · exact Or.inr p
      · skip
        obtain ⟨t, ht⟩ : ∃ t, it.2.2[sl]? = some t := ⟨it.2.2[sl], List.getElem?_eq_getElem (by omega)⟩
        have ht8 := hwi.2.2.2.2 t (List.mem_of_getElem? ht)
        refine rv_iload hX dX9_goAtom_76 rfl ?_
        first | refine zv_if_eq hX 118 dX9_goAtom_78 (by decide) (fun c_78 => ?_) (fun c_78 => ?_) | refine rv_if_eq hX 118 dX9_goAtom_78 (by decide) (fun c_78 => ?_) (fun c_78 => ?_)
        · skip
          first
            | exact kk w _ _ is _ (Or.inr ⟨c_78, hno c_78⟩) q4 q5 hS
            | refine kk w _ _ is _ ?_ q4 q5 hS
              rcases q3 with ⟨p1, p2, p3⟩ | p
              · refine Or.inl ⟨p1, ?_⟩
                rw [hsl, List.drop_length] at p3
                unfold sp_frg
                rw [sp_getD hk, p3, if_pos ⟨p2, hxw⟩]
                rfl
              · exact Or.inr p
        · skip
          refine rv_aload_n hX dX9_goAtom_81 rfl ?_
          refine rv_getfR hX gX9_101_X11 (hS.f g1) rfl dX9_goAtom_82 ?_
          refine rv_iload hX dX9_goAtom_85 rfl ?_
          refine xv_iald hX (hS.f g2) (by omega) (by omega) dX9_goAtom_87 ?_
          rw [g3 sl t ht]
          refine rv_aload_n hX dX9_goAtom_88 rfl ?_
          refine rv_getfR hX gX9_26_X9 (hS.mc (k := 0) rfl) rfl dX9_goAtom_89 ?_
          refine rv_getfR hX gX9_124_X3 (hS.f f1) rfl dX9_goAtom_92 ?_
          refine rv_iload hX dX9_goAtom_95 rfl ?_
          refine xv_iald hX (hS.f f2) (by omega) (by omega) dX9_goAtom_97 ?_
          rw [(f4 k x hk).1]
          refine rv_iload hX dX9_goAtom_98 rfl ?_
          refine rv_invS hX iX9_127 mdX1_slotOf (x_slotOf hG (d := d - 1) (by omega) (by omega)) (by omega) rfl rfl (Nat.le_of_ble_eq_true rfl) dX9_goAtom_100 (fun v h' hq => ?_) (fun E h' hq => by first | exact hq.elim | cases hq.2 | cases hq.1)
          obtain ⟨rfl, hq⟩ := hq
          cases hq
          refine rv_aload_n hX dX9_goAtom_103 rfl ?_
          refine rv_getfR hX gX9_30_X9 (hS.mc (k := 0) rfl) rfl dX9_goAtom_104 ?_
          refine rv_invS hX iX9_130 mdX1_bind (x_bind hG (d := d - 1) (by omega) ht8 (sp_slot_lt x sl) (hS.cpre0 [0,1,0] 0 rfl rfl rfl) q4) (by omega) rfl rfl (Nat.le_of_ble_eq_true rfl) dX9_goAtom_107 (fun v h' hq => ?_) (fun E h' hq => by first | exact hq.elim | cases hq.2 | cases hq.1)
          obtain ⟨vf3, hu, hv3, hQ⟩ := hq
          have hS := hS.cpost0 [0,1,0] 0 rfl rfl rfl hQ
          cases hu
          have hist : is = true := c_78
          obtain ⟨p2, p3⟩ : xal Fs r nw a k = true ∧ sp_binds v x it.2.2 0 = sp_binds w x (it.2.2.drop sl) sl := by
            rcases q3 with ⟨-, p⟩ | ⟨p, -⟩
            · exact p
            · rw [hist] at p
              cases p
          rw [sp_drop_get ht] at p3
          have p4 : sp_binds w x (t :: it.2.2.drop (sl + 1)) sl = (sp_bind w t (sp_slot x sl)).bind (fun w => sp_binds w x (it.2.2.drop (sl + 1)) (sl + 1)) := rfl
          rw [p4] at p3
          cases hb : sp_bind w t (sp_slot x sl) with
          | none =>
            rw [hb] at p3 hv3
            have hfr : sp_frg Fs (xal Fs r nw a) it v k = none := by
              unfold sp_frg
              rw [sp_getD hk, p3]
              split <;> rfl
            refine rv_istore hX dX9_goAtom_110 (rv_st_7 rfl) ?_
            first | refine nv_iinc hX (m := 1) dX9_goAtom_112 rfl (by decide) (rv_st_8 rfl) ?_ | refine rv_iinc hX dX9_goAtom_112 rfl rfl (rv_st_8 rfl) ?_
            refine rv_goto hX 66 dX9_goAtom_115 (by decide) ?_
            exact ihz _ false w _ _ (by omega) (by omega) (Or.inr ⟨rfl, hfr⟩) hv3 q5 hS kk
          | some w2 =>
            rw [hb] at p3 hv3
            refine rv_istore hX dX9_goAtom_110 (rv_st_7 rfl) ?_
            first | refine nv_iinc hX (m := 1) dX9_goAtom_112 rfl (by decide) (rv_st_8 rfl) ?_ | refine rv_iinc hX dX9_goAtom_112 rfl rfl (rv_st_8 rfl) ?_
            refine rv_goto hX 66 dX9_goAtom_115 (by decide) ?_
            exact ihz _ true w2 _ _ (by omega) (by omega) (Or.inl ⟨rfl, p2, p3⟩) hv3 (q5.tr (sp_bind_le hb)) hS kk
  have loop : ∀ (z k : Nat) (x : Int32) (s1 : S) (vf1 ff1 : Nat → Int32) (rch1 : Nat) (L7 L8 : Option Value) (h1 : rv_H), hi - k < z → lo ≤ k → k ≤ hi → mMsk x (fun k => (v k).isSome) → xva v vf1 → (∀ i, i < a → ff1 i = ff i) → rch1 ≤ 6 → xfold stp s1 (xEx Fs r nw (a + 1) ks rest (sp_frm Fs (xal Fs r nw a) it v k)) = RES → (∀ q, q ∈ xEx Fs r nw (a + 1) ks rest (sp_frm Fs (xal Fs r nw a) it v k) → q ∈ M0) → (nw = none → Nat.max rch1 (sp_rc Fs rest pre.length (sp_frm Fs (xal Fs r nw a) it v k)) = TG) → xS X.1 F h (mo :: vr :: fr :: xad (T s)) ((mo, mX ia its.length st tk vr fr (rv_oi (nw.map (fun p => p.1))) ro false rch1) :: (vr, cI 8 vf1) :: (fr, cI 3 ff1) :: T s1) (n + nb s1) (m + mb s1) h1 → rv_V X h1 40 [some (.ref mo), some (.ref ie), some (.int (nI pre.length)), some (.int (nI a)), some (.int (nI hi)), some (.int x), some (.int (nI k)), L7, L8] [] := by
    intro z
    induction z with
    | zero => intro k x s1 vf1 ff1 rch1 L7 L8 h1 q; omega
    | succ z ihz =>
      intro k x s1 vf1 ff1 rch1 L7 L8 h1 q1 q2 q3 hx hv1 hff1 hr1 hR hM hT hS
      by_cases hkh : k = hi
      · subst hkh
        rw [r2] at hR hT
        have hR' : some (s1, true) = RES := hR
        refine rv_iload hX dX9_goAtom_40 rfl ?_
        refine rv_iload hX dX9_goAtom_42 rfl ?_
        refine nv_icmp_ge hX 161 (by omega) (by omega) dX9_goAtom_44 (by decide) (fun c_44 => ?_) (fun q => absurd q (by omega))
        refine rv_return hX hE ?_ dX9_goAtom_161
        refine ⟨s1, true, vf1, ff1, rch1, hR'.symm, rfl, hv1, hff1, ⟨hr1, fun e => ?_⟩, hS⟩
        rw [← hT e]
        exact (Nat.max_eq_left (Nat.zero_le _)).symm
      · obtain ⟨y, hy⟩ : ∃ y, Fs[k]? = some y := ⟨Fs[k], List.getElem?_eq_getElem (by omega)⟩
        have hyw := r4 k y q2 (by omega) hy
        have hyb := fs3 y (List.mem_of_getElem? hy)
        refine rv_iload hX dX9_goAtom_40 rfl ?_
        refine rv_iload hX dX9_goAtom_42 rfl ?_
        refine nv_icmp_ge hX 161 (by omega) (by omega) dX9_goAtom_44 (by decide) (fun q => absurd q (by omega)) (fun c_44 => ?_)
        refine rv_aload_n hX dX9_goAtom_47 rfl ?_
        refine rv_getfR hX gX9_37_X9 (hS.mc (k := 0) rfl) rfl dX9_goAtom_48 ?_
        refine rv_if_ne hX 161 dX9_goAtom_51 (by decide) (fun q => absurd q (by decide)) (fun _ => ?_)
        refine rv_aload_n hX dX9_goAtom_54 rfl ?_
        refine rv_iload hX dX9_goAtom_55 rfl ?_
        refine rv_iload_n hX dX9_goAtom_57 rfl ?_
        refine rv_invVR hX iX9_120 mdX9_isAllowed (hS.mc (k := 0) rfl) ⟨TX9, 10, rv_c8⟩ (x_isAllowed hG (d := d - 1) (hS.mc (k := 0) rfl) hnw hr (hst.mono (fun _ _ => hS.f)) (by omega) (by omega)) (by omega) rfl rfl (Nat.le_of_ble_eq_true rfl) dX9_goAtom_58 (fun v h' hq => ?_) (fun E h' hq => by first | exact hq.elim | cases hq.2 | cases hq.1)
        obtain ⟨rfl, hq⟩ := hq
        cases hq
        refine rv_istore hX dX9_goAtom_61 (rv_st_7 rfl) ?_
        refine nv_iconst hX (m := 0) (by decide) dX9_goAtom_63 ?_
        refine rv_istore hX dX9_goAtom_64 (rv_st_8 rfl) ?_
        refine inner k y x s1 ff1 rch1 hy hyw (it.2.2.length + 1) 0 _ v vf1 _ (by omega) (by omega) ?_ hv1 sp_le.rf hS (fun w' vf' h2 is' L8' hq hv' hle hS => ?_)
        · cases e : xal Fs r nw a k with
          | true => exact Or.inl ⟨rfl, rfl, rfl⟩
          | false =>
            refine Or.inr ⟨rfl, ?_⟩
            unfold sp_frg
            rw [e, if_neg (fun q => by cases q.1)]
        · have hback : ∀ k', (if (v k').isSome = true then w' k' else none) = v k' := fun k' => by
            rcases hle k' with e | e
            · rw [e]
              rfl
            · cases ev : v k' with
              | none => rfl
              | some c =>
                rw [← e, ev]
                rfl
          have hbackf : (fun k' => if (v k').isSome = true then w' k' else none) = v := funext hback
          rcases hq with ⟨rfl, hq⟩ | ⟨rfl, hq⟩
          · have hstep : sp_frm Fs (xal Fs r nw a) it v k = (k, w') :: sp_frm Fs (xal Fs r nw a) it v (k + 1) := by
              rw [sp_frm_step (by omega), hq]
              rfl
            rw [hstep, xEx_cons] at hR hM
            rw [hstep] at hT
            have hokw : sp_okA Fs rest w' := hok.2 _ (sp_frg_true (by omega) h0 hq)
            have hpk : ks.length = pre.length := hks
            have hat : sp_atk (pre ++ [it]) (ks ++ [k]) = sp_atk pre ks ++ [k] := by rw [sp_atk_snoc hks.symm, if_pos h0]
            have hffn : ∀ i f, (sp_fs Fs (sp_atk (pre ++ [it]) (ks ++ [k])))[i]? = some f → va_up ff1 a (nI y) i = nI f := fun i f hi => by
              rw [hat] at hi
              unfold sp_fs at hi
              rw [List.map_append, List.getElem?_append, List.length_map, ← ha] at hi
              unfold va_up
              split at hi
              · rename_i hlt
                rw [if_neg (Nat.ne_of_lt hlt), hff1 i hlt]
                exact hff i f hi
              · rename_i hge
                have e : i = a := by
                  have := (List.getElem?_eq_some_iff.mp hi).1
                  simp at this
                  omega
                subst e
                rw [Nat.sub_self] at hi
                simp only [List.map_cons, List.map_nil, List.getElem?_cons_zero, Option.some.injEq] at hi
                rw [if_pos rfl, ← hi, sp_getD hy]
            show rv_V X h2 118 [some (.ref mo), some (.ref ie), some (.int (nI pre.length)), some (.int (nI a)), some (.int (nI hi)), some (.int x), some (.int (nI k)), some (.int (nI 1)), L8'] []
            refine rv_iload hX dX9_goAtom_118 rfl ?_
            refine rv_if_eq hX 149 dX9_goAtom_120 (by decide) (fun q => absurd q (by decide)) (fun _ => ?_)
            refine rv_aload_n hX dX9_goAtom_123 rfl ?_
            refine rv_getfR hX gX9_9_X9 (hS.mc (k := 0) rfl) rfl dX9_goAtom_124 ?_
            refine rv_iload_n hX dX9_goAtom_127 rfl ?_
            refine rv_aload_n hX dX9_goAtom_128 rfl ?_
            refine rv_getfR hX gX9_26_X9 (hS.mc (k := 0) rfl) rfl dX9_goAtom_129 ?_
            refine rv_getfR hX gX9_124_X3 (hS.f f1) rfl dX9_goAtom_132 ?_
            refine rv_iload hX dX9_goAtom_135 rfl ?_
            refine xv_iald hX (hS.f f2) (by omega) (by omega) dX9_goAtom_137 ?_
            rw [(f4 k y hy).1]
            refine xv_iast hX hS (k := 2) rfl (by omega) (by omega) dX9_goAtom_138 (fun h_138 hS => ?_)
            refine rv_aload_n hX dX9_goAtom_139 rfl ?_
            refine rv_iload_n hX dX9_goAtom_140 rfl ?_
            refine nv_iconst hX (m := 1) (by decide) dX9_goAtom_141 ?_
            first | refine nv_iadd hX dX9_goAtom_142 ?_ | refine rv_iadd hX dX9_goAtom_142 ?_
            refine rv_iload_n hX dX9_goAtom_143 rfl ?_
            refine nv_iconst hX (m := 1) (by decide) dX9_goAtom_144 ?_
            first | refine nv_iadd hX dX9_goAtom_145 ?_ | refine rv_iadd hX dX9_goAtom_145 ?_
            have hgo := IH (d - 1) (a + 1) (pre ++ [it]) (ks ++ [k]) w' vf' (va_up ff1 a (nI y)) s1 rch1 n m h_138 hits2 (by omega) (by rw [List.length_append, List.length_append, hks]; rfl) (by rw [hat, List.length_append, ← ha]; rfl) hv' hffn hokw (fun q hq' => hM q (List.mem_append_left _ hq')) hr1 (hS.cpre0 [] 1 rfl rfl rfl)
            rw [hilen] at hgo
            refine rv_invVR hX iX9_41 mdX9_go (hS.mc (k := 0) rfl) ⟨TX9, 10, rv_c8⟩ (hgo) (by omega) rfl rfl (Nat.le_of_ble_eq_true rfl) dX9_goAtom_146 (fun v h' hq => ?_) (fun E h' hq => by exact rv_out hX hE (fun x hx => by cases hx) ⟨hq.1, by rw [← hR, xfold_app, hq.2.1], hS.exc0 [] 1 rfl rfl rfl hq.2.2⟩)
            obtain ⟨s2, b2, vf3, ff3', rch3, hR2, hu, hv3, hff3, ⟨hr3, hTG3⟩, hQ⟩ := hq
            have hS := hS.cpost0 [] 1 rfl rfl rfl hQ
            cases hu
            have hff4 : ∀ i, i < a → ff3' i = ff i := fun i hi => by
              rw [hff3 i (by omega)]
              unfold va_up
              rw [if_neg (by omega), hff1 i hi]
            rw [xfold_app, hR2] at hR
            cases b2 with
            | true =>
              have hR3 : xfold stp s2 (xEx Fs r nw (a + 1) ks rest (sp_frm Fs (xal Fs r nw a) it v (k + 1))) = RES := hR
              refine rv_aload_n hX dX9_goAtom_149 rfl ?_
              refine rv_iload hX dX9_goAtom_150 rfl ?_
              refine rv_invVR hX iX9_134 mdX9_unbind (hS.mc (k := 0) rfl) ⟨TX9, 10, rv_c8⟩ (x_unbind hG (d := d - 1) (hS.cpre0 [1,1] 0 rfl rfl rfl) hv3 hx) (by omega) rfl rfl (Nat.le_of_ble_eq_true rfl) dX9_goAtom_152 (fun v h' hq => ?_) (fun E h' hq => by first | exact hq.elim | cases hq.2 | cases hq.1)
              obtain ⟨vf4, hu, hv4, hQ⟩ := hq
              have hS := hS.cpost0 [1,1] 0 rfl rfl rfl hQ
              cases hu
              first | refine nv_iinc hX (m := 1) dX9_goAtom_155 rfl (by decide) (rv_st_6 rfl) ?_ | refine rv_iinc hX dX9_goAtom_155 rfl rfl (rv_st_6 rfl) ?_
              refine rv_goto hX 40 dX9_goAtom_158 (by decide) ?_
              rw [hbackf] at hv4
              refine ihz (k + 1) x s2 vf4 ff3' rch3 _ _ _ (by omega) (by omega) (by omega) hx hv4 hff4 hr3 hR3 (fun q hq' => hM q (List.mem_append_right _ hq')) (fun e => ?_) hS
              rw [← hT e, hTG3 e, sp_rc_cons]
              exact Nat.max_assoc _ _ _
            | false =>
              have hR3 : some (s2, false) = RES := hR
              refine rv_aload_n hX dX9_goAtom_149 rfl ?_
              refine rv_iload hX dX9_goAtom_150 rfl ?_
              refine rv_invVR hX iX9_134 mdX9_unbind (hS.mc (k := 0) rfl) ⟨TX9, 10, rv_c8⟩ (x_unbind hG (d := d - 1) (hS.cpre0 [1,1] 0 rfl rfl rfl) hv3 hx) (by omega) rfl rfl (Nat.le_of_ble_eq_true rfl) dX9_goAtom_152 (fun v h' hq => ?_) (fun E h' hq => by first | exact hq.elim | cases hq.2 | cases hq.1)
              obtain ⟨vf4, hu, hv4, hQ⟩ := hq
              have hS := hS.cpost0 [1,1] 0 rfl rfl rfl hQ
              cases hu
              rw [hbackf] at hv4
              first | refine nv_iinc hX (m := 1) dX9_goAtom_155 rfl (by decide) (rv_st_6 rfl) ?_ | refine rv_iinc hX dX9_goAtom_155 rfl rfl (rv_st_6 rfl) ?_
              refine rv_goto hX 40 dX9_goAtom_158 (by decide) ?_
              refine rv_iload hX dX9_goAtom_40 rfl ?_
              refine rv_iload hX dX9_goAtom_42 rfl ?_
              first | refine nv_icmp_ge hX 161 (by omega) (by omega) dX9_goAtom_44 (by decide) (fun c_44 => ?_) (fun c_44 => ?_) | refine rv_icmp_ge hX 161 dX9_goAtom_44 (by decide) (fun c_44 => ?_) (fun c_44 => ?_)
              · skip
                refine rv_return hX hE ?_ dX9_goAtom_161
                refine ⟨s2, false, vf4, ff3', rch3, hR3.symm, rfl, hv4, hff4, ⟨hr3, fun e => ?_⟩, hS⟩
                rw [← hT e, hTG3 e, sp_rc_cons]
                obtain ⟨q, hq'⟩ := xfold_stop hR2
                subst e
                rw [xMs_none] at hq'
                obtain ⟨q0, hq0, -⟩ := List.mem_map.mp hq'
                rw [sp_reach_full hq0]
                have hle2 := sp_rc_le (F := Fs) (its := rest) (p := pre.length) (A := sp_frm Fs (xal Fs r none a) it v (k + 1))
                show Nat.max rch1 (pre.length + 1 + rest.length) = Nat.max rch1 (Nat.max (pre.length + 1 + rest.length) _)
                rw [show Nat.max (pre.length + 1 + rest.length) (sp_rc Fs rest pre.length (sp_frm Fs (xal Fs r none a) it v (k + 1))) = pre.length + 1 + rest.length from Nat.max_eq_left hle2]
              · skip
                refine rv_aload_n hX dX9_goAtom_47 rfl ?_
                refine rv_getfR hX gX9_37_X9 (hS.mc (k := 0) rfl) rfl dX9_goAtom_48 ?_
                refine rv_if_ne hX 161 dX9_goAtom_51 (by decide) (fun _ => ?_) (fun q => absurd q (by decide))
                refine rv_return hX hE ?_ dX9_goAtom_161
                refine ⟨s2, false, vf4, ff3', rch3, hR3.symm, rfl, hv4, hff4, ⟨hr3, fun e => ?_⟩, hS⟩
                rw [← hT e, hTG3 e, sp_rc_cons]
                obtain ⟨q, hq'⟩ := xfold_stop hR2
                subst e
                rw [xMs_none] at hq'
                obtain ⟨q0, hq0, -⟩ := List.mem_map.mp hq'
                rw [sp_reach_full hq0]
                have hle2 := sp_rc_le (F := Fs) (its := rest) (p := pre.length) (A := sp_frm Fs (xal Fs r none a) it v (k + 1))
                show Nat.max rch1 (pre.length + 1 + rest.length) = Nat.max rch1 (Nat.max (pre.length + 1 + rest.length) _)
                rw [show Nat.max (pre.length + 1 + rest.length) (sp_rc Fs rest pre.length (sp_frm Fs (xal Fs r none a) it v (k + 1))) = pre.length + 1 + rest.length from Nat.max_eq_left hle2]
          · have hstep : sp_frm Fs (xal Fs r nw a) it v k = sp_frm Fs (xal Fs r nw a) it v (k + 1) := by
              rw [sp_frm_step (by omega), hq]
              rfl
            rw [hstep] at hR hM hT
            show rv_V X h2 118 [some (.ref mo), some (.ref ie), some (.int (nI pre.length)), some (.int (nI a)), some (.int (nI hi)), some (.int x), some (.int (nI k)), some (.int (nI 0)), L8'] []
            refine rv_iload hX dX9_goAtom_118 rfl ?_
            refine rv_if_eq hX 149 dX9_goAtom_120 (by decide) (fun _ => ?_) (fun q => absurd q (by decide))
            refine rv_aload_n hX dX9_goAtom_149 rfl ?_
            refine rv_iload hX dX9_goAtom_150 rfl ?_
            refine rv_invVR hX iX9_134 mdX9_unbind (hS.mc (k := 0) rfl) ⟨TX9, 10, rv_c8⟩ (x_unbind hG (d := d - 1) (hS.cpre0 [1,1] 0 rfl rfl rfl) hv' hx) (by omega) rfl rfl (Nat.le_of_ble_eq_true rfl) dX9_goAtom_152 (fun v h' hq => ?_) (fun E h' hq => by first | exact hq.elim | cases hq.2 | cases hq.1)
            obtain ⟨vf4, hu, hv4, hQ⟩ := hq
            have hS := hS.cpost0 [1,1] 0 rfl rfl rfl hQ
            cases hu
            first | refine nv_iinc hX (m := 1) dX9_goAtom_155 rfl (by decide) (rv_st_6 rfl) ?_ | refine rv_iinc hX dX9_goAtom_155 rfl rfl (rv_st_6 rfl) ?_
            refine rv_goto hX 40 dX9_goAtom_158 (by decide) ?_
            rw [hbackf] at hv4
            exact ihz (k + 1) x s1 vf4 ff1 rch1 _ _ _ (by omega) (by omega) (by omega) hx hv4 hff1 hr1 hR hM hT hS
  refine rv_aload_n hX dX9_goAtom_0 rfl ?_
  refine rv_getfR hX gX9_26_X9 (hS.mc (k := 0) rfl) rfl dX9_goAtom_1 ?_
  refine rv_ldc hX q1031 dX9_goAtom_4 ?_
  rw [show (1000000 : Int32) = nI 1000000 from by decide]
  refine rv_aload_n hX dX9_goAtom_6 rfl ?_
  refine rv_getfR hX gX9_98_X11 (hS.f g1) rfl dX9_goAtom_7 ?_
  refine nv_iconst hX (m := 1) (by decide) dX9_goAtom_10 ?_
  first | refine nv_iadd hX dX9_goAtom_11 ?_ | refine rv_iadd hX dX9_goAtom_11 ?_
  first | refine nv_imul hX dX9_goAtom_12 ?_ | refine rv_imul hX dX9_goAtom_12 ?_
  refine rv_invVR hX iX9_112 mdX3_placeOf (hS.f f1) ⟨TX3, 3, rv_c2⟩ (x_placeOf hG (d := d - 1) (hst.mono (fun _ _ => hS.f)) (by omega)) (by omega) rfl rfl (Nat.le_of_ble_eq_true rfl) dX9_goAtom_13 (fun v h' hq => ?_) (fun E h' hq => by first | exact hq.elim | cases hq.2 | cases hq.1)
  obtain ⟨rfl, hq⟩ := hq
  cases hq
  refine rv_istore hX dX9_goAtom_16 (rv_st_4 rfl) ?_
  refine rv_aload_n hX dX9_goAtom_18 rfl ?_
  refine rv_invVR hX iX9_116 mdX9_mask (hS.mc (k := 0) rfl) ⟨TX9, 10, rv_c8⟩ (x_mask hG (d := d - 1) (hS.mc (k := 0) rfl) (hS.mc (k := 1) rfl) hv) (by omega) rfl rfl (Nat.le_of_ble_eq_true rfl) dX9_goAtom_19 (fun v h' hq => ?_) (fun E h' hq => by first | exact hq.elim | cases hq.2 | cases hq.1)
  obtain ⟨rfl, x, hq, hx⟩ := hq
  cases hq
  refine rv_istore hX dX9_goAtom_22 (rv_st_5 rfl) ?_
  refine rv_aload_n hX dX9_goAtom_24 rfl ?_
  refine rv_getfR hX gX9_26_X9 (hS.mc (k := 0) rfl) rfl dX9_goAtom_25 ?_
  refine rv_ldc hX q1031 dX9_goAtom_28 ?_
  rw [show (1000000 : Int32) = nI 1000000 from by decide]
  refine rv_aload_n hX dX9_goAtom_30 rfl ?_
  refine rv_getfR hX gX9_98_X11 (hS.f g1) rfl dX9_goAtom_31 ?_
  first | refine nv_imul hX dX9_goAtom_34 ?_ | refine rv_imul hX dX9_goAtom_34 ?_
  refine rv_invVR hX iX9_112 mdX3_placeOf (hS.f f1) ⟨TX3, 3, rv_c2⟩ (x_placeOf hG (d := d - 1) (hst.mono (fun _ _ => hS.f)) (by omega)) (by omega) rfl rfl (Nat.le_of_ble_eq_true rfl) dX9_goAtom_35 (fun v h' hq => ?_) (fun E h' hq => by first | exact hq.elim | cases hq.2 | cases hq.1)
  obtain ⟨rfl, hq⟩ := hq
  cases hq
  refine rv_istore hX dX9_goAtom_38 (rv_st_6 rfl) ?_
  rw [← hlo, ← hhi]
  refine loop (hi + 1) lo x s vf ff rch _ _ _ (by omega) (Nat.le_refl _) r3 hx hv (fun _ _ => rfl) hrch hE2 hM0 (fun e => ?_) hS
  rw [hTG, htg e]
