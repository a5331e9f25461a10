/-! THE SYSTEM: a term added to the draft -/
set_option maxRecDepth 100000
theorem sp_gslot_snoc {t : Nat} (ht : t < 200) : ∀ {ts : List Nat} {s : Nat}, sp_gslot (ts ++ [t]) s = sp_gslot ts s := by
  intro ts
  induction ts with
  | nil =>
    intro s
    show (if 200 ≤ t then some s else none) = none
    exact if_neg (by omega)
  | cons a ts ih =>
    intro s
    show (if 200 ≤ a then some s else sp_gslot (ts ++ [t]) (s + 1)) = (if 200 ≤ a then some s else sp_gslot ts (s + 1))
    rw [ih]
theorem sp_gslot_len {ts : List Nat} : ∀ {s z : Nat}, sp_gslot ts s = some z → s ≤ z ∧ z - s < ts.length := by
  induction ts with
  | nil => intro s z h; cases h
  | cons a ts ih =>
    intro s z h
    have h' : (if 200 ≤ a then some s else sp_gslot ts (s + 1)) = some z := h
    split at h'
    · cases h'
      exact ⟨Nat.le_refl _, by rw [Nat.sub_self]; exact Nat.succ_pos _⟩
    · have := ih h'
      rw [List.length_cons]
      omega
theorem xsnoc_at {ts : List Nat} {t k x : Nat} {f : Nat → Int32} {g : Nat → Nat} (h : ∀ k t, ts[k]? = some t → f k = nI (g t)) (e : (ts ++ [t])[k]? = some x) : va_up f ts.length (nI (g t)) k = nI (g x) := by
  show (if k = ts.length then nI (g t) else f k) = nI (g x)
  by_cases hk : k = ts.length
  · rw [if_pos hk]
    rw [hk, List.getElem?_append_right (Nat.le_refl _), Nat.sub_self] at e
    cases e
    rfl
  · rw [if_neg hk]
    have hl := (List.getElem?_eq_some_iff.mp e).1
    rw [List.length_append, List.length_singleton] at hl
    rw [List.getElem?_append_left (by omega)] at e
    exact h k x e
theorem x_addD {G : rv_G} (hG : rv_GK G) {dd xo wd bg n m tt : Nat} {d : wDr} {S : List Nat} {dv rv rw1 lv : Value} {lf : Int32} {Nd : xM} (hd : 8 ≤ dd) {F : xF} {h : rv_H} (hS3 : ∀ n, n ∈ S → 1 ≤ n ∧ n ≤ 3) (hwd : wfD S d) (hk : d.k ≠ 0) (hD : xDr S d dv Nd) (ht : tt < 108) (hn : 1 ≤ n) (hm : 6 ≤ m) (hH : xH G F ((xo, cO 0 [.ref wd, dv, .ref bg, rv, rw1, lv, .int lf]) :: Nd) n m h) : rv_Call G dd yX1_add wX1_add [.ref xo, .int (nI tt)] h (xT (fun u h' => d.lacks S = true ∧ u = none ∧ ∃ Nd', xDr S (d.addT tt) dv Nd' ∧ xS G F h (xo :: xad Nd) ((xo, cO 0 [.ref wd, dv, .ref bg, rv, rw1, lv, .int lf]) :: Nd') n m h') (fun E h' => E = RJ18 ∧ d.lacks S = false ∧ xS G F h (xo :: xad Nd) ((xo, cO 0 [.ref wd, dv, .ref bg, rv, rw1, lv, .int lf]) :: Nd) (n - 1) (m - 6) h')) := by
  obtain ⟨k1, k2, k3, k4⟩ := hwd
  obtain ⟨g1, g2, g3, g4, g5, g6, g7, g8, g9⟩ := k4 hk
  have hrel3 : S.getD d.rel 0 ≤ 3 := by
    rw [List.getD_eq_getElem?_getD, List.getElem?_eq_getElem g1]
    exact (hS3 _ (List.getElem_mem g1)).2
  rcases hD with ⟨q1, -⟩ | ⟨-, cl, hi, ht0, bo, ba, nm, gk, md, sal, mc, tl, hf, bf, es, Ni, rfl, rfl, h3, h4, h5, ⟨h6, h7⟩, ⟨h8, h9⟩, h10⟩
  · exact absurd q1 hk
  · have hxt : xtm tt = tt := by unfold xtm; rw [if_neg (by omega)]
    rcases List.eq_nil_or_concat d.its with hits | ⟨its0, it, hits⟩
    · have hNi : Ni = [] := List.eq_nil_of_length_eq_zero (by rw [h9, hits]; rfl)
      have hes : es = [] := List.eq_nil_of_length_eq_zero (by rw [h8, hits]; rfl)
      have hlk : d.lacks S = decide (d.hts.length < S.getD d.rel 0) := by
        unfold wDr.lacks wDr.typed wDr.want
        rw [hits]
        rfl
      have hat : d.addT tt = d_mk d.k d.mod d.sal d.tells d.rel (d.hts ++ [tt]) d.its := by
        unfold wDr.addT
        rw [hits]
        rfl
      subst hNi
      subst hes
      have hS := hH.start
      have hS9 : xS G F h [xo, cl, hi, ht0, bo, ba] [(xo, cO 0 [.ref wd, .ref cl, .ref bg, rv, rw1, lv, .int lf]), (hi, cO 10 [.int (nI 0), .int (nI d.rel), .ref ht0, .int (nI d.hts.length)]), (ht0, cI (S.getD d.rel 0) hf), (cl, cO 9 [.int nm, .ref hi, .int (rv_oi (sp_gslot d.hts 0)), .int gk, .ref bo, .int (rv_z (decide (d.k = 2))), .int md, .int sal, .int (rv_z tl)]), (bo, lO mc ba d.its.length), (ba, cR 6 bf)] n m h := (show xS G F h [xo, cl, hi, ht0, bo, ba] [(xo, cO 0 [.ref wd, .ref cl, .ref bg, rv, rw1, lv, .int lf]), (cl, cO 9 [.int nm, .ref hi, .int (rv_oi (sp_gslot d.hts 0)), .int gk, .ref bo, .int (rv_z (decide (d.k = 2))), .int md, .int sal, .int (rv_z tl)]), (hi, cO 10 [.int (nI 0), .int (nI d.rel), .ref ht0, .int (nI d.hts.length)]), (ht0, cI (S.getD d.rel 0) hf), (bo, lO mc ba d.its.length), (ba, cR 6 bf)] n m h from hS).reo 6 [0, 2, 3, 1, 4, 5] rfl (by decide) rfl
      have hl : xLs G (rv_rd G h) bo ([] : List Nat) := ⟨mc, ba, 6, bf, by (have := hS9.mc (k := 4) rfl; rw [hits] at this; exact this), hS9.mc (k := 5) rfl, ⟨Nat.zero_le _, hS9.oa (k := 5) rfl⟩, by decide, fun i e q => by simp at q⟩
      refine (x_addI hG (M := [(xo, cO 0 [.ref wd, .ref cl, .ref bg, rv, rw1, lv, .int lf]), (hi, cO 10 [.int (nI 0), .int (nI d.rel), .ref ht0, .int (nI d.hts.length)]), (ht0, cI (S.getD d.rel 0) hf), (cl, cO 9 [.int nm, .ref hi, .int (rv_oi (sp_gslot d.hts 0)), .int gk, .ref bo, .int (rv_z (decide (d.k = 2))), .int md, .int sal, .int (rv_z tl)]), (bo, lO mc ba d.its.length), (ba, cR 6 bf)]) (t := nI tt) hd rfl rfl rfl (hS9.mc (k := 3) rfl) hl (Or.inl ⟨rfl, rfl⟩) hrel3 g2 hn hm hS9.1).mono (fun o h' q => ?_)
      cases o with
      | inl u =>
        obtain ⟨p1, p2, p3⟩ := q
        refine ⟨by rw [hlk]; exact decide_eq_true p1, p2, [(cl, cO 9 [.int nm, .ref hi, .int (rv_oi (sp_gslot d.hts 0)), .int gk, .ref bo, .int (rv_z (decide (d.k = 2))), .int md, .int sal, .int (rv_z tl)]), (hi, cO 10 [.int (nI 0), .int (nI d.rel), .ref ht0, .int (nI (d.hts.length + 1))]), (ht0, cI (S.getD d.rel 0) (va_up hf d.hts.length (nI tt))), (bo, lO mc ba d.its.length), (ba, cR 6 bf)], ?_, ?_⟩
        · rw [hat]
          refine Or.inr ⟨hk, cl, hi, ht0, bo, ba, nm, gk, md, sal, mc, tl, va_up hf d.hts.length (nI tt), bf, [], [], rfl, ?_, fun k t e => ?_, fun s e => ?_, h5, ⟨h6, h7⟩, ⟨h8, h9⟩, fun j i it N e => (by simp at e)⟩
          · show _ = (cl, cO 9 [.int nm, .ref hi, .int (rv_oi (sp_gslot (d.hts ++ [tt]) 0)), .int gk, .ref bo, .int (rv_z (decide (d.k = 2))), .int md, .int sal, .int (rv_z tl)]) :: (hi, cO 10 [.int (nI 0), .int (nI d.rel), .ref ht0, .int (nI (d.hts ++ [tt]).length)]) :: (ht0, cI (S.getD d.rel 0) (va_up hf d.hts.length (nI tt))) :: (bo, lO mc ba d.its.length) :: (ba, cR 6 bf) :: []
            rw [sp_gslot_snoc (by omega), List.length_append]
            rfl
          · have e' : (d.hts ++ [tt])[k]? = some t := e
            have := xsnoc_at (g := xtm) h3 e'
            rw [hxt] at this
            exact this
          · have e' : sp_gslot (d.hts ++ [tt]) 0 = some s := e
            rw [sp_gslot_snoc (by omega)] at e'
            have hsl := sp_gslot_len e'
            rw [h4 s e']
            show _ = nI (((d.hts ++ [tt]).getD s 0 - 200) / 8)
            rw [List.getD_eq_getElem?_getD, List.getD_eq_getElem?_getD, List.getElem?_append_left (by omega)]
        · have p4 := (hS9.unf0 (P := [(xo, cO 0 [.ref wd, .ref cl, .ref bg, rv, rw1, lv, .int lf]), (hi, cO 10 [.int (nI 0), .int (nI d.rel), .ref ht0, .int (nI d.hts.length)]), (ht0, cI (S.getD d.rel 0) hf), (cl, cO 9 [.int nm, .ref hi, .int (rv_oi (sp_gslot d.hts 0)), .int gk, .ref bo, .int (rv_z (decide (d.k = 2))), .int md, .int sal, .int (rv_z tl)]), (bo, lO mc ba d.its.length), (ba, cR 6 bf)]) (W := []) p3)
          exact p4.reo 6 [0, 3, 1, 2, 4, 5] rfl (by decide) rfl
      | inr E =>
        obtain ⟨p1, p2, p3⟩ := q
        refine ⟨p1, by rw [hlk]; exact decide_eq_false (by omega), ?_⟩
        have p4 := (hS9.unf0 (P := [(xo, cO 0 [.ref wd, .ref cl, .ref bg, rv, rw1, lv, .int lf]), (hi, cO 10 [.int (nI 0), .int (nI d.rel), .ref ht0, .int (nI d.hts.length)]), (ht0, cI (S.getD d.rel 0) hf), (cl, cO 9 [.int nm, .ref hi, .int (rv_oi (sp_gslot d.hts 0)), .int gk, .ref bo, .int (rv_z (decide (d.k = 2))), .int md, .int sal, .int (rv_z tl)]), (bo, lO mc ba d.its.length), (ba, cR 6 bf)]) (W := []) p3)
        exact p4.reo 6 [0, 3, 1, 2, 4, 5] rfl (by decide) rfl
    · rw [List.concat_eq_append] at hits
      have hj : d.its[its0.length]? = some it := by
        rw [hits, List.getElem?_append_right (Nat.le_refl _), Nat.sub_self]
        rfl
      have hlen : d.its.length = its0.length + 1 := by rw [hits, List.length_append]; rfl
      obtain ⟨i0, hi0⟩ : ∃ i0, es[its0.length]? = some i0 := ⟨_, List.getElem?_eq_getElem (by rw [h8, hlen]; omega)⟩
      obtain ⟨N, hN⟩ : ∃ N, Ni[its0.length]? = some N := ⟨_, List.getElem?_eq_getElem (by rw [h9, hlen]; omega)⟩
      obtain ⟨tm, tf, hNe, htf⟩ := h10 _ i0 it N hi0 hj hN
      have hpre := g8 it (List.mem_of_getElem? hj)
      have hz3 : sp_tof S it ≤ 3 := by
        unfold sp_tof
        split
        · rename_i q
          have := hpre.2.1 q
          rw [List.getD_eq_getElem?_getD, List.getElem?_eq_getElem this]
          exact (hS3 _ (List.getElem_mem this)).2
        · split <;> omega
      have hgl : d.its.getLast? = some it := by rw [List.getLast?_eq_getElem?, hlen]; exact hj
      have hlk : d.lacks S = decide (it.2.2.length < sp_tof S it) := by
        unfold wDr.lacks wDr.typed wDr.want
        rw [hgl]
      have hat : d.addT tt = d_mk d.k d.mod d.sal d.tells d.rel d.hts (its0 ++ [(it.1, it.2.1, it.2.2 ++ [tt])]) := by
        unfold wDr.addT
        rw [hgl]
        show d_mk d.k d.mod d.sal d.tells d.rel d.hts (d.its.dropLast ++ [(it.1, it.2.1, it.2.2 ++ [tt])]) = _
        rw [hits, List.dropLast_append_cons]
        simp
      obtain ⟨p1, p2⟩ := xpick hN
      let H5 : xM := [(cl, cO 9 [.int nm, .ref hi, .int (rv_oi (sp_gslot d.hts 0)), .int gk, .ref bo, .int (rv_z (decide (d.k = 2))), .int md, .int sal, .int (rv_z tl)]), (hi, cO 10 [.int (nI 0), .int (nI d.rel), .ref ht0, .int (nI d.hts.length)]), (ht0, cI (S.getD d.rel 0) hf), (bo, lO mc ba d.its.length), (ba, cR 6 bf)]
      let XO : Nat × rv_C := (xo, cO 0 [.ref wd, .ref cl, .ref bg, rv, rw1, lv, .int lf])
      have hS := hH.start
      have hA : xad ((xo, cO 0 [.ref wd, .ref cl, .ref bg, rv, rw1, lv, .int lf]) :: (cl, cO 9 [.int nm, .ref hi, .int (rv_oi (sp_gslot d.hts 0)), .int gk, .ref bo, .int (rv_z (decide (d.k = 2))), .int md, .int sal, .int (rv_z tl)]) :: (hi, cO 10 [.int (nI 0), .int (nI d.rel), .ref ht0, .int (nI d.hts.length)]) :: (ht0, cI (S.getD d.rel 0) hf) :: (bo, lO mc ba d.its.length) :: (ba, cR 6 bf) :: Ni.flatten) = xo :: xad ((cl, cO 9 [.int nm, .ref hi, .int (rv_oi (sp_gslot d.hts 0)), .int gk, .ref bo, .int (rv_z (decide (d.k = 2))), .int md, .int sal, .int (rv_z tl)]) :: (hi, cO 10 [.int (nI 0), .int (nI d.rel), .ref ht0, .int (nI d.hts.length)]) :: (ht0, cI (S.getD d.rel 0) hf) :: (bo, lO mc ba d.its.length) :: (ba, cR 6 bf) :: Ni.flatten) := rfl
      rw [hA] at hS
      have hpm : ∀ (L : xM) (N1 : xM), L.Perm (N1 ++ (Ni.eraseIdx its0.length).flatten) → (XO :: (H5 ++ L)).Perm (XO :: (N1 ++ (H5 ++ (Ni.eraseIdx its0.length).flatten))) := fun L N1 q => List.Perm.cons _ ((q.append_left _).trans (List.perm_append_comm_assoc _ _ _))
      have hS9 : xS G F h _ (XO :: ([(i0, cO 10 [.int (nI it.1), .int (nI it.2.1), .ref tm, .int (nI it.2.2.length)]), (tm, cI (sp_tof S it) tf)] ++ (H5 ++ (Ni.eraseIdx its0.length).flatten))) n m h := hS.perm (by rw [← hNe]; exact hpm _ _ p1)
      have hl : xLs G (rv_rd G h) bo es := ⟨mc, ba, 6, bf, by (have := hS9.mc (k := 6) rfl; rw [← h8] at this; exact this), hS9.mc (k := 7) rfl, ⟨by rw [h8]; exact g5, hS9.oa (k := 7) rfl⟩, by decide, h6⟩
      refine (x_addI hG (t := nI tt) hd (by rfl) (by rfl) (by rfl) (hS9.mc (k := 3) rfl) hl (Or.inr ⟨by rw [h8, hlen]; omega, by rw [h8, hlen]; exact hi0⟩) hz3 hpre.2.2.2.2.1 hn hm hS9.1).mono (fun o h' q => ?_)
      cases o with
      | inl u =>
        obtain ⟨r1, r2, r3⟩ := q
        refine ⟨by rw [hlk]; exact decide_eq_true r1, r2, H5 ++ (Ni.set its0.length [(i0, cO 10 [.int (nI it.1), .int (nI it.2.1), .ref tm, .int (nI (it.2.2.length + 1))]), (tm, cI (sp_tof S it) (va_up tf it.2.2.length (nI tt)))]).flatten, ?_, ?_⟩
        · rw [hat]
          refine Or.inr ⟨hk, cl, hi, ht0, bo, ba, nm, gk, md, sal, mc, tl, hf, bf, es, Ni.set its0.length [(i0, cO 10 [.int (nI it.1), .int (nI it.2.1), .ref tm, .int (nI (it.2.2.length + 1))]), (tm, cI (sp_tof S it) (va_up tf it.2.2.length (nI tt)))], rfl, ?_, h3, h4, h5, ⟨h6, h7⟩, ⟨?_, ?_⟩, fun k i it2 N2 e1 e2 e3 => ?_⟩
          · show _ = (cl, _) :: (hi, _) :: (ht0, _) :: (bo, lO mc ba (its0 ++ [(it.1, it.2.1, it.2.2 ++ [tt])]).length) :: (ba, cR 6 bf) :: _
            have : (its0 ++ [(it.1, it.2.1, it.2.2 ++ [tt])]).length = d.its.length := by rw [hlen, List.length_append]; rfl
            rw [this]
            rfl
          · show es.length = (its0 ++ [(it.1, it.2.1, it.2.2 ++ [tt])]).length
            rw [h8, hlen, List.length_append]
            rfl
          · show (Ni.set its0.length _).length = (its0 ++ [(it.1, it.2.1, it.2.2 ++ [tt])]).length
            rw [List.length_set, h9, hlen, List.length_append]
            rfl
          · have e2' : (its0 ++ [(it.1, it.2.1, it.2.2 ++ [tt])])[k]? = some it2 := e2
            by_cases hkj : k = its0.length
            · subst hkj
              rw [List.getElem?_append_right (Nat.le_refl _), Nat.sub_self] at e2'
              rw [List.getElem?_set_self (by rw [h9, hlen]; omega)] at e3
              rw [hi0] at e1
              cases e1
              cases e2'
              cases e3
              refine ⟨tm, va_up tf it.2.2.length (nI tt), ?_, fun k t e => xsnoc_at (g := fun x => x) htf e⟩
              show _ = [(i0, cO 10 [.int (nI it.1), .int (nI it.2.1), .ref tm, .int (nI (it.2.2 ++ [tt]).length)]), (tm, cI (sp_tof S it) (va_up tf it.2.2.length (nI tt)))]
              rw [List.length_append]
              rfl
            · have hkl := (List.getElem?_eq_some_iff.mp e2').1
              rw [List.length_append, List.length_singleton] at hkl
              rw [List.getElem?_append_left (by omega)] at e2'
              rw [List.getElem?_set_ne (by omega)] at e3
              exact h10 k i it2 N2 e1 (by rw [hits, List.getElem?_append_left (by omega)]; exact e2') e3
        · have r4 : xS G F h _ (XO :: ([(i0, cO 10 [.int (nI it.1), .int (nI it.2.1), .ref tm, .int (nI (it.2.2.length + 1))]), (tm, cI (sp_tof S it) (va_up tf it.2.2.length (nI tt)))] ++ (H5 ++ (Ni.eraseIdx its0.length).flatten))) n m h' := (show xS G F h _ _ n m h from hS9.perm (List.append_nil _ ▸ List.Perm.refl _)).unf0 (W := []) r3 |>.perm (by rw [List.append_nil]; exact List.Perm.refl _)
          exact r4.perm (hpm _ _ (p2 _)).symm
      | inr E =>
        obtain ⟨r1, r2, r3⟩ := q
        refine ⟨r1, by rw [hlk]; exact decide_eq_false (by omega), ?_⟩
        have r4 : xS G F h _ (XO :: ([(i0, cO 10 [.int (nI it.1), .int (nI it.2.1), .ref tm, .int (nI it.2.2.length)]), (tm, cI (sp_tof S it) tf)] ++ (H5 ++ (Ni.eraseIdx its0.length).flatten))) (n - 1) (m - 6) h' := (show xS G F h _ _ n m h from hS9.perm (List.append_nil _ ▸ List.Perm.refl _)).unf0 (W := []) r3 |>.perm (by rw [List.append_nil])
        exact r4.perm (by rw [← hNe]; exact (hpm _ _ p1).symm)
