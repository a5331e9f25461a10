/-! THE SYSTEM: a deriver -/
set_option maxRecDepth 100000
theorem xMs_key {F : List Nat} {r : Nat → Nat} {C : sp_C} {v : sp_V} : (xMs F r none 0 [] C.its v).map (sp_key C) = (sp_m F C.its v).map (sp_key C) := by
  rw [xMs_none, List.map_map]
  rfl
theorem xMs_2 {F : List Nat} {r : Nat → Nat} {its : List sp_I} {v : sp_V} : xMs F r none 0 [] its v = sp_m F its v := by
  rw [xMs_none]
  have : (fun q : List Nat × sp_V => ([] ++ q.1, q.2)) = id := by
    funext q
    rfl
  rw [this, List.map_id]
/-! a group as a taker -/
def xgp (x : Nat) (s : Nat × (Nat → Int32)) (q : sp_Q) : Option ((Nat × (Nat → Int32)) × Bool) := some ((s.1 + 1, va_up s.2 ((q.2 x).getD 0) 1), true)
def xgf (x : Nat) (bf : Nat → Int32) : List sp_Q → Nat → Int32
  | [] => bf
  | q :: L => xgf x (va_up bf ((q.2 x).getD 0) 1) L
theorem xfold_gp {x : Nat} : ∀ {L : List sp_Q} {c : Nat} {bf : Nat → Int32}, xfold (xgp x) (c, bf) L = some ((c + L.length, xgf x bf L), true) := by
  intro L
  induction L with
  | nil => intro c bf; rfl
  | cons q L ih =>
    intro c bf
    rw [xfold_cons]
    show xfold (xgp x) (c + 1, va_up bf ((q.2 x).getD 0) 1) L = _
    rw [ih, List.length_cons, show c + 1 + L.length = c + (L.length + 1) by omega]
    rfl
theorem xgf_has {x : Nat} : ∀ {L : List sp_Q} {bf : Nat → Int32} {P : Nat → Bool}, (∀ q, q ∈ L → (q.2 x).isSome = true) → xhas P bf → xhas (fun a => P a || sp_hasv x L a) (xgf x bf L) := by
  intro L
  induction L with
  | nil =>
    intro bf P _ h a ha
    show bf a = rv_z (P a || false)
    rw [Bool.or_false]
    exact h a ha
  | cons q L ih =>
    intro bf P hs h
    obtain ⟨b, hb⟩ := Option.isSome_iff_exists.mp (hs q List.mem_cons_self)
    have := ih (bf := va_up bf ((q.2 x).getD 0) 1) (P := fun a => P a || (q.2 x == some a)) (fun q hq => hs q (List.mem_cons_of_mem _ hq)) (fun a ha => ?_)
    · intro a ha
      have e := this a ha
      show xgf x (va_up bf ((q.2 x).getD 0) 1) L a = rv_z (P a || (q.2 x == some a || sp_hasv x L a))
      rw [e]
      show rv_z ((P a || (q.2 x == some a)) || sp_hasv x L a) = _
      rw [Bool.or_assoc]
    · rw [hb]
      show (if a = b then (1 : Int32) else bf a) = rv_z (P a || (some b == some a))
      by_cases e : a = b
      · subst e
        rw [if_pos rfl]
        simp
        rfl
      · rw [if_neg e, h a ha]
        have : (some b == some a) = false := by simpa using fun q => e q.symm
        rw [this, Bool.or_false]
theorem x_grpTk {G : rv_G} (hG : rv_GK G) {Go ca Ha vr fr s : Nat} {isd : Bool} {C : sp_C} {Fs : List Nat} {its : List sp_I} {M0 : List sp_Q} {F : xF} (hC : xCl G isd (xr G F) ca C) (hw : sp_wfH C.hts) (hl : C.hts.length ≤ 3) (hs : C.gath = some s) (hk : ∀ q, q ∈ M0 → (q.2 C.gx).isSome = true) : xTkr G F (fun s : Nat × (Nat → Int32) => [(Go, cO 7 [.ref ca, .ref Ha, .int (nI s.1)]), (Ha, cZ 100 s.2)]) (fun _ => 0) (fun _ => 0) (xgp C.gx) 4 Go vr fr Fs its M0 := by
  intro s q vf ff n m h hq hv hff hH X d L st hX1 hX hd hroom kv kx
  subst hX1
  obtain ⟨g, hg⟩ := Option.isSome_iff_exists.mp (hk q hq)
  refine rv_invF hX jf_X8 mdX8_take (hH.mc (k := 2) rfl) ⟨TX8, 3, rv_c7⟩ (x_groupTake hG (d := 2) (by omega) hC hw hl hs hv hg hH) (by omega) rfl rfl hroom dX9_go_33 (fun v h' hq => kv v h' ?_) (fun E h' hq => hq.elim)
  obtain ⟨hu, hQ⟩ := hq
  refine ⟨_, true, rfl, hu, ?_⟩
  rw [hg]
  exact hQ
/-! a deriver: what of it is frozen, its own cells -/
def xDf0 (G : rv_G) (rd : Nat → rv_C → Prop) (D L ca ms V Mo bo : Nat) (C : sp_C) : Prop := rd D (cO 6 [.ref ca, .ref ms, .ref V, .ref ms, .null, .ref Mo, .null]) ∧ rd L (.inr (24, [.ref D, .ref ca])) ∧ xLp G rd xIt bo C.its
def xDc0 (L V Mo fr bo st len : Nat) (N : xM) : Prop := ∃ (nw ro : Int32) (ov : Bool) (rch : Nat) (vf ff : Nat → Int32), xva (fun _ => none) vf ∧ rch ≤ 6 ∧ N = [(Mo, mX bo len st L V fr nw ro ov rch), (V, cI 8 vf), (fr, cI 3 ff)]
def xDf1 (G : rv_G) (rd : Nat → rv_C → Prop) (D L ca ms V gs Go Mo Mo2 bo : Nat) (C : sp_C) : Prop := rd D (cO 6 [.ref ca, .ref ms, .ref V, .ref gs, .ref Go, .ref Mo, .ref Mo2]) ∧ rd L (.inr (24, [.ref D, .ref ca])) ∧ xLp G rd xIt bo C.its
def xDc1 (L V gs gn gr Go Ha Mo fr Mo2 fr2 bo st ca len : Nat) (N : xM) : Prop := ∃ (ro ro2 : Int32) (ov ov2 : Bool) (rch rch2 c0 : Nat) (vf ff ff2 bf : Nat → Int32) (g : xIn), xva (fun _ => none) vf ∧ rch ≤ 6 ∧ rch2 ≤ 6 ∧ N = (Mo, mX bo len st L V fr (-1) ro ov rch) :: (Mo2, mX bo len st Go V fr2 (-1) ro2 ov2 rch2) :: (V, cI 8 vf) :: (fr, cI 3 ff) :: (fr2, cI 3 ff2) :: (g.M gs gn gr ++ [(Go, cO 7 [.ref ca, .ref Ha, .int (nI c0)]), (Ha, cZ 100 bf)])
/-- a rule's deriver: D its object, N its own cells -/
def xDv (G : rv_G) (rd : Nat → rv_C → Prop) (ca ms st : Nat) (C : sp_C) (D : Nat) (N : xM) : Prop :=
  (C.gath = none ∧ ∃ L V Mo fr bo, xDf0 G rd D L ca ms V Mo bo C ∧ xDc0 L V Mo fr bo st C.its.length N) ∨ (C.gath ≠ none ∧ ∃ L V gs gn gr Go Ha Mo fr Mo2 fr2 bo, xDf1 G rd D L ca ms V gs Go Mo Mo2 bo C ∧ xDc1 L V gs gn gr Go Ha Mo fr Mo2 fr2 bo st ca C.its.length N)
theorem xDf0.mono {G : rv_G} {rd rd2 : Nat → rv_C → Prop} {D L ca ms V Mo bo : Nat} {C : sp_C} (h : xDf0 G rd D L ca ms V Mo bo C) (hm : ∀ a c, rd a c → rd2 a c) : xDf0 G rd2 D L ca ms V Mo bo C := ⟨hm _ _ h.1, hm _ _ h.2.1, h.2.2.mono hm (fun _ _ q => q.mono hm)⟩
theorem xDf1.mono {G : rv_G} {rd rd2 : Nat → rv_C → Prop} {D L ca ms V gs Go Mo Mo2 bo : Nat} {C : sp_C} (h : xDf1 G rd D L ca ms V gs Go Mo Mo2 bo C) (hm : ∀ a c, rd a c → rd2 a c) : xDf1 G rd2 D L ca ms V gs Go Mo Mo2 bo C := ⟨hm _ _ h.1, hm _ _ h.2.1, h.2.2.mono hm (fun _ _ q => q.mono hm)⟩
theorem xDv.mono {G : rv_G} {rd rd2 : Nat → rv_C → Prop} {ca ms st : Nat} {C : sp_C} {D : Nat} {N : xM} (h : xDv G rd ca ms st C D N) (hm : ∀ a c, rd a c → rd2 a c) : xDv G rd2 ca ms st C D N := by
  rcases h with ⟨hg, L, V, Mo, fr, bo, h1, h2⟩ | ⟨hg, L, V, gs, gn, gr, Go, Ha, Mo, fr, Mo2, fr2, bo, h1, h2⟩
  · exact Or.inl ⟨hg, L, V, Mo, fr, bo, h1.mono hm, h2⟩
  · exact Or.inr ⟨hg, L, V, gs, gn, gr, Go, Ha, Mo, fr, Mo2, fr2, bo, h1.mono hm, h2⟩
/-- its matchers run as they should -/
theorem xDgo {G : rv_G} (hG : rv_GK G) (hLK : rv_LK G) {F : xF} {D ca tk vr fr gs gn gr bo st : Nat} {a0 a1 a2 a4 a5 a6 : Value} {C : sp_C} {S Fs : List Nat} {r : Nat → Nat} {nw : Option (Nat × Nat)} {ro : Int32} (hC : xCl G false (xr G F) ca C) (hw : sp_wfC S C) (hS3 : ∀ n, n ∈ S → 1 ≤ n ∧ n ≤ 3) (hS8 : S.length ≤ 8) (hD : xr G F D (cO 6 [a0, a1, a2, .ref gs, a4, a5, a6])) (htk : xr G F tk (.inr (24, [.ref D, .ref ca]))) (hbo : xLp G (xr G F) xIt bo C.its) (hst : xFc (xr G F) st Fs r) (hr : ∀ x, x ∈ Fs → r x < 1000000) (hnw : ∀ p, nw = some p → ro = nI p.2 ∧ p.1 < 6 ∧ p.2 < 1000000) : xGo G F (fun s => xIn.M gs gn gr s) (fun _ => 1) (fun _ => 6) (xkp C) 10 bo st tk vr fr nw ro S C.its C.its Fs r (xMs Fs r nw 0 [] C.its (fun _ => none)) := by
  have hrel : C.rel < 8 := by
    have := (List.getElem?_eq_some_iff.mp hw.hd).1
    omega
  refine ⟨⟨hG, hbo, hst⟩, ⟨hw.len.2, ⟨C.its.length, (List.take_length).symm⟩, hw.atoms⟩, ⟨hS3, hS8, hw.its⟩, ⟨hnw, hr⟩, x_derTk hG hLK hC hw.hts (hw.ht3 hS3) hrel hD htk (fun q hq => ?_)⟩
  exact (hw.known (xMs_mem.mp hq).1).1
theorem xDgo2 {G : rv_G} (hG : rv_GK G) {F : xF} {Go Ha ca vr fr bo st s : Nat} {C : sp_C} {S Fs : List Nat} {r : Nat → Nat} {ro : Int32} {v : sp_V} (hC : xCl G false (xr G F) ca C) (hw : sp_wfC S C) (hS3 : ∀ n, n ∈ S → 1 ≤ n ∧ n ≤ 3) (hS8 : S.length ≤ 8) (hs : C.gath = some s) (hbo : xLp G (xr G F) xIt bo C.its) (hst : xFc (xr G F) st Fs r) (hr : ∀ x, x ∈ Fs → r x < 1000000) : xGo G F (fun s : Nat × (Nat → Int32) => [(Go, cO 7 [.ref ca, .ref Ha, .int (nI s.1)]), (Ha, cZ 100 s.2)]) (fun _ => 0) (fun _ => 0) (xgp C.gx) 4 bo st Go vr fr none ro S C.its C.its Fs r (xMs Fs r none 0 [] C.its v) := by
  refine ⟨⟨hG, hbo, hst⟩, ⟨hw.len.2, ⟨C.its.length, (List.take_length).symm⟩, hw.atoms⟩, ⟨hS3, hS8, hw.its⟩, ⟨fun p e => (by cases e), hr⟩, x_grpTk hG hC hw.hts (hw.ht3 hS3) hs (fun q hq => ?_)⟩
  exact (hw.known (xMs_mem.mp hq).1).2 _ (List.mem_of_getElem? (sp_gt_at hs).1) (sp_gt_at hs).2
