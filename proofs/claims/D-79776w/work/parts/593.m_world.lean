/-! THE REFERENCE: a world is settled, saved, brought back -/
set_option maxRecDepth 100000
theorem mDeeds.same2 {fs js : List Nat} {σ τ : rv_S} {S : List Nat} {R : List sp_C} (h : mDeeds σ S R) (hs : rv_same fs js σ τ) (h0 : τ.2.1 1 0 = σ.2.1 1 0) (h02 : τ.2.1 1 2 = σ.2.1 1 2) (h1 : ∀ j, j ∈ [2, 3, 4, 5, 6, 7, 8, 9, 10, 11, 12] → j ∉ js) : mDeeds τ S R := ⟨h.1.same2 hs h0 (h1 2 (by decide)), by rw [h02]; exact h.2.1, h.2.2.1, fun i C e => ⟨(h.2.2.2 i C e).1.same hs (fun j hj => h1 j (by revert j; decide)), (h.2.2.2 i C e).2⟩⟩
theorem mStk.same2 {fs js : List Nat} {σ τ : rv_S} {K : List Nat} (h : mStk σ K) (hs : rv_same fs js σ τ) (h8 : τ.2.1 1 8 = σ.2.1 1 8) (h17 : 17 ∉ js) : mStk τ K := ⟨by rw [h8]; exact h.1, h.2.1, h.2.2.1, fun k m e => by rw [hs.2.1 17 h17]; exact h.2.2.2 k m e⟩
/-- what settling needs of a world -/
def wSt (w : wW) : Prop := w.F.length ≤ 60 ∧ w.A.length = w.F.length ∧ (∀ t, t ∈ w.A → t ≤ w.g) ∧ w.g ≤ 1000000
theorem m_settleW {G : rv_G} (hG : rv_GK G) {d : Nat} (hd : 8 ≤ d) {σ : rv_S} {w : wW} (h : mW0 σ w) {st : Nat → Nat} (hst : sp_strata w.R = some st) (hw : wSt w) (hdp : ∃ dep, mDep σ dep) : mC G d yX4_settle wX4_settle [] σ (mPz (fun r τ => rv_same [29, 30, 31, 32, 33, 34, 39] [1, 15, 16, 22, 23, 24, 25, 26, 27, 28, 29, 30, 31, 32, 33, 34] σ τ ∧ (∃ dep, mDep τ dep) ∧ ((r = true ∧ ∃ w', w.stl = some w' ∧ mW0 τ w') ∨ (r = false ∧ w.stl = none)))) := by
  obtain ⟨dep, hdp⟩ := hdp
  refine mC_mono (m_settle hG hd h.rules hst h.facts hw.1 h.tags hw.2.1 hw.2.2.1 h.g hw.2.2.2 h.tl.told hdp) (mPz_mono fun r τ hp => ?_)
  obtain ⟨hs, h1, F', g1, g2, g3, g4, g5, g6⟩ := hp
  refine ⟨hs, ⟨dep, hdp.same hs (by decide)⟩, ?_⟩
  rcases g6 with ⟨r1, r2⟩ | ⟨r1, r2⟩
  · refine Or.inl ⟨r1, w.setF F', ?_, ?_⟩
    · unfold wW.stl
      rw [sp_set_some (T := w.kT) hst r2]
      rfl
    · exact ⟨h.rules.same2 hs (h1 0 (by decide) (by decide)) (h1 1 (by decide) (by decide)) (by decide), h.deeds.same2 hs (h1 0 (by decide) (by decide)) (h1 2 (by decide) (by decide)) (by decide), by rw [h1 3 (by decide) (by decide)]; exact h.nr, by rw [h1 4 (by decide) (by decide)]; exact h.nd, h.tl.same2 hs (h1 5 (by decide) (by decide)) (by decide), g1, g4, g5, h.stk.same2 hs (h1 8 (by decide) (by decide)) (by decide), by rw [h1 9 (by decide) (by decide)]; exact h.now, by rw [h1 10 (by decide) (by decide)]; exact h.fd⟩
  · refine Or.inr ⟨r1, ?_⟩
    unfold wW.stl
    rw [sp_set_none (T := w.kT) hst r2]
    rfl
/-! rows brought back -/
def mAgr (υ τ : rv_S) : Prop := ∀ e, e ∈ bk_E → ∀ i, i < e.2 → τ.2.1 e.1 i = υ.2.1 e.1 i
theorem mAgr.at {υ τ : rv_S} (h : mAgr υ τ) {j n i : Nat} (hj : (j, n) ∈ bk_E) (hi : i < n) : τ.2.1 j i = υ.2.1 j i := h (j, n) hj i hi
theorem mItem.agr {υ τ : rv_S} (h : mAgr υ τ) {b i : Nat} {it : sp_I} (hb : b < 16) (hi : i < 6) (hl : it.2.2.length ≤ 3) (hI : mItem υ b i it) : mItem τ b i it := by
  obtain ⟨a, c, d⟩ := hI
  refine ⟨by rw [h.at (j := 7) (n := 96) (by decide) (by omega)]; exact a, by rw [h.at (j := 8) (n := 96) (by decide) (by omega)]; exact c, fun k t e => ?_⟩
  have := (List.getElem?_eq_some_iff.mp e).1
  rw [h.at (j := 9) (n := 288) (by decide) (by omega)]
  exact d k t e
theorem mBody.agr {υ τ : rv_S} (h : mAgr υ τ) {S : List Nat} (hS : ∀ n, n ∈ S → 1 ≤ n ∧ n ≤ 3) {b : Nat} {C : sp_C} (hb : b < 16) (hw : sp_wfC S C) (hB : mBody υ b C) : mBody τ b C := by
  have hl := hw.len
  refine ⟨by rw [h.at (j := 3) (n := 16) (by decide) hb]; exact hB.num, by rw [h.at (j := 4) (n := 16) (by decide) hb]; exact hB.rel, fun k t e => ?_, by rw [h.at (j := 6) (n := 16) (by decide) hb]; exact hB.len, fun i it e => ?_, by rw [h.at (j := 10) (n := 16) (by decide) hb]; exact hB.mod, by rw [h.at (j := 11) (n := 16) (by decide) hb]; exact hB.sal, by rw [h.at (j := 12) (n := 16) (by decide) hb]; exact hB.tells⟩
  · have h1 := (List.getElem?_eq_some_iff.mp e).1
    have h2 := hw.ht3 hS
    rw [h.at (j := 5) (n := 48) (by decide) (by omega)]
    exact hB.hts k t e
  · have h1 := (List.getElem?_eq_some_iff.mp e).1
    exact (hB.its i it e).agr h hb (by omega) ((hw.its it (List.mem_of_getElem? e)).len hS).2
theorem mW0.agr {υ τ : rv_S} {w : wW} (h : mAgr υ τ) (hw : mW0 υ w) (hT : w.T.length ≤ 60) (hF : w.F.length ≤ 60) (hA : w.A.length ≤ 60) : mW0 τ w := by
  have e1 : ∀ i, i < 11 → τ.2.1 1 i = υ.2.1 1 i := fun i hi => h.at (j := 1) (n := 11) (by decide) hi
  have hR := hw.rules
  have hDd := hw.deeds
  have hS := hw.rel
  have hS8 := hS.2.1
  have hrel : mRel τ w.S := ⟨by rw [e1 0 (by decide)]; exact hS.1, hS.2.1, hS.2.2.1, fun k n e => by
    have := (List.getElem?_eq_some_iff.mp e).1
    rw [h.at (j := 2) (n := 8) (by decide) (by omega)]; exact hS.2.2.2 k n e⟩
  have hR10 := hR.2.2.1
  have hD6 := hDd.2.2.1
  have hK8 := hw.stk.2.2.1
  refine ⟨⟨hrel, by rw [e1 1 (by decide)]; exact hR.2.1, hR.2.2.1, fun i C e => ?_⟩, ⟨hrel, by rw [e1 2 (by decide)]; exact hDd.2.1, hDd.2.2.1, fun i C e => ?_⟩, by rw [e1 3 (by decide)]; exact hw.nr, by rw [e1 4 (by decide)]; exact hw.nd, ⟨by rw [e1 5 (by decide)]; exact hw.tl.1, hw.tl.2.1, fun k p e => ?_⟩, ⟨by rw [e1 6 (by decide)]; exact hw.facts.1, hw.facts.2.1, hw.facts.2.2.1, fun k f e => ?_⟩, fun k t e => ?_, by rw [e1 7 (by decide)]; exact hw.g, ⟨by rw [e1 8 (by decide)]; exact hw.stk.1, hw.stk.2.1, hw.stk.2.2.1, fun k m e => ?_⟩, by rw [e1 9 (by decide)]; exact hw.now, by rw [e1 10 (by decide)]; exact hw.fd⟩
  · have := (List.getElem?_eq_some_iff.mp e).1
    obtain ⟨q1, q2⟩ := hR.2.2.2 i C e
    exact ⟨q1.agr h hS.2.2.1 (by omega) q2, q2⟩
  · have := (List.getElem?_eq_some_iff.mp e).1
    obtain ⟨q1, q2⟩ := hDd.2.2.2 i C e
    exact ⟨q1.agr h hS.2.2.1 (by omega) q2, q2⟩
  · have := (List.getElem?_eq_some_iff.mp e).1
    rw [h.at (j := 13) (n := 60) (by decide) (by omega), h.at (j := 14) (n := 60) (by decide) (by omega)]
    exact hw.tl.2.2 k p e
  · have := (List.getElem?_eq_some_iff.mp e).1
    rw [h.at (j := 15) (n := 60) (by decide) (by omega)]
    exact hw.facts.2.2.2 k f e
  · have := (List.getElem?_eq_some_iff.mp e).1
    rw [h.at (j := 16) (n := 60) (by decide) (by omega)]
    exact hw.tags k t e
  · have := (List.getElem?_eq_some_iff.mp e).1
    rw [h.at (j := 17) (n := 8) (by decide) (by omega)]
    exact hw.stk.2.2.2 k m e
/-- a world saved -/
def mSv (σ : rv_S) (i : Nat) (w : wW) : Prop := (∃ υ, mW0 υ w ∧ svIn υ σ i) ∧ mEnt σ w.E ∧ w.T.length ≤ 60 ∧ w.F.length ≤ 60 ∧ w.A.length ≤ 60
theorem mSv.same {fs js : List Nat} {σ τ : rv_S} {i : Nat} {w : wW} (h : mSv σ i w) (hs : rv_same fs js σ τ) (h1 : ∀ j, j ∈ [18, 19, 20, 21] → j ∉ js) : mSv τ i w := by
  obtain ⟨⟨υ, a, b⟩, c, d⟩ := h
  exact ⟨⟨υ, a, b.same hs ⟨h1 19 (by decide), h1 20 (by decide), h1 21 (by decide)⟩⟩, c.same hs (h1 18 (by decide)), d⟩
theorem mDraft.bk {σ τ : rv_S} {S : List Nat} {dr : wDr} (h : mDraft σ S dr) (hk : ∀ e, e ∈ bk_E → ∀ i, e.2 ≤ i → τ.2.1 e.1 i = σ.2.1 e.1 i) (hs : rv_same [] [1, 2, 3, 4, 5, 6, 7, 8, 9, 10, 11, 12, 13, 14, 15, 16, 17] σ τ) : mDraft τ S dr := by
  have e : ∀ j n i, (j, n) ∈ bk_E → n ≤ i → τ.2.1 j i = σ.2.1 j i := fun j n i h1 h2 => hk (j, n) h1 i h2
  obtain ⟨a, b, c1, c2, c3, c4⟩ := h
  refine ⟨by rw [hs.1 23 (by decide)]; exact a, b, by rw [e 10 16 16 (by decide) (by omega)]; exact c1, by rw [e 11 16 16 (by decide) (by omega)]; exact c2, by rw [e 12 16 16 (by decide) (by omega)]; exact c3, fun hk => ?_⟩
  obtain ⟨d1, d2, d3, d4, d5, d6, d7⟩ := c4 hk
  refine ⟨by rw [e 4 16 16 (by decide) (by omega)]; exact d1, d2, by rw [e 6 16 16 (by decide) (by omega)]; exact d3, d4, by rw [hs.1 24 (by decide)]; exact d5, fun k hk => by rw [e 5 48 _ (by decide) (by omega)]; exact d6 k hk, fun i it h9 => ?_⟩
  obtain ⟨i1, i2, i3⟩ := d7 i it h9
  exact ⟨by rw [e 7 96 _ (by decide) (by omega)]; exact i1, by rw [e 8 96 _ (by decide) (by omega)]; exact i2, fun k t h => by rw [e 9 288 _ (by decide) (by omega)]; exact i3 k t h⟩
/-- bringing back a saved world -/
theorem m_bringW {G : rv_G} (hG : rv_GK G) {d : Nat} (hd : 1 ≤ d) {σ : rv_S} {i : Nat} {w : wW} (hi : i ≤ 3) (hs : mSv σ i w) : mC G d yX4_bringBack wX4_bringBack [.int (nI i)] σ (mPv (fun τ => mW τ w ∧ rv_same [] [1, 2, 3, 4, 5, 6, 7, 8, 9, 10, 11, 12, 13, 14, 15, 16, 17] σ τ ∧ ∀ (S : List Nat) (dr : wDr), mDraft σ S dr → mDraft τ S dr)) := by
  obtain ⟨⟨υ, a, b⟩, c, dT, dF, dA⟩ := hs
  refine mC_mono (m_bringBack hG hd hi b) (fun v τ hp => ?_)
  obtain ⟨e, hp⟩ := hp
  refine ⟨e, ⟨a.agr (fun e he i hi => (hp.1 e he).1 i hi) dT dF dA, c.same hp.2 (by decide)⟩, hp.2, fun S dr h => h.bk (fun e he i hi => (hp.1 e he).2 i hi) hp.2⟩
theorem mBeg.out {σ τ : rv_S} {B : List wW} {w : Nat} (h : mBeg σ B) (ho : svOut σ τ w) (hs : rv_same [] [19, 20, 21] σ τ) (hw : B.length ≤ w) : mBeg τ B := by
  refine ⟨by rw [hs.1 22 (by decide)]; exact h.1, h.2.1, fun i v e => ?_⟩
  obtain ⟨υ, a, b, c⟩ := h.2.2 i v e
  have hi := (List.getElem?_eq_some_iff.mp e).1
  have hB3 := h.2.1
  refine ⟨υ, a, ⟨fun k hk => ?_, fun x hx k hk => ?_, fun x hx k hk => ?_⟩, c.same hs (by decide)⟩
  · rw [ho.1 _ (Or.inl (by omega))]
    exact b.1 k hk
  · rw [ho.2.1 _ (Or.inl ?_)]
    · exact b.2.1 x hx k hk
    · have : x.2.1 + x.2.2 ≤ 663 := by
        have : ∀ x, x ∈ sv_B → x.2.1 + x.2.2 ≤ 663 := by decide
        exact this x hx
      omega
  · rw [ho.2.2 _ (Or.inl ?_)]
    · exact b.2.2 x hx k hk
    · have : x.2.1 + x.2.2 ≤ 256 := by
        have : ∀ x, x ∈ sv_F → x.2.1 + x.2.2 ≤ 256 := by decide
        exact this x hx
      omega
/-- bounds of a world -/
def wB6 (w : wW) : Prop := w.T.length ≤ 60 ∧ w.F.length ≤ 60 ∧ w.A.length ≤ 60
theorem sp_stl_T {R : List sp_C} {st : Nat → Nat} {T G : List Nat} (h : sp_stl R st T G) : ∀ x, x ∈ T → x ∈ G := by
  obtain ⟨F, -, -, f3, hch⟩ := h
  obtain ⟨H, a1, a2, -⟩ := sp_chain_split hch 0 (Nat.zero_le _)
  have e : H = F := a1
  subst e
  exact fun x hx => a2 x ((f3 x).mpr hx)
theorem wfW.b6 {N : Nat} {w : wW} (h : wfW N w) : wB6 w := by
  obtain ⟨st, -, h2⟩ := sp_set_spec h.set
  have h6 := h.F60.2
  refine ⟨?_, h6, by rw [h.A.1]; exact h6⟩
  have := sp_nd_len h.T.1 (sp_stl_T h2)
  have e : w.kT.length = w.T.length := by unfold wW.kT; rw [List.length_map]
  omega
theorem wfW.st {N : Nat} (hN : N ≤ 24) {w : wW} (h : wfW N w) : wSt w := ⟨h.F60.2, h.A.1, fun t ht => (h.A.2.2.1 t ht).2, by have := h.A.2.2.2; omega⟩
/-- the spare world is saved -/
theorem m_saveW {G : rv_G} (hG : rv_GK G) {d : Nat} (hd : 1 ≤ d) {σ : rv_S} {s : wS} (h : mSt σ s) (hw : wB6 s.w) : mC G d yX4_save wX4_save [.int (nI 3)] σ (mPv (fun τ => mSt τ s ∧ mSv τ 3 s.w ∧ rv_same [] [19, 20, 21] σ τ)) := by
  refine mC_mono (m_save hG hd (w := 3) (Nat.le_refl _)) (fun v τ hp => ?_)
  obtain ⟨e, h1, h2, h3⟩ := hp
  obtain ⟨dep, hdp⟩ := h.2.2.2
  exact ⟨e, ⟨⟨h.1.1.same h3 (by decide), h.1.2.same h3 (by decide)⟩, h.2.1.same h3 (by decide) (by decide), h.2.2.1.out h2 h3 h.2.2.1.2.1, dep, hdp.same h3 (by decide)⟩, ⟨⟨σ, h.1.1, h1⟩, h.1.2.same h3 (by decide), hw⟩, h3⟩
theorem wW.stl_spec {w w' : wW} (h : w.stl = some w') : ∃ F, sp_set w.R w.kT = some F ∧ w' = w.setF F := by
  unfold wW.stl at h
  cases e : sp_set w.R w.kT with
  | none => rw [e] at h; cases h
  | some F => rw [e] at h; cases h; exact ⟨F, rfl, rfl⟩
/-- a step to a settled world, or none -/
noncomputable def wS.step (s : wS) (p : Nat) (w : wW) : wA := match w.stl with
  | none => (p, 0, s)
  | some w' => (0, nI w'.F.length, s.setw w')
theorem m_settledOr {G : rv_G} (hG : rv_GK G) {d : Nat} (hd : 9 ≤ d) {σ : rv_S} {s : wS} {w : wW} {p : Nat} (hp0 : 0 < p) (hp : p < 10) (h : mW σ w) {st : Nat → Nat} (hst : sp_strata w.R = some st) (hw : wSt w) (hdp : ∃ dep, mDep σ dep) (hdr : mDraft σ s.w.S s.d) (hbg : mBeg σ s.b) (hsv : mSv σ 3 s.w) (hS : w.S = s.w.S) : mC G d yX4_settledOr wX4_settledOr [.int (nI p)] σ (mPi (fun r τ => mRes τ r (s.step p w))) := by
  refine mv_start hG (by decide +kernel) (Nat.le_of_ble_eq_true rfl) (fun X Hb o hX1 hX hE => ?_)
  subst hX1
  show rv_V X (rv_mh Hb o _) 0 [some (.ref o), some (.int (nI p))] []
  refine rv_aload_n hX dX4_settledOr_0 rfl ?_
  refine rv_aload_n hX dX4_settledOr_1 rfl ?_
  refine mv_callz hX iX4_284 rfl mdX4_settle (m_settleW hG (d := d - 1) (by omega) h.1 hst hw hdp) (by omega) rfl rfl (Nat.le_of_ble_eq_true rfl) dX4_settledOr_2 (fun r_2 τ_2 h_2 => ?_)
  obtain ⟨hs, hd2, hr⟩ := h_2
  first | refine zv_if_eq hX 12 dX4_settledOr_5 (by decide) (fun c_5 => ?_) (fun c_5 => ?_) | refine nv_if_eq hX 12 (by omega) dX4_settledOr_5 (by decide) (fun c_5 => ?_) (fun c_5 => ?_) | refine rv_if_eq hX 12 dX4_settledOr_5 (by decide) (fun c_5 => ?_) (fun c_5 => ?_)
  · skip
    have hst0 : w.stl = none := by
      rcases hr with ⟨q, -⟩ | ⟨-, q⟩
      · rw [c_5] at q; cases q
      · exact q
    refine rv_iload_n hX dX4_settledOr_12 rfl ?_
    refine mv_callz hX iX4_266 rfl mdX4_goesWell (m_goesWell hG (d := d - 1) (by omega)) (by omega) rfl rfl (Nat.le_of_ble_eq_true rfl) dX4_settledOr_13 (fun r_13 τ_13 h_13 => ?_)
    obtain ⟨rfl, hgw⟩ := h_13
    first | refine zv_if_ne hX 26 dX4_settledOr_16 (by decide) (fun c_16 => ?_) (fun c_16 => ?_) | refine nv_if_ne hX 26 (by omega) dX4_settledOr_16 (by decide) (fun c_16 => ?_) (fun c_16 => ?_) | refine rv_if_ne hX 26 dX4_settledOr_16 (by decide) (fun c_16 => ?_) (fun c_16 => ?_)
    · skip
      refine rv_aload_n hX dX4_settledOr_26 rfl ?_
      refine mv_ga hX (k := 1) (j := 1) gX4_7_X4 (by decide) rfl (by decide) dX4_settledOr_27 ?_
      refine nv_bipush hX (m := 6) (by decide) dX4_settledOr_30 ?_
      refine mv_ld hX (j := 1) (by decide) (by decide) rfl (by decide) (show _ < 11 by omega) dX4_settledOr_32 ?_
      refine mv_reti hX hE dX4_settledOr_33 ?_
      first
        | (rw [decide_eq_false (by omega)] at hgw
           rw [hgw] at c_16
           cases c_16)
        | (unfold wS.step
           rw [hst1]
           obtain ⟨dep, hd3⟩ := hd2
           refine ⟨rfl, fun _ => hw1.facts.1, ⟨hw1.same (.f (fs := [0]) (js := []) (by decide)) (by decide), ?_⟩, ?_, ?_, dep, hd3⟩
           · exact (h.2.same hs (by decide)).same (.f (fs := [0]) (js := []) (by decide)) (by decide)
           · show mDraft _ w.S s.d
             rw [hS]
             exact (hdr.same hs (by decide) (by decide)).same (.f (fs := [0]) (js := []) (by decide)) (by decide) (by decide)
           · exact (hbg.same hs (by decide) (by decide)).same (.f (fs := [0]) (js := []) (by decide)) (by decide) (by decide))
    · skip
      refine rv_aload_n hX dX4_settledOr_19 rfl ?_
      refine nv_iconst hX (m := 3) (by decide) dX4_settledOr_20 ?_
      refine mv_callv hX iX4_287 rfl mdX4_bringBack (m_bringW hG (d := d - 1) (by omega) (i := 3) (Nat.le_refl _) ((hsv.same hs (by decide)).same (.f (fs := [0]) (js := []) (by decide)) (by decide))) (by omega) rfl rfl (Nat.le_of_ble_eq_true rfl) dX4_settledOr_21 (fun τ_21 h_21 => ?_)
      obtain ⟨b1, b2, b3⟩ := h_21
      refine nv_iconst hX (m := 0) (by decide) dX4_settledOr_24 ?_
      refine mv_reti hX hE dX4_settledOr_25 ?_
      first
        | (rw [decide_eq_true (by omega)] at hgw
           rw [hgw] at c_16
           cases c_16)
        | (unfold wS.step
           rw [hst0]
           obtain ⟨dep, hd3⟩ := hd2
           refine ⟨by rw [b2.1 0 (by decide)]; rfl, fun e => absurd e (by show ¬ p = 0; omega), b1, b3 _ _ ?_, ?_, dep, ?_⟩
           · exact (hdr.same hs (by decide) (by decide)).same (.f (fs := [0]) (js := []) (by decide)) (by decide) (by decide)
           · exact ((hbg.same hs (by decide) (by decide)).same (.f (fs := [0]) (js := []) (by decide)) (by decide) (by decide)).same b2 (by decide) (by decide)
           · exact (hd3.same (.f (fs := [0]) (js := []) (by decide)) (by decide)).same b2 (by decide))
  · skip
    obtain ⟨w', hst1, hw1⟩ : ∃ w', w.stl = some w' ∧ mW0 τ_2 w' := by
      rcases hr with ⟨-, q⟩ | ⟨q, -⟩
      · exact q
      · rw [c_5] at q; cases q
    obtain ⟨F9, -, rfl⟩ := wW.stl_spec hst1
    refine nv_iconst hX (m := 0) (by decide) dX4_settledOr_8 ?_
    refine rv_goto hX 13 dX4_settledOr_9 (by decide) ?_
    refine mv_callz hX iX4_266 rfl mdX4_goesWell (m_goesWell hG (d := d - 1) (by omega)) (by omega) rfl rfl (Nat.le_of_ble_eq_true rfl) dX4_settledOr_13 (fun r_13 τ_13 h_13 => ?_)
    obtain ⟨rfl, hgw⟩ := h_13
    first | refine zv_if_ne hX 26 dX4_settledOr_16 (by decide) (fun c_16 => ?_) (fun c_16 => ?_) | refine nv_if_ne hX 26 (by omega) dX4_settledOr_16 (by decide) (fun c_16 => ?_) (fun c_16 => ?_) | refine rv_if_ne hX 26 dX4_settledOr_16 (by decide) (fun c_16 => ?_) (fun c_16 => ?_)
    · skip
      refine rv_aload_n hX dX4_settledOr_26 rfl ?_
      refine mv_ga hX (k := 1) (j := 1) gX4_7_X4 (by decide) rfl (by decide) dX4_settledOr_27 ?_
      refine nv_bipush hX (m := 6) (by decide) dX4_settledOr_30 ?_
      refine mv_ld hX (j := 1) (by decide) (by decide) rfl (by decide) (show _ < 11 by omega) dX4_settledOr_32 ?_
      refine mv_reti hX hE dX4_settledOr_33 ?_
      first
        | (rw [decide_eq_false (by omega)] at hgw
           rw [hgw] at c_16
           cases c_16)
        | (unfold wS.step
           rw [hst1]
           obtain ⟨dep, hd3⟩ := hd2
           refine ⟨rfl, fun _ => hw1.facts.1, ⟨hw1.same (.f (fs := [0]) (js := []) (by decide)) (by decide), ?_⟩, ?_, ?_, dep, hd3⟩
           · exact (h.2.same hs (by decide)).same (.f (fs := [0]) (js := []) (by decide)) (by decide)
           · show mDraft _ w.S s.d
             rw [hS]
             exact (hdr.same hs (by decide) (by decide)).same (.f (fs := [0]) (js := []) (by decide)) (by decide) (by decide)
           · exact (hbg.same hs (by decide) (by decide)).same (.f (fs := [0]) (js := []) (by decide)) (by decide) (by decide))
    · skip
      refine rv_aload_n hX dX4_settledOr_19 rfl ?_
      refine nv_iconst hX (m := 3) (by decide) dX4_settledOr_20 ?_
      refine mv_callv hX iX4_287 rfl mdX4_bringBack (m_bringW hG (d := d - 1) (by omega) (i := 3) (Nat.le_refl _) ((hsv.same hs (by decide)).same (.f (fs := [0]) (js := []) (by decide)) (by decide))) (by omega) rfl rfl (Nat.le_of_ble_eq_true rfl) dX4_settledOr_21 (fun τ_21 h_21 => ?_)
      obtain ⟨b1, b2, b3⟩ := h_21
      refine nv_iconst hX (m := 0) (by decide) dX4_settledOr_24 ?_
      refine mv_reti hX hE dX4_settledOr_25 ?_
      first
        | (rw [decide_eq_true (by omega)] at hgw
           rw [hgw] at c_16
           cases c_16)
        | (unfold wS.step
           rw [hst0]
           obtain ⟨dep, hd3⟩ := hd2
           refine ⟨by rw [b2.1 0 (by decide)]; rfl, fun e => absurd e (by show ¬ p = 0; omega), b1, b3 _ _ ?_, ?_, dep, ?_⟩
           · exact (hdr.same hs (by decide) (by decide)).same (.f (fs := [0]) (js := []) (by decide)) (by decide) (by decide)
           · exact ((hbg.same hs (by decide) (by decide)).same (.f (fs := [0]) (js := []) (by decide)) (by decide) (by decide)).same b2 (by decide) (by decide)
           · exact (hd3.same (.f (fs := [0]) (js := []) (by decide)) (by decide)).same b2 (by decide))
