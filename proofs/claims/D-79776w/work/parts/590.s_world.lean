/-! THE WORLD: what both programs keep; the reference's picture of it -/
set_option maxRecDepth 100000
/-- slots of relations, rules, deeds, numbers given to rules and deeds, told facts with ends, facts that stand, their tags, tags given, the stack, the time, what has fired -/
def wW : Type := List Nat × List sp_C × List sp_C × Nat × Nat × List (Nat × Nat) × List Nat × List Nat × Nat × List Nat × Nat × List (Nat × Nat × Nat × Nat)
def wW.S (w : wW) : List Nat := w.1
def wW.R (w : wW) : List sp_C := w.2.1
def wW.D (w : wW) : List sp_C := w.2.2.1
def wW.nr (w : wW) : Nat := w.2.2.2.1
def wW.nd (w : wW) : Nat := w.2.2.2.2.1
def wW.T (w : wW) : List (Nat × Nat) := w.2.2.2.2.2.1
def wW.F (w : wW) : List Nat := w.2.2.2.2.2.2.1
def wW.A (w : wW) : List Nat := w.2.2.2.2.2.2.2.1
def wW.g (w : wW) : Nat := w.2.2.2.2.2.2.2.2.1
def wW.K (w : wW) : List Nat := w.2.2.2.2.2.2.2.2.2.1
def wW.now (w : wW) : Nat := w.2.2.2.2.2.2.2.2.2.2.1
def wW.E (w : wW) : List (Nat × Nat × Nat × Nat) := w.2.2.2.2.2.2.2.2.2.2.2
def w_mk (S : List Nat) (R D : List sp_C) (nr nd : Nat) (T : List (Nat × Nat)) (F A : List Nat) (g : Nat) (K : List Nat) (now : Nat) (E : List (Nat × Nat × Nat × Nat)) : wW := (S, R, D, nr, nd, T, F, A, g, K, now, E)
def wW.kT (w : wW) : List Nat := w.T.map (fun p => p.1)
def wW.setS (w : wW) (x : List Nat) : wW := w_mk x w.R w.D w.nr w.nd w.T w.F w.A w.g w.K w.now w.E
def wW.setR (w : wW) (x : List sp_C) (n : Nat) : wW := w_mk w.S x w.D n w.nd w.T w.F w.A w.g w.K w.now w.E
def wW.setD (w : wW) (x : List sp_C) (n : Nat) : wW := w_mk w.S w.R x w.nr n w.T w.F w.A w.g w.K w.now w.E
def wW.setT (w : wW) (x : List (Nat × Nat)) : wW := w_mk w.S w.R w.D w.nr w.nd x w.F w.A w.g w.K w.now w.E
def wW.setK (w : wW) (x : List Nat) : wW := w_mk w.S w.R w.D w.nr w.nd w.T w.F w.A w.g x w.now w.E
def wW.setN (w : wW) (x : Nat) : wW := w_mk w.S w.R w.D w.nr w.nd w.T w.F w.A w.g w.K x w.E
def wW.setE (w : wW) (x : List (Nat × Nat × Nat × Nat)) : wW := w_mk w.S w.R w.D w.nr w.nd w.T w.F w.A w.g w.K w.now x
def wW.setF (w : wW) (x : List Nat) : wW := w_mk w.S w.R w.D w.nr w.nd w.T x (sp_gtags w.F w.A w.g x) (sp_gnew w.F w.A w.g x) w.K w.now w.E
/-- what stands by rules and what is told, if that is not too much -/
noncomputable def sp_set (R : List sp_C) (T : List Nat) : Option (List Nat) := match sp_strata R with
  | none => none
  | some st => @dite _ (∃ G, sp_stl R st T G) (Classical.propDecidable _) (fun h => some (Classical.choose h)) (fun _ => none)
theorem sp_set_some {R : List sp_C} {T G : List Nat} {st : Nat → Nat} (h : sp_strata R = some st) (hg : sp_stl R st T G) : sp_set R T = some G := by
  unfold sp_set
  rw [h]
  show @dite _ (∃ G, sp_stl R st T G) (Classical.propDecidable _) (fun h => some (Classical.choose h)) (fun _ => none) = _
  rw [dif_pos ⟨G, hg⟩]
  exact congrArg some (sp_stl_uniq (Classical.choose_spec (⟨G, hg⟩ : ∃ G, sp_stl R st T G)) hg)
theorem sp_set_none {R : List sp_C} {T : List Nat} {st : Nat → Nat} (h : sp_strata R = some st) (hg : ¬ ∃ G, sp_stl R st T G) : sp_set R T = none := by
  unfold sp_set
  rw [h]
  show @dite _ (∃ G, sp_stl R st T G) (Classical.propDecidable _) (fun h => some (Classical.choose h)) (fun _ => none) = _
  rw [dif_neg hg]
theorem sp_set_str {R : List sp_C} {T : List Nat} (h : sp_strata R = none) : sp_set R T = none := by
  unfold sp_set
  rw [h]
theorem sp_set_spec {R : List sp_C} {T G : List Nat} (h : sp_set R T = some G) : ∃ st, sp_strata R = some st ∧ sp_stl R st T G := by
  cases hs : sp_strata R with
  | none => rw [sp_set_str hs] at h; cases h
  | some st =>
    refine ⟨st, rfl, ?_⟩
    by_cases hg : ∃ G, sp_stl R st T G
    · obtain ⟨G', hG'⟩ := hg
      rw [sp_set_some hs hG'] at h
      cases h
      exact hG'
    · rw [sp_set_none hs hg] at h
      cases h
noncomputable def wW.stl (w : wW) : Option wW := (sp_set w.R w.kT).map w.setF
/-- the draft: 0 none, 1 a rule, 2 a deed; module, salience, whether it tells (as they were typed last); relation, terms of the head so far, items so far -/
def wDr : Type := Nat × Nat × Int32 × Bool × Nat × List Nat × List sp_I
def wDr.k (d : wDr) : Nat := d.1
def wDr.mod (d : wDr) : Nat := d.2.1
def wDr.sal (d : wDr) : Int32 := d.2.2.1
def wDr.tells (d : wDr) : Bool := d.2.2.2.1
def wDr.rel (d : wDr) : Nat := d.2.2.2.2.1
def wDr.hts (d : wDr) : List Nat := d.2.2.2.2.2.1
def wDr.its (d : wDr) : List sp_I := d.2.2.2.2.2.2
def wDr.typed (d : wDr) : Nat := match d.its.getLast? with
  | none => d.hts.length
  | some it => it.2.2.length
def sp_tof (S : List Nat) (it : sp_I) : Nat := if it.1 ≤ 1 then S.getD it.2.1 0 else if it.1 = 2 then 2 else 3
def wDr.want (S : List Nat) (d : wDr) : Nat := match d.its.getLast? with
  | none => S.getD d.rel 0
  | some it => sp_tof S it
def wDr.lacks (S : List Nat) (d : wDr) : Bool := decide (d.typed < d.want S)
def wDr.off (d : wDr) : wDr := (0, d.mod, d.sal, d.tells, d.rel, d.hts, d.its)
def wS : Type := wW × wDr × List wW
def wS.w (s : wS) : wW := s.1
def wS.d (s : wS) : wDr := s.2.1
def wS.b (s : wS) : List wW := s.2.2
def wS.setw (s : wS) (w : wW) : wS := (w, s.2)
def wS.setd (s : wS) (d : wDr) : wS := (s.1, d, s.2.2)
def wS.setb (s : wS) (b : List wW) : wS := (s.1, s.2.1, b)
/-- how a call ends: the place of the exception thrown (0 for none), the answer, the state then -/
abbrev wA : Type := Nat × Int32 × wS
/-! pictures -/
def mEnt (σ : rv_S) (D : List (Nat × Nat × Nat × Nat)) : Prop := ∀ (k : Nat) (e : Nat × Nat × Nat × Nat), D[k]? = some e → (σ.2.1 18 (4 * k) = nI e.1 ∧ σ.2.1 18 (4 * k + 1) = nI e.2.1 ∧ σ.2.1 18 (4 * k + 2) = nI e.2.2.1 ∧ σ.2.1 18 (4 * k + 3) = nI e.2.2.2) ∧ e.1 < 2000000 ∧ e.2.1 < 2000000 ∧ e.2.2.1 < 2000000 ∧ e.2.2.2 < 2000000
def mW0 (σ : rv_S) (w : wW) : Prop := mRules σ w.S w.R ∧ mDeeds σ w.S w.D ∧ σ.2.1 1 3 = nI w.nr ∧ σ.2.1 1 4 = nI w.nd ∧ mTl σ w.T ∧ mFacts σ w.F ∧ mTags σ w.A ∧ σ.2.1 1 7 = nI w.g ∧ mStk σ w.K ∧ σ.2.1 1 9 = nI w.now ∧ σ.2.1 1 10 = nI w.E.length ∧ w.E.length ≤ 5000
def mW (σ : rv_S) (w : wW) : Prop := mW0 σ w ∧ mEnt σ w.E
theorem mW0.rules {σ : rv_S} {w : wW} (h : mW0 σ w) : mRules σ w.S w.R := h.1
theorem mW0.deeds {σ : rv_S} {w : wW} (h : mW0 σ w) : mDeeds σ w.S w.D := h.2.1
theorem mW0.rel {σ : rv_S} {w : wW} (h : mW0 σ w) : mRel σ w.S := h.1.1
theorem mW0.nr {σ : rv_S} {w : wW} (h : mW0 σ w) : σ.2.1 1 3 = nI w.nr := h.2.2.1
theorem mW0.nd {σ : rv_S} {w : wW} (h : mW0 σ w) : σ.2.1 1 4 = nI w.nd := h.2.2.2.1
theorem mW0.tl {σ : rv_S} {w : wW} (h : mW0 σ w) : mTl σ w.T := h.2.2.2.2.1
theorem mW0.facts {σ : rv_S} {w : wW} (h : mW0 σ w) : mFacts σ w.F := h.2.2.2.2.2.1
theorem mW0.tags {σ : rv_S} {w : wW} (h : mW0 σ w) : mTags σ w.A := h.2.2.2.2.2.2.1
theorem mW0.g {σ : rv_S} {w : wW} (h : mW0 σ w) : σ.2.1 1 7 = nI w.g := h.2.2.2.2.2.2.2.1
theorem mW0.stk {σ : rv_S} {w : wW} (h : mW0 σ w) : mStk σ w.K := h.2.2.2.2.2.2.2.2.1
theorem mW0.now {σ : rv_S} {w : wW} (h : mW0 σ w) : σ.2.1 1 9 = nI w.now := h.2.2.2.2.2.2.2.2.2.1
theorem mW0.fd {σ : rv_S} {w : wW} (h : mW0 σ w) : σ.2.1 1 10 = nI w.E.length ∧ w.E.length ≤ 5000 := h.2.2.2.2.2.2.2.2.2.2
theorem mW.mfd {σ : rv_S} {w : wW} (h : mW σ w) : mFd σ w.E := ⟨h.1.fd.1, h.1.fd.2, h.2⟩
/-- the draft in its place -/
def mDraft (σ : rv_S) (S : List Nat) (d : wDr) : Prop := σ.1 23 = nI d.k ∧ d.k ≤ 2 ∧ σ.2.1 10 16 = nI d.mod ∧ σ.2.1 11 16 = d.sal ∧ σ.2.1 12 16 = rv_z d.tells ∧ (d.k ≠ 0 → σ.2.1 4 16 = nI d.rel ∧ d.rel < S.length ∧ σ.2.1 6 16 = nI d.its.length ∧ d.its.length ≤ 6 ∧ σ.1 24 = nI d.typed ∧ (∀ k, k < 3 → σ.2.1 5 (48 + k) = nI (d.hts.getD k 0)) ∧ ∀ (i : Nat) (it : sp_I), d.its[i]? = some it → mItem σ 16 i it)
/-- transactions begun -/
def mBeg (σ : rv_S) (B : List wW) : Prop := σ.1 22 = nI B.length ∧ B.length ≤ 3 ∧ ∀ (i : Nat) (w : wW), B[i]? = some w → ∃ υ, mW0 υ w ∧ svIn υ σ i ∧ mEnt σ w.E
def mSt (σ : rv_S) (s : wS) : Prop := mW σ s.w ∧ mDraft σ s.w.S s.d ∧ mBeg σ s.b ∧ ∃ dep, mDep σ dep
/-- what a call of the reference leaves -/
def mRes (τ : rv_S) (r : Int32) (a : wA) : Prop := τ.1 0 = nI a.1 ∧ (a.1 = 0 → r = a.2.1) ∧ mSt τ a.2.2
/-! frames -/
theorem mEnt.same {fs js : List Nat} {σ τ : rv_S} {D : List (Nat × Nat × Nat × Nat)} (h : mEnt σ D) (hs : rv_same fs js σ τ) (h1 : 18 ∉ js) : mEnt τ D := fun k e he => by rw [hs.2.1 18 h1]; exact h k e he
theorem mTags.same {fs js : List Nat} {σ τ : rv_S} {A : List Nat} (h : mTags σ A) (hs : rv_same fs js σ τ) (h1 : 16 ∉ js) : mTags τ A := fun k t e => by rw [hs.2.1 16 h1]; exact h k t e
theorem mW0.same {fs js : List Nat} {σ τ : rv_S} {w : wW} (h : mW0 σ w) (hs : rv_same fs js σ τ) (h1 : ∀ j, j ∈ [1, 2, 3, 4, 5, 6, 7, 8, 9, 10, 11, 12, 13, 14, 15, 16, 17] → j ∉ js) : mW0 τ w := by
  have e1 := hs.2.1 1 (h1 1 (by decide))
  refine ⟨h.rules.same hs (fun j hj => h1 j (by revert j; decide)), h.deeds.same hs (fun j hj => h1 j (by revert j; decide)), by rw [e1]; exact h.nr, by rw [e1]; exact h.nd, h.tl.same2 hs (by rw [e1]) ⟨h1 13 (by decide), h1 14 (by decide)⟩, h.facts.same hs (h1 1 (by decide)) (h1 15 (by decide)), h.tags.same hs (h1 16 (by decide)), by rw [e1]; exact h.g, h.stk.same hs ⟨h1 1 (by decide), h1 17 (by decide)⟩, by rw [e1]; exact h.now, by rw [e1]; exact h.fd⟩
theorem mDraft.same {fs js : List Nat} {σ τ : rv_S} {S : List Nat} {d : wDr} (h : mDraft σ S d) (hs : rv_same fs js σ τ) (hf : 23 ∉ fs ∧ 24 ∉ fs) (h1 : ∀ j, j ∈ [4, 5, 6, 7, 8, 9, 10, 11, 12] → j ∉ js) : mDraft τ S d := by
  obtain ⟨a, b, c1, c2, c3, c4⟩ := h
  refine ⟨by rw [hs.1 23 hf.1]; exact a, b, by rw [hs.2.1 10 (h1 10 (by decide))]; exact c1, by rw [hs.2.1 11 (h1 11 (by decide))]; exact c2, by rw [hs.2.1 12 (h1 12 (by decide))]; exact c3, fun hk => ?_⟩
  obtain ⟨d1, d2, d3, d4, d5, d6, d7⟩ := c4 hk
  exact ⟨by rw [hs.2.1 4 (h1 4 (by decide))]; exact d1, d2, by rw [hs.2.1 6 (h1 6 (by decide))]; exact d3, d4, by rw [hs.1 24 hf.2]; exact d5, fun k hk => by rw [hs.2.1 5 (h1 5 (by decide))]; exact d6 k hk, fun i it e => (d7 i it e).same hs (h1 7 (by decide)) (h1 8 (by decide)) (h1 9 (by decide))⟩
theorem svIn.same {fs js : List Nat} {υ σ τ : rv_S} {w : Nat} (h : svIn υ σ w) (hs : rv_same fs js σ τ) (h1 : 19 ∉ js ∧ 20 ∉ js ∧ 21 ∉ js) : svIn υ τ w := ⟨fun i hi => by rw [hs.2.1 19 h1.1]; exact h.1 i hi, fun e he i hi => by rw [hs.2.1 20 h1.2.1]; exact h.2.1 e he i hi, fun e he i hi => by rw [hs.2.1 21 h1.2.2]; exact h.2.2 e he i hi⟩
theorem mBeg.same {fs js : List Nat} {σ τ : rv_S} {B : List wW} (h : mBeg σ B) (hs : rv_same fs js σ τ) (hf : 22 ∉ fs) (h1 : ∀ j, j ∈ [18, 19, 20, 21] → j ∉ js) : mBeg τ B := ⟨by rw [hs.1 22 hf]; exact h.1, h.2.1, fun i w e => by
  obtain ⟨υ, a, b, c⟩ := h.2.2 i w e
  exact ⟨υ, a, b.same hs ⟨h1 19 (by decide), h1 20 (by decide), h1 21 (by decide)⟩, c.same hs (h1 18 (by decide))⟩⟩
theorem mSt.same {fs js : List Nat} {σ τ : rv_S} {s : wS} (h : mSt σ s) (hs : rv_same fs js σ τ) (hf : ∀ f, f ∈ [22, 23, 24] → f ∉ fs) (h1 : ∀ j, j ∈ [1, 2, 3, 4, 5, 6, 7, 8, 9, 10, 11, 12, 13, 14, 15, 16, 17, 18, 19, 20, 21] → j ∉ js) (hd : ∃ dep, mDep τ dep) : mSt τ s := ⟨⟨h.1.1.same hs (fun j hj => h1 j (by revert j; decide)), h.1.2.same hs (h1 18 (by decide))⟩, h.2.1.same hs ⟨hf 23 (by decide), hf 24 (by decide)⟩ (fun j hj => h1 j (by revert j; decide)), h.2.2.1.same hs (hf 22 (by decide)) (fun j hj => h1 j (by revert j; decide)), hd⟩
theorem mSt.thrown {σ : rv_S} {s : wS} (h : mSt σ s) (v : Int32) : mSt (rv_sF σ 0 v) s := by
  obtain ⟨dep, hd⟩ := h.2.2.2
  exact h.same (fs := [0]) (js := []) (.f (by decide)) (by decide) (by decide) ⟨dep, hd⟩
/-! what is sound -/
def sp_nat (C : sp_C) : Nat := (C.its.filter (fun it => it.1 == 0)).length
def sp_pat (C : sp_C) (e : Nat × Nat × Nat × Nat) : Prop := (1 ≤ sp_nat C ↔ e.2.1 ≠ 0) ∧ (2 ≤ sp_nat C ↔ e.2.2.1 ≠ 0) ∧ (3 ≤ sp_nat C ↔ e.2.2.2 ≠ 0)
/-- a world after N calls -/
def wfW (N : Nat) (w : wW) : Prop :=
  (w.S.length ≤ 8 ∧ ∀ n, n ∈ w.S → 1 ≤ n ∧ n ≤ 3) ∧
  (w.R.length ≤ 10 ∧ (∀ C, C ∈ w.R → sp_wfC w.S C ∧ C.num < w.nr) ∧ (w.R.map (fun C => C.num)).Nodup ∧ w.nr ≤ N) ∧
  (w.D.length ≤ 6 ∧ (∀ C, C ∈ w.D → sp_wfC w.S C ∧ C.num < w.nd ∧ C.gath = none) ∧ (w.D.map (fun C => C.num)).Nodup ∧ w.nd ≤ N) ∧
  (w.kT.Nodup ∧ ∀ p, p ∈ w.T → sp_faultN w.S p.1 = 0 ∧ p.2 ≤ 20 * N + 100) ∧
  sp_set w.R w.kT = some w.F ∧
  (w.A.length = w.F.length ∧ w.A.Nodup ∧ (∀ t, t ∈ w.A → 1 ≤ t ∧ t ≤ w.g) ∧ w.g ≤ 1200 * N) ∧
  (1 ≤ w.K.length ∧ w.K.length ≤ 8 ∧ ∀ m, m ∈ w.K → m < 4) ∧ w.now ≤ 20 * N ∧
  (w.E.length ≤ 10 * N ∧ ∀ e, e ∈ w.E → e.1 < w.nd ∧ e.2.1 ≤ w.g ∧ e.2.2.1 ≤ w.g ∧ e.2.2.2 ≤ w.g ∧ ∀ C, C ∈ w.D → C.num = e.1 → sp_pat C e)
/-- an item that is typed, perhaps not whole -/
def sp_pre (S : List Nat) (it : sp_I) : Prop := it.1 ≤ 3 ∧ (it.1 ≤ 1 → it.2.1 < S.length) ∧ (it.1 = 2 → it.2.1 ≤ 2) ∧ (it.1 = 3 → it.2.1 = 0) ∧ it.2.2.length ≤ sp_tof S it ∧ ∀ t, t ∈ it.2.2 → t < 108
def wfD (S : List Nat) (d : wDr) : Prop := d.k ≤ 2 ∧ d.mod < 4 ∧ (-10 ≤ d.sal.toInt ∧ d.sal.toInt ≤ 10) ∧ (d.k ≠ 0 → d.rel < S.length ∧ d.hts.length ≤ S.getD d.rel 0 ∧ sp_wfH d.hts ∧ (d.k = 2 → ∀ t, t ∈ d.hts → t < 200) ∧ d.its.length ≤ 6 ∧ (d.its.filter (fun it => it.1 == 0)).length ≤ 3 ∧ (d.its ≠ [] → d.hts.length = S.getD d.rel 0) ∧ (∀ it, it ∈ d.its → sp_pre S it) ∧ ∀ it, it ∈ d.its.dropLast → it.2.2.length = sp_tof S it)
def wfS (N : Nat) (s : wS) : Prop := wfW N s.w ∧ wfD s.w.S s.d ∧ s.b.length ≤ 3 ∧ (∀ w, w ∈ s.b → wfW N w) ∧ (∀ w, w ∈ s.b → w.E.length ≤ s.w.E.length) ∧ ∀ (i j : Nat) (w v : wW), i ≤ j → s.b[i]? = some w → s.b[j]? = some v → w.E.length ≤ v.E.length
theorem wfW.S {N : Nat} {w : wW} (h : wfW N w) : w.S.length ≤ 8 ∧ ∀ n, n ∈ w.S → 1 ≤ n ∧ n ≤ 3 := h.1
theorem wfW.R {N : Nat} {w : wW} (h : wfW N w) : w.R.length ≤ 10 ∧ (∀ C, C ∈ w.R → sp_wfC w.S C ∧ C.num < w.nr) ∧ (w.R.map (fun C => C.num)).Nodup ∧ w.nr ≤ N := h.2.1
theorem wfW.D {N : Nat} {w : wW} (h : wfW N w) : w.D.length ≤ 6 ∧ (∀ C, C ∈ w.D → sp_wfC w.S C ∧ C.num < w.nd ∧ C.gath = none) ∧ (w.D.map (fun C => C.num)).Nodup ∧ w.nd ≤ N := h.2.2.1
theorem wfW.T {N : Nat} {w : wW} (h : wfW N w) : w.kT.Nodup ∧ ∀ p, p ∈ w.T → sp_faultN w.S p.1 = 0 ∧ p.2 ≤ 20 * N + 100 := h.2.2.2.1
theorem wfW.set {N : Nat} {w : wW} (h : wfW N w) : sp_set w.R w.kT = some w.F := h.2.2.2.2.1
theorem wfW.A {N : Nat} {w : wW} (h : wfW N w) : w.A.length = w.F.length ∧ w.A.Nodup ∧ (∀ t, t ∈ w.A → 1 ≤ t ∧ t ≤ w.g) ∧ w.g ≤ 1200 * N := h.2.2.2.2.2.1
theorem wfW.K {N : Nat} {w : wW} (h : wfW N w) : 1 ≤ w.K.length ∧ w.K.length ≤ 8 ∧ ∀ m, m ∈ w.K → m < 4 := h.2.2.2.2.2.2.1
theorem wfW.now {N : Nat} {w : wW} (h : wfW N w) : w.now ≤ 20 * N := h.2.2.2.2.2.2.2.1
theorem wfW.E {N : Nat} {w : wW} (h : wfW N w) : w.E.length ≤ 10 * N ∧ ∀ e, e ∈ w.E → e.1 < w.nd ∧ e.2.1 ≤ w.g ∧ e.2.2.1 ≤ w.g ∧ e.2.2.2 ≤ w.g ∧ ∀ C, C ∈ w.D → C.num = e.1 → sp_pat C e := h.2.2.2.2.2.2.2.2
/-- closed, sorted, short -/
theorem sp_chain_srt {R : List sp_C} {st : Nat → Nat} {F : List Nat} (h : sp_srt F ∧ F.length ≤ 60) : ∀ {n : Nat} {G : List Nat}, sp_chain R st n F G → sp_srt G ∧ G.length ≤ 60 := by
  intro n
  cases n with
  | zero => intro G hG; have e : G = F := hG; rw [e]; exact h
  | succ n =>
    intro G hG
    obtain ⟨H, -, h2⟩ := hG
    exact ⟨h2.1.1, h2.2.1⟩
theorem sp_stl_srt {R : List sp_C} {st : Nat → Nat} {T G : List Nat} (h : sp_stl R st T G) : sp_srt G ∧ G.length ≤ 60 := by
  obtain ⟨F, h1, h2, -, h4⟩ := h
  exact sp_chain_srt ⟨h1, h2⟩ h4
theorem wfW.F60 {N : Nat} {w : wW} (h : wfW N w) : sp_srt w.F ∧ w.F.length ≤ 60 := by
  obtain ⟨st, -, h2⟩ := sp_set_spec h.set
  exact sp_stl_srt h2
