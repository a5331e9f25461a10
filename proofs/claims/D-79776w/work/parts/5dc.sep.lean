/-! THE SYSTEM'S SIDE: frozen cells F, own cells M, what a walk has left of the room -/
set_option maxRecDepth 100000
abbrev xF : Type := Nat → Option rv_C
abbrev xM : Type := List (Nat × rv_C)
/-- a frozen cell, or one of the start -/
def xr (G : rv_G) (F : xF) (a : Nat) (c : rv_C) : Prop := F a = some c ∨ rv_old G a c
def xad (M : xM) : List Nat := M.map (fun q => q.1)
/-- the heap holds the frozen cells and the own ones; n cells and m slots may still be made -/
def xH (G : rv_G) (F : xF) (M : xM) (n m : Nat) (h : rv_H) : Prop :=
  (∀ a c, F a = some c → h.1 a = some c ∧ rv_k6 c) ∧ (∀ q, q ∈ M → h.1 q.1 = some q.2 ∧ rv_k6 q.2 ∧ F q.1 = none) ∧ (xad M).Nodup ∧ (rv_b G ≤ h.2.1 ∧ ∀ a c, h.1 a = some c → rv_b G ≤ a ∧ a < h.2.1) ∧ h.2.1 + n ≤ rv_b G + rv_cN ∧ h.2.2 + m ≤ rv_cS
/-- old cells outside A are as they were -/
def xfr (h0 h : rv_H) (A : List Nat) : Prop := h0.2.1 ≤ h.2.1 ∧ ∀ b, b < h0.2.1 → b ∉ A → h.1 b = h0.1 b
/-- a walk's state: begun at h0 with own cells A -/
def xS (G : rv_G) (F : xF) (h0 : rv_H) (A : List Nat) (M : xM) (n m : Nat) (h : rv_H) : Prop := xH G F M n m h ∧ xfr h0 h A ∧ ∀ q, q ∈ M → q.1 ∈ A ∨ h0.2.1 ≤ q.1
/-- more is frozen: own cells and new ones -/
def xle (F F1 : xF) (h : rv_H) (A : List Nat) : Prop := (∀ a c, F a = some c → F1 a = some c) ∧ ∀ a c, F1 a = some c → F a = some c ∨ a ∈ A ∨ h.2.1 ≤ a
theorem xfr.rf {h : rv_H} {A : List Nat} : xfr h h A := ⟨Nat.le_refl _, fun _ _ _ => rfl⟩
theorem xfr.tr {h0 h h' : rv_H} {A B : List Nat} (f : xfr h0 h A) (g : xfr h h' B) (hB : ∀ b, b ∈ B → b ∈ A ∨ h0.2.1 ≤ b) : xfr h0 h' A := by
  refine ⟨Nat.le_trans f.1 g.1, fun b hb hn => ?_⟩
  rw [g.2 b (Nat.lt_of_lt_of_le hb f.1) (fun q => (hB b q).elim hn (fun q => absurd hb (Nat.not_lt.mpr q))), f.2 b hb hn]
theorem xfr.mn {h0 h : rv_H} {A B : List Nat} (f : xfr h0 h A) (hB : ∀ b, b ∈ A → b ∈ B) : xfr h0 h B := ⟨f.1, fun b hb hn => f.2 b hb (fun q => hn (hB b q))⟩
theorem xle.rf {F : xF} {h : rv_H} {A : List Nat} : xle F F h A := ⟨fun _ _ q => q, fun _ _ q => Or.inl q⟩
theorem xle.tr {F F1 F2 : xF} {h h1 : rv_H} {A B : List Nat} (f : xle F F1 h A) (g : xle F1 F2 h1 B) (hh : h.2.1 ≤ h1.2.1) (hB : ∀ b, b ∈ B → b ∈ A ∨ h.2.1 ≤ b) : xle F F2 h A := by
  refine ⟨fun a c q => g.1 a c (f.1 a c q), fun a c q => ?_⟩
  rcases g.2 a c q with q | q | q
  · exact f.2 a c q
  · exact Or.inr (hB a q)
  · exact Or.inr (Or.inr (Nat.le_trans hh q))
theorem xle.xr {F F1 : xF} {h : rv_H} {A : List Nat} {G : rv_G} (f : xle F F1 h A) {a : Nat} {c : rv_C} (q : xr G F a c) : xr G F1 a c := q.elim (fun q => Or.inl (f.1 a c q)) Or.inr
section XS
variable {G : rv_G} {F F1 : xF} {h0 h h' : rv_H} {A : List Nat} {M P P' Z W : xM} {n m n' m' : Nat}
theorem xH.start (hH : xH G F M n m h) : xS G F h (xad M) M n m h := ⟨hH, .rf, fun q hq => Or.inl (List.mem_map.mpr ⟨q, hq, rfl⟩)⟩
theorem xH.f (hH : xH G F M n m h) {a : Nat} {c : rv_C} (q : xr G F a c) : rv_rd G h a c := q.elim (fun q => Or.inl ⟨(hH.1 a c q).2, (hH.1 a c q).1⟩) Or.inr
theorem xH.mg (hH : xH G F M n m h) {k a : Nat} {c : rv_C} (hk : M[k]? = some (a, c)) : h.1 a = some c := (hH.2.1 _ (List.mem_of_getElem? hk)).1
theorem xH.mc (hH : xH G F M n m h) {k a : Nat} {c : rv_C} (hk : M[k]? = some (a, c)) : rv_rd G h a c := Or.inl ⟨(hH.2.1 _ (List.mem_of_getElem? hk)).2.1, hH.mg hk⟩
theorem xS.f (hS : xS G F h0 A M n m h) {a : Nat} {c : rv_C} (q : xr G F a c) : rv_rd G h a c := hS.1.f q
theorem xS.mc (hS : xS G F h0 A M n m h) {k a : Nat} {c : rv_C} (hk : M[k]? = some (a, c)) : rv_rd G h a c := hS.1.mc hk
theorem xS.mg (hS : xS G F h0 A M n m h) {k a : Nat} {c : rv_C} (hk : M[k]? = some (a, c)) : h.1 a = some c := hS.1.mg hk
theorem xH.bud (hH : xH G F M n m h) (hn : n' ≤ n) (hm : m' ≤ m) : xH G F M n' m' h := ⟨hH.1, hH.2.1, hH.2.2.1, hH.2.2.2.1, by have := hH.2.2.2.2.1; omega, by have := hH.2.2.2.2.2; omega⟩
theorem xS.bud (hS : xS G F h0 A M n m h) (hn : n' ≤ n) (hm : m' ≤ m) : xS G F h0 A M n' m' h := ⟨hS.1.bud hn hm, hS.2⟩
theorem xH.cN (hH : xH G F M n m h) (hn : 1 ≤ n) : h.2.1 + 1 ≤ rv_b G + rv_cN := by have := hH.2.2.2.2.1; omega
theorem xH.cS (hH : xH G F M n m h) {z : Nat} (hz : z ≤ m) : h.2.2 + z ≤ rv_cS := by have := hH.2.2.2.2.2; omega
theorem xH.fresh (hH : xH G F M n m h) : F h.2.1 = none ∧ h.2.1 ∉ xad M := by
  refine ⟨?_, fun q => ?_⟩
  · cases e : F h.2.1 with
    | none => rfl
    | some c => exact absurd (hH.2.2.2.1.2 _ _ (hH.1 _ _ e).1).2 (Nat.lt_irrefl _)
  · obtain ⟨x, hx, e⟩ := List.mem_map.mp q
    have := (hH.2.2.2.1.2 _ _ (hH.2.1 x hx).1).2
    rw [e] at this
    exact Nat.lt_irrefl _ this
theorem xad_set {M : xM} {k a : Nat} {c c1 : rv_C} (hk : M[k]? = some (a, c)) : xad (M.set k (a, c1)) = xad M := by
  unfold xad
  apply List.ext_getElem?
  intro i
  rw [List.getElem?_map, List.getElem?_map, List.getElem?_set]
  by_cases e : k = i
  · subst e
    rw [if_pos rfl, if_pos (List.getElem?_eq_some_iff.mp hk).1, hk]
    rfl
  · rw [if_neg e]
theorem xad_at {M : xM} {k a : Nat} {c : rv_C} (hk : M[k]? = some (a, c)) : (xad M)[k]? = some a := by
  unfold xad
  rw [List.getElem?_map, hk]
  rfl
theorem xH.put (hH : xH G F M n m h) {k a : Nat} {c c1 : rv_C} (hk : M[k]? = some (a, c)) (h6 : rv_k6 c1) : xH G F (M.set k (a, c1)) n m (rv_put h a c1) := by
  obtain ⟨q1, q2, q3, q4, q5, q6⟩ := hH
  have ha := q2 _ (List.mem_of_getElem? hk)
  have hF : F a = none := ha.2.2
  refine ⟨fun b x e => ⟨?_, (q1 b x e).2⟩, fun q hq => ?_, by rw [xad_set hk]; exact q3, ⟨q4.1, fun b x e => ?_⟩, q5, q6⟩
  · have hb : b ≠ a := fun e2 => by rw [e2, hF] at e; cases e
    exact (rv_put_ne hb).trans (q1 b x e).1
  · obtain ⟨i, hi⟩ := List.mem_iff_getElem?.mp hq
    rw [List.getElem?_set] at hi
    by_cases e : k = i
    · rw [if_pos e] at hi
      split at hi
      · cases hi
        exact ⟨rv_put_eq, h6, hF⟩
      · cases hi
    · rw [if_neg e] at hi
      obtain ⟨r1, r2, r3⟩ := q2 q (List.mem_of_getElem? hi)
      have hb : q.1 ≠ a := fun e2 => e (sp_nd_inj q3 (x := a) (xad_at hk) (by rw [← e2]; exact xad_at hi))
      exact ⟨(rv_put_ne hb).trans r1, r2, r3⟩
  · by_cases hb : b = a
    · rw [hb]
      exact q4.2 a _ ha.1
    · exact q4.2 b x ((rv_put_ne hb).symm.trans e)
theorem xS.put (hS : xS G F h0 A M n m h) {k a : Nat} {c c1 : rv_C} (hk : M[k]? = some (a, c)) (h6 : rv_k6 c1) : xS G F h0 A (M.set k (a, c1)) n m (rv_put h a c1) := by
  obtain ⟨hH, hf, hc⟩ := hS
  have ha : a ∈ A ∨ h0.2.1 ≤ a := hc _ (List.mem_of_getElem? hk)
  refine ⟨hH.put hk h6, ⟨hf.1, fun b hb hn => ?_⟩, fun q hq => ?_⟩
  · have e : b ≠ a := fun e => ha.elim (fun q => hn (e ▸ q)) (fun q => absurd hb (Nat.not_lt.mpr (e ▸ q)))
    exact (rv_put_ne e).trans (hf.2 b hb hn)
  · obtain ⟨i, hi⟩ := List.mem_iff_getElem?.mp hq
    rw [List.getElem?_set] at hi
    split at hi
    · split at hi
      · cases hi
        exact ha
      · cases hi
    · exact hc q (List.mem_of_getElem? hi)
theorem xad_app {M N : xM} : xad (M ++ N) = xad M ++ xad N := List.map_append
theorem rv_add_ne {h : rv_H} {c : rv_C} {z b : Nat} (hb : b ≠ h.2.1) : (rv_add h c z).1 b = h.1 b := if_neg hb
theorem rv_add_eq {h : rv_H} {c : rv_C} {z : Nat} : (rv_add h c z).1 h.2.1 = some c := if_pos rfl
theorem xS.add (hS : xS G F h0 A M n m h) {c : rv_C} {z : Nat} (hn : 1 ≤ n) (hz : z ≤ m) (h6 : rv_k6 c) : xS G F h0 A (M ++ [(h.2.1, c)]) (n - 1) (m - z) (rv_add h c z) := by
  obtain ⟨hH, hf, hc⟩ := hS
  obtain ⟨g1, g2⟩ := hH.fresh
  obtain ⟨q1, q2, q3, q4, q5, q6⟩ := hH
  have hlt : ∀ b x, h.1 b = some x → b ≠ h.2.1 := fun b x e => Nat.ne_of_lt (q4.2 b x e).2
  refine ⟨⟨fun b x e => ⟨(rv_add_ne (hlt b x (q1 b x e).1)).trans (q1 b x e).1, (q1 b x e).2⟩, fun q hq => ?_, ?_, ⟨Nat.le_succ_of_le q4.1, fun b x e => ?_⟩, ?_, ?_⟩, ⟨Nat.le_trans hf.1 (Nat.le_succ _), fun b hb hn => (rv_add_ne (Nat.ne_of_lt (Nat.lt_of_lt_of_le hb hf.1))).trans (hf.2 b hb hn)⟩, fun q hq => ?_⟩
  · rcases List.mem_append.mp hq with hq | hq
    · exact ⟨(rv_add_ne (hlt _ _ (q2 q hq).1)).trans (q2 q hq).1, (q2 q hq).2⟩
    · rw [List.mem_singleton.mp hq]
      exact ⟨rv_add_eq, h6, g1⟩
  · rw [xad_app]
    exact sp_nd_snoc q3 g2
  · by_cases hb : b = h.2.1
    · subst hb
      exact ⟨q4.1, Nat.lt_succ_self _⟩
    · have := q4.2 b x ((rv_add_ne hb).symm.trans e)
      exact ⟨this.1, Nat.lt_succ_of_lt this.2⟩
  · show h.2.1 + 1 + (n - 1) ≤ _
    omega
  · show h.2.2 + z + (m - z) ≤ _
    omega
  · rcases List.mem_append.mp hq with hq | hq
    · exact hc q hq
    · rw [List.mem_singleton.mp hq]
      exact Or.inr hf.1
/-! a call: P what the callee gets, Z what is frozen for it, W the rest -/
def xfz (F : xF) (Z : xM) : xF := fun a => match Z.find? (fun q => q.1 == a) with
  | some q => some q.2
  | none => F a
theorem xfz_mem (hd : (xad Z).Nodup) {a : Nat} {c : rv_C} (hq : (a, c) ∈ Z) : xfz F Z a = some c := by
  unfold xfz
  cases e : Z.find? (fun q => q.1 == a) with
  | none =>
    have := List.find?_eq_none.mp e _ hq
    simp at this
  | some q =>
    have h1 := List.mem_of_find?_eq_some e
    have h2 := beq_iff_eq.mp (List.find?_some (p := fun q : Nat × rv_C => q.1 == a) e)
    obtain ⟨i, hi⟩ := List.mem_iff_getElem?.mp h1
    obtain ⟨j, hj⟩ := List.mem_iff_getElem?.mp hq
    have e1 : (xad Z)[i]? = some a := by unfold xad; rw [List.getElem?_map, hi]; exact congrArg some h2
    have e2 := sp_nd_inj hd e1 (xad_at hj)
    subst e2
    rw [hi] at hj
    cases hj
    rfl
theorem xfz_ne {a : Nat} (hq : a ∉ xad Z) : xfz F Z a = F a := by
  unfold xfz
  cases e : Z.find? (fun q => q.1 == a) with
  | none => rfl
  | some q => exact absurd (List.mem_map.mpr ⟨q, List.mem_of_find?_eq_some e, beq_iff_eq.mp (List.find?_some (p := fun q : Nat × rv_C => q.1 == a) e)⟩) hq
theorem xfz_nil : xfz F [] = F := rfl
theorem xad_perm {M N : xM} (hp : M.Perm N) : (xad M).Perm (xad N) := hp.map _
theorem xfz_some (hd : (xad Z).Nodup) {a : Nat} {c : rv_C} (e : xfz F Z a = some c) : (a, c) ∈ Z ∨ (a ∉ xad Z ∧ F a = some c) := by
  by_cases ha : a ∈ xad Z
  · obtain ⟨⟨b, x⟩, hx, e2⟩ := List.mem_map.mp ha
    cases e2
    rw [xfz_mem hd hx] at e
    cases e
    exact Or.inl hx
  · rw [xfz_ne ha] at e
    exact Or.inr ⟨ha, e⟩
theorem xS.frz (hS : xS G F h0 A M n m h) (hp : M.Perm (Z ++ W)) : xS G (xfz F Z) h0 A W n m h ∧ xle F (xfz F Z) h0 A := by
  obtain ⟨⟨q1, q2, q3, q4⟩, hf, hc⟩ := hS
  have hd : (xad Z ++ xad W).Nodup := by rw [← xad_app]; exact (xad_perm hp).nodup_iff.mp q3
  obtain ⟨d1, d2, d3⟩ := List.nodup_append.mp hd
  have hz : ∀ q, q ∈ Z → q ∈ M := fun q hq => hp.mem_iff.mpr (List.mem_append_left _ hq)
  have hw : ∀ q, q ∈ W → q ∈ M := fun q hq => hp.mem_iff.mpr (List.mem_append_right _ hq)
  refine ⟨⟨⟨fun a c e => ?_, fun q hq => ?_, d2, q4⟩, hf, fun q hq => hc q (hw q hq)⟩, fun a c e => ?_, fun a c e => ?_⟩
  · rcases xfz_some d1 e with e | ⟨-, e⟩
    · exact ⟨(q2 _ (hz _ e)).1, (q2 _ (hz _ e)).2.1⟩
    · exact q1 a c e
  · obtain ⟨r1, r2, r3⟩ := q2 q (hw q hq)
    refine ⟨r1, r2, ?_⟩
    rw [xfz_ne (fun e => d3 _ e _ (List.mem_map.mpr ⟨q, hq, rfl⟩) rfl)]
    exact r3
  · rw [xfz_ne (fun hz2 => ?_)]
    · exact e
    · obtain ⟨x, hx, ex⟩ := List.mem_map.mp hz2
      have := (q2 x (hz x hx)).2.2
      rw [ex, e] at this
      cases this
  · rcases xfz_some d1 e with e | ⟨-, e⟩
    · exact Or.inr (hc _ (hz _ e))
    · exact Or.inl e
theorem xS.pre (hS : xS G F h0 A M n m h) (hp : M.Perm (Z ++ (P ++ W))) : xH G (xfz F Z) P n m h := by
  obtain ⟨⟨⟨q1, q2, q3, q4⟩, -⟩, -⟩ := hS.frz hp
  rw [xad_app] at q3
  exact ⟨q1, fun q hq => q2 q (List.mem_append_left _ hq), (List.nodup_append.mp q3).1, q4⟩
theorem xS.mem_lt (hS : xS G F h0 A M n m h) {q : Nat × rv_C} (hq : q ∈ M) : q.1 < h.2.1 := (hS.1.2.2.2.1.2 _ _ (hS.1.2.1 q hq).1).2
/-- behind a call that leaves F alone -/
theorem xS.post (hS : xS G F h0 A M n m h) (hp : M.Perm (Z ++ (P ++ W))) (hQ : xS G (xfz F Z) h (xad P) P' n' m' h') : xS G F h0 A (Z ++ (P' ++ W)) n' m' h' := by
  have hfz := hS.frz hp
  obtain ⟨⟨q1, q2, q3, q4⟩, hf, hc⟩ := hS
  have hlt : ∀ q, q ∈ M → q.1 < h.2.1 := fun q hq => (q4.1.2 _ _ (q2 q hq).1).2
  have hd : (xad Z ++ (xad P ++ xad W)).Nodup := by rw [← xad_app, ← xad_app]; exact (xad_perm hp).nodup_iff.mp q3
  obtain ⟨d1, d2, d3⟩ := List.nodup_append.mp hd
  obtain ⟨d4, d5, d6⟩ := List.nodup_append.mp d2
  have hz : ∀ q, q ∈ Z → q ∈ M := fun q hq => hp.mem_iff.mpr (List.mem_append_left _ hq)
  have hpm : ∀ q, q ∈ P → q ∈ M := fun q hq => hp.mem_iff.mpr (List.mem_append_right _ (List.mem_append_left _ hq))
  have hw : ∀ q, q ∈ W → q ∈ M := fun q hq => hp.mem_iff.mpr (List.mem_append_right _ (List.mem_append_right _ hq))
  obtain ⟨⟨r1, r2, r3, r4⟩, hf', hc'⟩ := hQ
  have ad : ∀ (q : Nat × rv_C) (N : xM), q ∈ N → q.1 ∈ xad N := fun q N hq => List.mem_map.mpr ⟨q, hq, rfl⟩
  have hP' : ∀ x, x ∈ xad P' → x ∈ xad P ∨ h.2.1 ≤ x := fun x hx => by
    obtain ⟨q, hq, rfl⟩ := List.mem_map.mp hx
    exact hc' q hq
  have hPA : ∀ x, x ∈ xad P → x ∈ A ∨ h0.2.1 ≤ x := fun x hx => by
    obtain ⟨q, hq, rfl⟩ := List.mem_map.mp hx
    exact hc q (hpm q hq)
  have hFz : ∀ a c, F a = some c → xfz F Z a = some c := hfz.2.1
  refine ⟨⟨fun a c e => r1 a c (hFz a c e), fun q hq => ?_, ?_, r4⟩, hf.tr hf' hPA, fun q hq => ?_⟩
  · rcases List.mem_append.mp hq with hq | hq
    · obtain ⟨k1, k2, k3⟩ := q2 q (hz q hq)
      exact ⟨(r1 q.1 q.2 (xfz_mem d1 hq)).1, k2, k3⟩
    · rcases List.mem_append.mp hq with hq | hq
      · obtain ⟨k1, k2, k3⟩ := r2 q hq
        refine ⟨k1, k2, ?_⟩
        cases e : F q.1 with
        | none => rfl
        | some c => rw [hFz _ _ e] at k3; cases k3
      · obtain ⟨k1, k2, k3⟩ := q2 q (hw q hq)
        exact ⟨(hf'.2 q.1 (hlt q (hw q hq)) (fun e => d6 _ e _ (ad q W hq) rfl)).trans k1, k2, k3⟩
  · rw [xad_app, xad_app]
    refine List.nodup_append.mpr ⟨d1, List.nodup_append.mpr ⟨r3, d5, fun x hx y hy e => ?_⟩, fun x hx y hy e => ?_⟩
    · subst e
      rcases hP' x hx with hx | hx
      · exact d6 x hx x hy rfl
      · obtain ⟨q, hq, rfl⟩ := List.mem_map.mp hy
        exact absurd (hlt q (hw q hq)) (Nat.not_lt.mpr hx)
    · subst e
      rcases List.mem_append.mp hy with hy | hy
      · rcases hP' x hy with hy | hy
        · exact d3 x hx x (List.mem_append_left _ hy) rfl
        · obtain ⟨q, hq, rfl⟩ := List.mem_map.mp hx
          exact absurd (hlt q (hz q hq)) (Nat.not_lt.mpr hy)
      · exact d3 x hx x (List.mem_append_right _ hy) rfl
  · rcases List.mem_append.mp hq with hq | hq
    · exact hc q (hz q hq)
    · rcases List.mem_append.mp hq with hq | hq
      · rcases hc' q hq with e | e
        · exact hPA _ e
        · exact Or.inr (Nat.le_trans hf.1 e)
      · exact hc q (hw q hq)
/-- behind a call that freezes more -/
theorem xS.postE (hS : xS G F h0 A M n m h) (hp : M.Perm (P ++ W)) (hQ : xS G F1 h (xad P) P' n' m' h') (hle : xle F F1 h (xad P)) : xS G F1 h0 A (P' ++ W) n' m' h' ∧ ∀ F0, xle F0 F h0 A → xle F0 F1 h0 A := by
  obtain ⟨⟨q1, q2, q3, q4⟩, hf, hc⟩ := hS
  have hlt : ∀ q, q ∈ M → q.1 < h.2.1 := fun q hq => (q4.1.2 _ _ (q2 q hq).1).2
  have d2 : (xad P ++ xad W).Nodup := by rw [← xad_app]; exact (xad_perm hp).nodup_iff.mp q3
  obtain ⟨d4, d5, d6⟩ := List.nodup_append.mp d2
  have hpm : ∀ q, q ∈ P → q ∈ M := fun q hq => hp.mem_iff.mpr (List.mem_append_left _ hq)
  have hw : ∀ q, q ∈ W → q ∈ M := fun q hq => hp.mem_iff.mpr (List.mem_append_right _ hq)
  obtain ⟨⟨r1, r2, r3, r4⟩, hf', hc'⟩ := hQ
  have ad : ∀ (q : Nat × rv_C) (N : xM), q ∈ N → q.1 ∈ xad N := fun q N hq => List.mem_map.mpr ⟨q, hq, rfl⟩
  have hP' : ∀ x, x ∈ xad P' → x ∈ xad P ∨ h.2.1 ≤ x := fun x hx => by
    obtain ⟨q, hq, rfl⟩ := List.mem_map.mp hx
    exact hc' q hq
  have hPA : ∀ x, x ∈ xad P → x ∈ A ∨ h0.2.1 ≤ x := fun x hx => by
    obtain ⟨q, hq, rfl⟩ := List.mem_map.mp hx
    exact hc q (hpm q hq)
  refine ⟨⟨⟨r1, fun q hq => ?_, ?_, r4⟩, hf.tr hf' hPA, fun q hq => ?_⟩, fun F0 hl => hl.tr hle hf.1 hPA⟩
  · rcases List.mem_append.mp hq with hq | hq
    · exact r2 q hq
    · obtain ⟨k1, k2, k3⟩ := q2 q (hw q hq)
      refine ⟨(hf'.2 q.1 (hlt q (hw q hq)) (fun e => d6 _ e _ (ad q W hq) rfl)).trans k1, k2, ?_⟩
      cases e : F1 q.1 with
      | none => rfl
      | some c =>
        rcases hle.2 _ _ e with e | e | e
        · rw [k3] at e
          cases e
        · exact absurd rfl (d6 _ e _ (ad q W hq))
        · exact absurd (hlt q (hw q hq)) (Nat.not_lt.mpr e)
  · rw [xad_app]
    refine List.nodup_append.mpr ⟨r3, d5, fun x hx y hy e => ?_⟩
    subst e
    rcases hP' x hx with hx | hx
    · exact d6 x hx x hy rfl
    · obtain ⟨q, hq, rfl⟩ := List.mem_map.mp hy
      exact absurd (hlt q (hw q hq)) (Nat.not_lt.mpr hx)
  · rcases List.mem_append.mp hq with hq | hq
    · rcases hc' q hq with e | e
      · exact hPA _ e
      · exact Or.inr (Nat.le_trans hf.1 e)
    · exact hc q (hw q hq)
/-- own cells in another order -/
theorem xS.perm (hS : xS G F h0 A M n m h) (hp : M.Perm W) : xS G F h0 A W n m h := ⟨⟨hS.1.1, fun q hq => hS.1.2.1 q (hp.mem_iff.mpr hq), (xad_perm hp).nodup_iff.mp hS.1.2.2.1, hS.1.2.2.2⟩, hS.2.1, fun q hq => hS.2.2 q (hp.mem_iff.mpr hq)⟩
/-- own cells forgotten -/
theorem xS.drop (hS : xS G F h0 A M n m h) (hp : W.Sublist M) : xS G F h0 A W n m h := ⟨⟨hS.1.1, fun q hq => hS.1.2.1 q (hp.mem hq), hS.1.2.2.1.sublist (hp.map _), hS.1.2.2.2⟩, hS.2.1, fun q hq => hS.2.2 q (hp.mem hq)⟩
/-! places: 0 stays, 1 the callee gets it, 2 is frozen for it; d: what comes behind -/
def xPa (k d : Nat) : List Nat → xM → xM
  | [], M => if d == k then M else []
  | c :: cs, M => match M with
    | [] => []
    | q :: M => if c == k then q :: xPa k d cs M else xPa k d cs M
def xP (k d : Nat) (M : xM) (cs : List Nat) : xM := xPa k d cs M
def xRa (d : Nat) : List Nat → xM → xM → xM
  | [], M, P => if d == 1 then P else (match P with
      | [] => M
      | p :: P => M ++ p :: P)
  | c :: cs, M, P => match M with
    | [] => P
    | q :: M => if c == 1 then (match P with
      | p :: P => p :: xRa d cs M P
      | [] => xRa d cs M []) else q :: xRa d cs M P
def xRe (d : Nat) (M : xM) (cs : List Nat) (P : xM) : xM := xRa d cs M P
theorem xP_perm {d : Nat} (hd : d ≤ 2) : ∀ {cs : List Nat} {M : xM}, (∀ c, c ∈ cs → c ≤ 2) → M.Perm (xP 2 d M cs ++ (xP 1 d M cs ++ xP 0 d M cs)) := by
  intro cs
  induction cs with
  | nil =>
    intro M _
    rcases (by omega : d = 0 ∨ d = 1 ∨ d = 2) with rfl | rfl | rfl
    · exact List.Perm.refl _
    · show M.Perm ([] ++ (M ++ []))
      rw [List.append_nil, List.nil_append]
    · show M.Perm (M ++ ([] ++ []))
      rw [List.append_nil, List.append_nil]
  | cons c cs ih =>
    intro M hc
    cases M with
    | nil => exact List.Perm.refl _
    | cons q M =>
      have := ih (M := M) (fun c hc' => hc c (List.mem_cons_of_mem _ hc'))
      rcases (by have := hc c List.mem_cons_self; omega : c = 0 ∨ c = 1 ∨ c = 2) with rfl | rfl | rfl
      · show (q :: M).Perm (xP 2 d M cs ++ (xP 1 d M cs ++ q :: xP 0 d M cs))
        rw [← List.append_assoc]
        refine ((this.trans ?_).cons q).trans List.perm_middle.symm
        rw [List.append_assoc]
      · show (q :: M).Perm (xP 2 d M cs ++ (q :: xP 1 d M cs ++ xP 0 d M cs))
        exact (this.cons q).trans List.perm_middle.symm
      · exact this.cons q
theorem xRe_perm {d : Nat} (hd : d ≤ 2) : ∀ {cs : List Nat} {M P : xM}, (∀ c, c ∈ cs → c ≤ 2) → (xP 2 d M cs ++ (P ++ xP 0 d M cs)).Perm (xRe d M cs P) := by
  intro cs
  induction cs with
  | nil =>
    intro M P _
    rcases (by omega : d = 0 ∨ d = 1 ∨ d = 2) with rfl | rfl | rfl
    · cases P with
      | nil => exact List.Perm.refl _
      | cons p P =>
        show (p :: P ++ M).Perm (M ++ p :: P)
        exact List.perm_append_comm
    · show ([] ++ (P ++ [])).Perm P
      rw [List.append_nil, List.nil_append]
    · cases P with
      | nil =>
        show (M ++ ([] ++ [])).Perm M
        rw [List.append_nil, List.append_nil]
      | cons p P =>
        show (M ++ (p :: P ++ [])).Perm (M ++ p :: P)
        rw [List.append_nil]
  | cons c cs ih =>
    intro M P hc
    cases M with
    | nil =>
      show ([] ++ (P ++ [])).Perm P
      rw [List.append_nil, List.nil_append]
    | cons q M =>
      have hc' : ∀ c, c ∈ cs → c ≤ 2 := fun c hc' => hc c (List.mem_cons_of_mem _ hc')
      rcases (by have := hc c List.mem_cons_self; omega : c = 0 ∨ c = 1 ∨ c = 2) with rfl | rfl | rfl
      · show (xP 2 d M cs ++ (P ++ q :: xP 0 d M cs)).Perm (q :: xRe d M cs P)
        rw [← List.append_assoc]
        refine List.perm_middle.trans (List.Perm.cons q ?_)
        rw [List.append_assoc]
        exact ih hc'
      · cases P with
        | nil => exact ih hc'
        | cons p P =>
          show (xP 2 d M cs ++ (p :: P ++ xP 0 d M cs)).Perm (p :: xRe d M cs P)
          exact List.perm_middle.trans ((ih hc').cons p)
      · exact (ih hc').cons q
def xcs (cs : List Nat) (d : Nat) : Bool := d ≤ 2 && cs.all (fun c => c ≤ 2)
theorem xcs_ok {cs : List Nat} {d : Nat} (h : xcs cs d = true) : d ≤ 2 ∧ ∀ c, c ∈ cs → c ≤ 2 := by
  unfold xcs at h
  rw [Bool.and_eq_true, List.all_eq_true] at h
  exact ⟨of_decide_eq_true h.1, fun c hc => of_decide_eq_true (h.2 c hc)⟩
theorem xS.cpre (hS : xS G F h0 A M n m h) (cs : List Nat) (d : Nat) (hc : xcs cs d = true) (hP : xP 1 d M cs = P) (hZ : xP 2 d M cs = Z) : xH G (xfz F Z) P n m h := by
  subst hP hZ
  exact hS.pre (xP_perm (xcs_ok hc).1 (xcs_ok hc).2)
theorem xS.cpost (hS : xS G F h0 A M n m h) (cs : List Nat) (d : Nat) (hc : xcs cs d = true) (hP : xP 1 d M cs = P) (hZ : xP 2 d M cs = Z) (hQ : xS G (xfz F Z) h (xad P) P' n' m' h') : xS G F h0 A (xRe d M cs P') n' m' h' := by
  subst hP hZ
  exact (hS.post (xP_perm (xcs_ok hc).1 (xcs_ok hc).2) hQ).perm (xRe_perm (xcs_ok hc).1 (xcs_ok hc).2)
theorem xS.cpre0 (hS : xS G F h0 A M n m h) (cs : List Nat) (d : Nat) (hc : xcs cs d = true) (hP : xP 1 d M cs = P) (hZ : xP 2 d M cs = []) : xH G F P n m h := hS.cpre cs d hc hP hZ
theorem xS.cpost0 (hS : xS G F h0 A M n m h) (cs : List Nat) (d : Nat) (hc : xcs cs d = true) (hP : xP 1 d M cs = P) (hZ : xP 2 d M cs = []) (hQ : xS G F h (xad P) P' n' m' h') : xS G F h0 A (xRe d M cs P') n' m' h' := hS.cpost cs d hc hP hZ hQ
theorem xS.cpostE (hS : xS G F h0 A M n m h) (cs : List Nat) (d : Nat) (hc : xcs cs d = true) (hP : xP 1 d M cs = P) (hZ : xP 2 d M cs = []) (hQ : xS G F1 h (xad P) P' n' m' h') (hle : xle F F1 h (xad P)) : xS G F1 h0 A (xRe d M cs P') n' m' h' ∧ ∀ F0, xle F0 F h0 A → xle F0 F1 h0 A := by
  have hp := xP_perm (M := M) (xcs_ok hc).1 (xcs_ok hc).2
  have hr := xRe_perm (M := M) (P := P') (xcs_ok hc).1 (xcs_ok hc).2
  rw [hP, hZ, List.nil_append] at hp
  rw [hZ, List.nil_append] at hr
  have := hS.postE hp hQ hle
  exact ⟨this.1.perm hr, this.2⟩
theorem xS.cfrz (hS : xS G F h0 A M n m h) (cs : List Nat) (d : Nat) (hc : xcs cs d = true) (hP : xP 1 d M cs = []) (hZ : xP 2 d M cs = Z) (hW : xP 0 d M cs = W) : xS G (xfz F Z) h0 A W n m h ∧ xle F (xfz F Z) h0 A := by
  have hp := xP_perm (M := M) (xcs_ok hc).1 (xcs_ok hc).2
  rw [hP, hZ, hW, List.nil_append] at hp
  exact hS.frz hp
/-- a frozen cell of those just frozen -/
theorem xS.fz (hS : xS G F h0 A M n m h) (cs : List Nat) (d : Nat) (hc : xcs cs d = true) (hZ : xP 2 d M cs = Z) {k a : Nat} {c : rv_C} (hk : Z[k]? = some (a, c)) : xr G (xfz F Z) a c := by
  have hp := xP_perm (M := M) (xcs_ok hc).1 (xcs_ok hc).2
  rw [hZ] at hp
  have hd := (xad_perm hp).nodup_iff.mp hS.1.2.2.1
  rw [xad_app] at hd
  exact Or.inl (xfz_mem (List.nodup_append.mp hd).1 (List.mem_of_getElem? hk))
theorem xS.fle (hS : xS G F h0 A M n m h) (cs : List Nat) (d : Nat) (hc : xcs cs d = true) (hZ : xP 2 d M cs = Z) {a : Nat} {c : rv_C} (hr : xr G F a c) : xr G (xfz F Z) a c := by
  have hp := xP_perm (M := M) (xcs_ok hc).1 (xcs_ok hc).2
  rw [hZ] at hp
  exact (hS.frz hp).2.xr hr
/-- a call that ended by an exception: own cells are given up -/
theorem xS.exc (hS : xS G F h0 A M n m h) (cs : List Nat) (d : Nat) (hc : xcs cs d = true) (hP : xP 1 d M cs = P) (hZ : xP 2 d M cs = Z) (hQ : xS G (xfz F Z) h (xad P) [] n' m' h') : xS G F h0 A [] n' m' h' := by
  have := hS.cpost cs d hc hP hZ hQ
  exact this.drop (List.nil_sublist _)
theorem xS.exc0 (hS : xS G F h0 A M n m h) (cs : List Nat) (d : Nat) (hc : xcs cs d = true) (hP : xP 1 d M cs = P) (hZ : xP 2 d M cs = []) (hQ : xS G F h (xad P) [] n' m' h') : xS G F h0 A [] n' m' h' := hS.exc cs d hc hP hZ hQ
end XS
