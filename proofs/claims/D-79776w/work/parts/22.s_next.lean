/-! THE PLAIN LAW, 2: going back and forth, a step at a time -/
set_option maxRecDepth 100000
/-- the values as they were ahead of place i -/
def sp_lev (w : sp_V) (kb : Nat → Option Nat) (i : Nat) : sp_V := fun x => match kb x with
  | some l => if i ≤ l then none else w x
  | none => w x
def sp_okA (F : List Nat) : List sp_I → sp_V → Prop
  | [], _ => True
  | it :: its, v => (it.1 ≠ 0 → sp_ok v it) ∧ ∀ a, a ∈ sp_alt F (fun _ => true) it v → sp_okA F its a.2
def sp_cst (F : List Nat) : List sp_I → sp_V → Nat
  | [], _ => 0
  | it :: its, v => 1 + ((sp_alt F (fun _ => true) it v).map (fun a => 1 + sp_cst F its a.2)).sum
def sp_cs (F : List Nat) (its : List sp_I) (A : List (Nat × sp_V)) : Nat := 1 + (A.map (fun a => 1 + sp_cst F its a.2)).sum
def sp_cr (F : List Nat) (its : List sp_I) (v : Nat → sp_V) (ks : List Nat) : Nat → Nat
  | 0 => 0
  | n + 1 => sp_cs F (its.drop (n + 1)) (sp_aft F (its.getD n (0, 0, [])) (v n) (ks.getD n 0)) + sp_cr F its v ks n
def sp_rc (F : List Nat) (its : List sp_I) (p : Nat) (A : List (Nat × sp_V)) : Nat := A.foldr (fun a n => Nat.max (p + 1 + sp_reach F its a.2) n) 0
def sp_rr (F : List Nat) (its : List sp_I) (v : Nat → sp_V) (ks : List Nat) : Nat → Nat
  | 0 => 0
  | n + 1 => Nat.max (sp_rc F (its.drop (n + 1)) n (sp_aft F (its.getD n (0, 0, [])) (v n) (ks.getD n 0))) (sp_rr F its v ks n)
theorem sp_getD_congr {ks js : List Nat} {n : Nat} (h : ks[n]? = js[n]?) : ks.getD n 0 = js.getD n 0 := by rw [List.getD_eq_getElem?_getD, List.getD_eq_getElem?_getD, h]
theorem sp_cr_congr {F : List Nat} {its : List sp_I} {v w : Nat → sp_V} {ks js : List Nat} : ∀ {n : Nat}, (∀ i, i < n → v i = w i) → (∀ i, i < n → ks[i]? = js[i]?) → sp_cr F its v ks n = sp_cr F its w js n := by
  intro n
  induction n with
  | zero => intro _ _; rfl
  | succ n ih =>
    intro h1 h2
    show sp_cs _ _ _ + _ = sp_cs _ _ _ + _
    rw [ih (fun i hi => h1 i (by omega)) (fun i hi => h2 i (by omega)), sp_getD_congr (h2 n (by omega)), h1 n (by omega)]
theorem sp_rr_congr {F : List Nat} {its : List sp_I} {v w : Nat → sp_V} {ks js : List Nat} : ∀ {n : Nat}, (∀ i, i < n → v i = w i) → (∀ i, i < n → ks[i]? = js[i]?) → sp_rr F its v ks n = sp_rr F its w js n := by
  intro n
  induction n with
  | zero => intro _ _; rfl
  | succ n ih =>
    intro h1 h2
    show Nat.max (sp_rc _ _ _ _) _ = Nat.max (sp_rc _ _ _ _) _
    rw [ih (fun i hi => h1 i (by omega)) (fun i hi => h2 i (by omega)), sp_getD_congr (h2 n (by omega)), h1 n (by omega)]
/-- what has fewer levels known -/
def sp_cut (kb : Nat → Option Nat) (p : Nat) : Nat → Option Nat := fun x => if kb x = some p then none else kb x
theorem sp_lev_cut {w : sp_V} {kb : Nat → Option Nat} {p : Nat} (h : ∀ x l, kb x = some l → l ≤ p) : (fun x => if kb x = some p then none else w x) = sp_lev w kb p := by
  funext x
  unfold sp_lev
  cases e : kb x with
  | none => rw [if_neg (by simp)]
  | some l =>
    have := h x l e
    by_cases g : l = p
    · rw [g, if_pos rfl]
      show none = if p ≤ p then none else w x
      rw [if_pos (Nat.le_refl _)]
    · rw [if_neg (fun q => g (Option.some.inj q))]
      show w x = if p ≤ l then none else w x
      rw [if_neg (by omega)]
theorem sp_cut_lt {kb : Nat → Option Nat} {p : Nat} (h : ∀ x l, kb x = some l → l ≤ p) : ∀ x l, sp_cut kb p x = some l → l < p := by
  intro x l e
  unfold sp_cut at e
  split at e
  · cases e
  · rename_i g
    have := h x l e
    have : l ≠ p := fun q => g (by rw [e, q])
    omega
theorem sp_lev_lev {w : sp_V} {kb : Nat → Option Nat} {p : Nat} (h : ∀ x l, kb x = some l → l ≤ p) {i : Nat} (hi : i ≤ p) : sp_lev (sp_lev w kb p) (sp_cut kb p) i = sp_lev w kb i := by
  funext x
  have hc := sp_cut_lt h x
  cases e : kb x with
  | none =>
    have e2 : sp_cut kb p x = none := by unfold sp_cut; rw [e]; rfl
    unfold sp_lev
    rw [e2, e]
  | some l =>
    have hl := h x l e
    by_cases g : l = p
    · have e2 : sp_cut kb p x = none := by unfold sp_cut; rw [e, g, if_pos rfl]
      unfold sp_lev
      rw [e2, e]
      show (if p ≤ l then none else w x) = if i ≤ l then none else w x
      rw [if_pos (by omega), if_pos (by omega)]
    · have e2 : sp_cut kb p x = some l := by unfold sp_cut; rw [e, if_neg (fun q => g (Option.some.inj q))]
      unfold sp_lev
      rw [e2, e]
      show (if i ≤ l then none else (if p ≤ l then none else w x)) = if i ≤ l then none else w x
      rw [if_neg (show ¬ p ≤ l by omega)]
theorem sp_lev_kb {v w : sp_V} {kb : Nat → Option Nat} {p : Nat} (hle : sp_le v w) (hn : ∀ x, v x = none → kb x = none) {i : Nat} (hi : i ≤ p) : sp_lev w (sp_kb v w kb (some p)) i = sp_lev v kb i := by
  funext x
  unfold sp_lev sp_kb
  by_cases e : v x = w x
  · rw [if_pos e, e]
  · have h0 : v x = none := by
      rcases hle x with g | g
      · exact g
      · exact absurd g e
    rw [if_neg e, hn x h0, h0]
    show (if i ≤ p then none else w x) = none
    rw [if_pos hi]
theorem sp_lev_top {w : sp_V} {kb : Nat → Option Nat} {p : Nat} (h : ∀ x l, kb x = some l → l < p) : sp_lev w kb p = w := by
  funext x
  unfold sp_lev
  cases e : kb x with
  | none => rfl
  | some l =>
    have := h x l e
    show (if p ≤ l then none else w x) = w x
    rw [if_neg (by omega)]
theorem sp_lev_none {w : sp_V} {kb : Nat → Option Nat} {p : Nat} (h : ∀ x, w x = none → kb x = none) (hp : ∀ x l, kb x = some l → l ≤ p) : ∀ x, sp_lev w kb p x = none → sp_cut kb p x = none := by
  intro x hx
  unfold sp_lev at hx
  cases e : kb x with
  | none => unfold sp_cut; rw [e]; rfl
  | some l =>
    rw [e] at hx
    by_cases g : l = p
    · unfold sp_cut; rw [e, g, if_pos rfl]
    · have := hp x l e
      have hx' : (if p ≤ l then none else w x) = none := hx
      rw [if_neg (by omega)] at hx'
      rw [h x hx'] at e
      cases e
theorem sp_aft_sub {F : List Nat} {it : sp_I} {v : sp_V} {t : Option Nat} {a : Nat × sp_V} (h : a ∈ sp_left F it v t) : a ∈ sp_alt F (fun _ => true) it v := by
  cases t with
  | none => exact h
  | some k =>
    have h' : a ∈ sp_aft F it v k := h
    unfold sp_aft at h'
    split at h'
    · exact (List.mem_filter.mp h').1
    · cases h'
/-- the head of the loop, at a place p -/
def sp_hd (F : List Nat) (its : List sp_I) (todo : List (List Nat × sp_V)) (fr : Bool) (R p : Nat) (t : Option Nat) (w : sp_V) (kb : Nat → Option Nat) (ks : List Nat) (D : Nat) : Prop :=
  p < its.length ∧ (∀ x, w x = none → kb x = none) ∧ (∀ x l, kb x = some l → l ≤ p) ∧ p ≤ ks.length ∧ (∀ (i k : Nat), i < p → ks[i]? = some k → k < 62) ∧ (∀ k, t = some k → k < 62) ∧ (∀ i, i ≤ p → sp_okA F (its.drop i) (sp_lev w kb i)) ∧ D ≤ 6 ∧
  todo = sp_exp F (its.drop (p + 1)) (ks.take p) (sp_left F (its.getD p (0, 0, [])) (sp_lev w kb p) t) ++ sp_rest F its (sp_lev w kb) ks p ∧
  (fr = true → Nat.max D (Nat.max (sp_rc F (its.drop (p + 1)) p (sp_left F (its.getD p (0, 0, [])) (sp_lev w kb p) t)) (sp_rr F its (sp_lev w kb) ks p)) = R)
def sp_me (F : List Nat) (its : List sp_I) (p : Nat) (t : Option Nat) (w : sp_V) (kb : Nat → Option Nat) (ks : List Nat) : Nat := sp_cs F (its.drop (p + 1)) (sp_left F (its.getD p (0, 0, [])) (sp_lev w kb p) t) + sp_cr F its (sp_lev w kb) ks p
theorem sp_hd.fail0 {F : List Nat} {its : List sp_I} {todo : List (List Nat × sp_V)} {fr : Bool} {R : Nat} {t : Option Nat} {w : sp_V} {kb : Nat → Option Nat} {ks : List Nat} {D : Nat} (h : sp_hd F its todo fr R 0 t w kb ks D) (hA : sp_left F (its.getD 0 (0, 0, [])) (sp_lev w kb 0) t = []) : todo = [] ∧ (fr = true → D = R) := by
  obtain ⟨-, -, -, -, -, -, -, -, h1, h2⟩ := h
  rw [hA] at h1 h2
  refine ⟨h1, fun e => ?_⟩
  have := h2 e
  have e2 : sp_rc F (its.drop (0 + 1)) 0 [] = 0 := rfl
  have e3 : sp_rr F its (sp_lev w kb) ks 0 = 0 := rfl
  rw [e2, e3] at this
  simpa using this
theorem sp_hd.fail {F : List Nat} {its : List sp_I} {todo : List (List Nat × sp_V)} {fr : Bool} {R q : Nat} {t : Option Nat} {w : sp_V} {kb : Nat → Option Nat} {ks : List Nat} {D : Nat} (h : sp_hd F its todo fr R (q + 1) t w kb ks D) (hA : sp_left F (its.getD (q + 1) (0, 0, [])) (sp_lev w kb (q + 1)) t = []) : sp_hd F its todo fr R q (some (ks.getD q 0)) (sp_lev w kb (q + 1)) (sp_cut kb (q + 1)) ks D ∧ sp_me F its q (some (ks.getD q 0)) (sp_lev w kb (q + 1)) (sp_cut kb (q + 1)) ks < sp_me F its (q + 1) t w kb ks := by
  obtain ⟨h1, h2, h3, h4, h5, h6, h7, h8, h9, h10⟩ := h
  have hl : ∀ i, i ≤ q → sp_lev (sp_lev w kb (q + 1)) (sp_cut kb (q + 1)) i = sp_lev w kb i := fun i hi => sp_lev_lev h3 (by omega)
  refine ⟨⟨by omega, sp_lev_none h2 h3, fun x l e => by have := sp_cut_lt h3 x l e; omega, by omega, fun i k hi e => h5 i k (by omega) e, fun k e => ?_, fun i hi => by rw [hl i hi]; exact h7 i (by omega), h8, ?_, fun e => ?_⟩, ?_⟩
  · cases e
    have e2 : ks[q]? = some ks[q] := List.getElem?_eq_getElem (by omega)
    rw [sp_getD e2]
    exact h5 q _ (by omega) e2
  · rw [h9, hA, hl q (Nat.le_refl _)]
    show sp_rest F its (sp_lev w kb) ks (q + 1) = _
    rw [sp_rest_congr (fun i hi => hl i (by omega)) (fun _ _ => rfl)]
    rfl
  · have := h10 e
    rw [hA] at this
    rw [hl q (Nat.le_refl _), sp_rr_congr (fun i hi => hl i (by omega)) (fun _ _ => rfl)]
    have e2 : sp_rc F (its.drop (q + 1 + 1)) (q + 1) [] = 0 := rfl
    rw [e2] at this
    rw [show Nat.max 0 (sp_rr F its (sp_lev w kb) ks (q + 1)) = sp_rr F its (sp_lev w kb) ks (q + 1) from Nat.zero_max _] at this
    exact this
  · unfold sp_me
    rw [hA, hl q (Nat.le_refl _), sp_cr_congr (fun i hi => hl i (by omega)) (fun _ _ => rfl)]
    show _ < 1 + 0 + (_ + _)
    show sp_cs _ _ (sp_aft _ _ _ _) + _ < _
    omega
theorem sp_take_snoc {ks : List Nat} {p k : Nat} (h : p ≤ ks.length) : (ks.take p ++ [k]).length = p + 1 ∧ (ks.take p ++ [k])[p]? = some k ∧ (∀ i, i < p → (ks.take p ++ [k])[i]? = ks[i]?) ∧ (ks.take p ++ [k]).take p = ks.take p ∧ (ks.take p ++ [k]).getD p 0 = k := by
  have hl : (ks.take p).length = p := by rw [List.length_take]; omega
  have hp : (ks.take p ++ [k])[p]? = some k := by
    rw [List.getElem?_append_right (by omega), hl, Nat.sub_self]
    rfl
  refine ⟨by rw [List.length_append, hl]; rfl, hp, fun i hi => ?_, ?_, sp_getD hp⟩
  · rw [List.getElem?_append_left (by omega), List.getElem?_take, if_pos hi]
  · have := List.take_left' (l₁ := ks.take p) (l₂ := [k]) hl
    exact this
theorem sp_drop_getD {its : List sp_I} {p : Nat} (h : p < its.length) : its.drop p = its.getD p (0, 0, []) :: its.drop (p + 1) := by
  rw [List.drop_eq_getElem_cons h]
  congr 1
  rw [List.getD_eq_getElem?_getD, List.getElem?_eq_getElem h]
  rfl
theorem sp_reach_rc {F : List Nat} {it : sp_I} {its : List sp_I} {v : sp_V} {p : Nat} : Nat.max (p + 1) (p + 1 + sp_reach F (it :: its) v) = Nat.max (p + 1) (sp_rc F its (p + 1) (sp_alt F (fun _ => true) it v)) := by
  show Nat.max (p + 1) (p + 1 + (sp_alt F (fun _ => true) it v).foldr (fun p n => Nat.max (1 + sp_reach F its p.2) n) 0) = _
  unfold sp_rc
  generalize sp_alt F (fun _ => true) it v = A
  induction A with
  | nil => simp
  | cons a A ih =>
    rw [List.foldr_cons, List.foldr_cons]
    generalize List.foldr (fun p n => Nat.max (1 + sp_reach F its p.2) n) 0 A = x at ih ⊢
    generalize List.foldr (fun a n => Nat.max (p + 1 + 1 + sp_reach F its a.2) n) 0 A = y at ih ⊢
    have e : ∀ a b : Nat, Nat.max a b = max a b := fun _ _ => rfl
    rw [e, e] at ih ⊢
    rw [e, e]
    omega
/-- after a step forth: the values, by which place they are known -/
theorem sp_hd.okS {F : List Nat} {its : List sp_I} {todo : List (List Nat × sp_V)} {fr : Bool} {R p : Nat} {t : Option Nat} {w : sp_V} {kb : Nat → Option Nat} {ks : List Nat} {D k : Nat} {u : sp_V} {B : List (Nat × sp_V)} (h : sp_hd F its todo fr R p t w kb ks D) (hA : sp_left F (its.getD p (0, 0, [])) (sp_lev w kb p) t = (k, u) :: B) (hle : sp_le (sp_lev w kb p) u) :
    (∀ i, i ≤ p → sp_lev u (sp_kb (sp_lev w kb p) u (sp_cut kb p) (some p)) i = sp_lev w kb i) ∧ (∀ x, u x = none → sp_kb (sp_lev w kb p) u (sp_cut kb p) (some p) x = none) ∧ (∀ x l, sp_kb (sp_lev w kb p) u (sp_cut kb p) (some p) x = some l → l < p + 1) ∧ sp_okA F (its.drop (p + 1)) u := by
  obtain ⟨h1, h2, h3, h4, h5, h6, h7, h8, h9, h10⟩ := h
  have hno := sp_lev_none h2 h3
  refine ⟨fun i hi => ?_, fun x hx => ?_, fun x l e => ?_, ?_⟩
  · rw [sp_lev_kb hle hno hi, sp_lev_lev h3 hi]
  · unfold sp_kb
    have : sp_lev w kb p x = u x := by
      rcases hle x with g | g
      · rw [g, hx]
      · exact g
    rw [if_pos this]
    exact hno x (by rw [this, hx])
  · unfold sp_kb at e
    split at e
    · have := sp_cut_lt h3 x l e; omega
    · cases e; omega
  · have := h7 p (Nat.le_refl _)
    rw [sp_drop_getD h1] at this
    exact this.2 (k, u) (sp_aft_sub (by rw [hA]; exact List.mem_cons_self))
theorem sp_hd.last {F : List Nat} {its : List sp_I} {todo : List (List Nat × sp_V)} {fr : Bool} {R p : Nat} {t : Option Nat} {w : sp_V} {kb : Nat → Option Nat} {ks : List Nat} {D k : Nat} {u : sp_V} {B : List (Nat × sp_V)} (h : sp_hd F its todo fr R p t w kb ks D) (hA : sp_left F (its.getD p (0, 0, [])) (sp_lev w kb p) t = (k, u) :: B) (hle : sp_le (sp_lev w kb p) u) (hl : its.length = p + 1) :
    todo = (ks.take p ++ [k], u) :: sp_rest F its (sp_lev u (sp_kb (sp_lev w kb p) u (sp_cut kb p) (some p))) (ks.take p ++ [k]) its.length := by
  obtain ⟨g1, g2, g3, g4⟩ := h.okS hA hle
  obtain ⟨h1, h2, h3, h4, h5, h6, h7, h8, h9, h10⟩ := h
  obtain ⟨s1, s2, s3, s4, s5⟩ := sp_take_snoc (k := k) h4
  rw [h9, hA, sp_exp_cons, hl]
  have hd0 : its.drop (p + 1) = [] := by rw [← hl]; exact List.drop_length
  show _ = _ :: (sp_exp F (its.drop (p + 1)) ((ks.take p ++ [k]).take p) (sp_aft F (its.getD p (0, 0, [])) (sp_lev u _ p) ((ks.take p ++ [k]).getD p 0)) ++ sp_rest F its _ (ks.take p ++ [k]) p)
  rw [s4, s5, g1 p (Nat.le_refl _), sp_rest_congr (fun i hi => g1 i (by omega)) (fun i hi => s3 i hi), hd0, sp_left_cons hA]
  rfl
theorem sp_hd.step {F : List Nat} {its : List sp_I} {todo : List (List Nat × sp_V)} {fr : Bool} {R p : Nat} {t : Option Nat} {w : sp_V} {kb : Nat → Option Nat} {ks : List Nat} {D k : Nat} {u : sp_V} {B : List (Nat × sp_V)} (h : sp_hd F its todo fr R p t w kb ks D) (hA : sp_left F (its.getD p (0, 0, [])) (sp_lev w kb p) t = (k, u) :: B) (hle : sp_le (sp_lev w kb p) u) (hk : k < 62) (hl : p + 1 < its.length) (h6' : its.length ≤ 6) :
    sp_hd F its todo fr R (p + 1) none u (sp_kb (sp_lev w kb p) u (sp_cut kb p) (some p)) (ks.take p ++ [k]) (Nat.max D (p + 1)) ∧ sp_me F its (p + 1) none u (sp_kb (sp_lev w kb p) u (sp_cut kb p) (some p)) (ks.take p ++ [k]) < sp_me F its p t w kb ks := by
  obtain ⟨g1, g2, g3, g4⟩ := h.okS hA hle
  obtain ⟨h1, h2, h3, h4, h5, h6, h7, h8, h9, h10⟩ := h
  obtain ⟨s1, s2, s3, s4, s5⟩ := sp_take_snoc (k := k) h4
  have htop := sp_lev_top (w := u) g3
  have hB := sp_left_cons hA
  have hdr := sp_drop_getD hl
  refine ⟨⟨hl, g2, fun x l e => by have := g3 x l e; omega, by omega, fun i j hi e => ?_, (fun j e => by cases e), fun i hi => ?_, ?_, ?_, fun e => ?_⟩, ?_⟩
  · by_cases q : i = p
    · rw [q, s2] at e
      cases e
      exact hk
    · rw [s3 i (by omega)] at e
      exact h5 i j (by omega) e
  · by_cases q : i = p + 1
    · rw [q, htop]; exact g4
    · rw [g1 i (by omega)]; exact h7 i (by omega)
  · exact Nat.max_le.mpr ⟨h8, by omega⟩
  · rw [h9, hA, sp_exp_cons, htop]
    show _ = _ ++ (sp_exp F (its.drop (p + 1)) ((ks.take p ++ [k]).take p) (sp_aft F (its.getD p (0, 0, [])) (sp_lev u _ p) ((ks.take p ++ [k]).getD p 0)) ++ sp_rest F its _ (ks.take p ++ [k]) p)
    rw [s4, s5, g1 p (Nat.le_refl _), sp_rest_congr (fun i hi => g1 i (by omega)) (fun i hi => s3 i hi), ← hB, ← List.append_assoc]
    congr 2
    rw [hdr]
    have := sp_exp_step (F := F) (it := its.getD (p + 1) (0, 0, [])) (its := its.drop (p + 1 + 1)) (ks := ks.take p) (p := (k, u))
    rw [this]
    have e9 : (ks.take p ++ [k]).take (p + 1) = ks.take p ++ [k] := by rw [List.take_of_length_le (by omega)]
    rw [e9]
    rfl
  · have hR := h10 e
    rw [hA] at hR
    rw [htop]
    show Nat.max _ (Nat.max _ (Nat.max (sp_rc F (its.drop (p + 1)) p (sp_aft F (its.getD p (0, 0, [])) (sp_lev u _ p) ((ks.take p ++ [k]).getD p 0))) (sp_rr F its _ (ks.take p ++ [k]) p))) = R
    rw [s5, g1 p (Nat.le_refl _), sp_rr_congr (fun i hi => g1 i (by omega)) (fun i hi => s3 i hi), ← hB]
    have e1 : sp_rc F (its.drop (p + 1)) p ((k, u) :: B) = Nat.max (p + 1 + sp_reach F (its.drop (p + 1)) u) (sp_rc F (its.drop (p + 1)) p B) := rfl
    rw [e1] at hR
    have e2 := sp_reach_rc (F := F) (it := its.getD (p + 1) (0, 0, [])) (its := its.drop (p + 1 + 1)) (v := u) (p := p)
    rw [← hdr] at e2
    show Nat.max (Nat.max D (p + 1)) (Nat.max (sp_rc F (its.drop (p + 1 + 1)) (p + 1) (sp_alt F (fun _ => true) (its.getD (p + 1) (0, 0, [])) u)) _) = R
    generalize sp_rc F (its.drop (p + 1 + 1)) (p + 1) (sp_alt F (fun _ => true) (its.getD (p + 1) (0, 0, [])) u) = a at e2 ⊢
    generalize sp_rc F (its.drop (p + 1)) p B = b at hR ⊢
    generalize sp_rr F its (sp_lev w kb) ks p = c at hR ⊢
    generalize sp_reach F (its.drop (p + 1)) u = f at hR e2
    have e : ∀ a b : Nat, Nat.max a b = max a b := fun _ _ => rfl
    simp only [e] at hR e2 ⊢
    omega
  · unfold sp_me
    rw [htop, hA]
    show sp_cs _ _ _ + (sp_cs F (its.drop (p + 1)) (sp_aft F (its.getD p (0, 0, [])) (sp_lev u _ p) ((ks.take p ++ [k]).getD p 0)) + sp_cr F its _ (ks.take p ++ [k]) p) < _
    rw [s5, g1 p (Nat.le_refl _), sp_cr_congr (fun i hi => g1 i (by omega)) (fun i hi => s3 i hi), ← hB]
    have e1 : sp_cs F (its.drop (p + 1)) ((k, u) :: B) = 1 + (1 + sp_cst F (its.drop (p + 1)) u + (B.map (fun a => 1 + sp_cst F (its.drop (p + 1)) a.2)).sum) := by
      unfold sp_cs
      rw [List.map_cons, List.sum_cons]
    have e2 : sp_cs F (its.drop (p + 1)) B = 1 + (B.map (fun a => 1 + sp_cst F (its.drop (p + 1)) a.2)).sum := rfl
    have e3 : sp_cst F (its.drop (p + 1)) u = sp_cs F (its.drop (p + 1 + 1)) (sp_alt F (fun _ => true) (its.getD (p + 1) (0, 0, [])) u) := by
      rw [hdr]
      rfl
    rw [e1, e2, e3]
    show sp_cs F (its.drop (p + 1 + 1)) (sp_alt F (fun _ => true) (its.getD (p + 1) (0, 0, [])) u) + _ < _
    omega
theorem sp_hd.fresh {F : List Nat} {its : List sp_I} {todo : List (List Nat × sp_V)} {fr : Bool} {R : Nat} {v : sp_V} (h0 : 0 < its.length) (hok : sp_okA F its v) (ht : todo = sp_m F its v) (hR : fr = true → R = sp_reach F its v) : sp_hd F its todo fr R 0 none v (fun _ => none) [] 0 := by
  have hlv : ∀ i, sp_lev v (fun _ => none) i = v := fun i => by funext x; rfl
  obtain ⟨it, its', rfl⟩ : ∃ it its', its = it :: its' := by
    cases its with
    | nil => cases h0
    | cons a b => exact ⟨a, b, rfl⟩
  refine ⟨h0, fun _ _ => rfl, fun _ _ e => (by cases e), Nat.zero_le _, fun i k hi => absurd hi (by omega), fun k e => (by cases e), fun i hi => ?_, by decide, ?_, fun e => ?_⟩
  · have : i = 0 := by omega
    subst this
    rw [hlv]
    exact hok
  · rw [ht, sp_m_cons]
    show _ = sp_exp F its' [] (sp_alt F (fun _ => true) it v) ++ []
    rw [List.append_nil]
    rfl
  · rw [hR e]
    show Nat.max 0 (Nat.max (sp_rc F its' 0 (sp_alt F (fun _ => true) it v)) 0) = (sp_alt F (fun _ => true) it v).foldr (fun p n => Nat.max (1 + sp_reach F its' p.2) n) 0
    have e1 : ∀ a b : Nat, Nat.max a b = max a b := fun _ _ => rfl
    have e2 : sp_rc F its' 0 (sp_alt F (fun _ => true) it v) = (sp_alt F (fun _ => true) it v).foldr (fun p n => Nat.max (1 + sp_reach F its' p.2) n) 0 := by
      unfold sp_rc
      simp only [Nat.zero_add]
    rw [e2, e1, e1]
    omega
