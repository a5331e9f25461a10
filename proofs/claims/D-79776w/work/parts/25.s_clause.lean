/-! THE PLAIN LAW, 3: rules and deeds -/
set_option maxRecDepth 100000
def sp_C : Type := Nat × Nat × List Nat × List sp_I × Nat × Int32 × Bool
def sp_C.num (C : sp_C) : Nat := C.1
def sp_C.rel (C : sp_C) : Nat := C.2.1
def sp_C.hts (C : sp_C) : List Nat := C.2.2.1
def sp_C.its (C : sp_C) : List sp_I := C.2.2.2.1
def sp_C.mod (C : sp_C) : Nat := C.2.2.2.2.1
def sp_C.sal (C : sp_C) : Int32 := C.2.2.2.2.2.1
def sp_C.tells (C : sp_C) : Bool := C.2.2.2.2.2.2
/-- a slot of a head, by values; a gathered one counts g -/
def sp_hval (v : sp_V) (g t : Nat) : Nat := if 200 ≤ t then g else (sp_val v t).getD 0
def sp_hsum (v : sp_V) (g : Nat) : List Nat → Nat → Nat
  | [], _ => 0
  | t :: ts, s => sp_wt s * sp_hval v g t + sp_hsum v g ts (s + 1)
def sp_hfact (C : sp_C) (v : sp_V) (g : Nat) : Nat := 1000000 * C.rel + sp_hsum v g C.hts 0
/-- the slot of a head that is gathered, from a slot on -/
def sp_gslot : List Nat → Nat → Option Nat
  | [], _ => none
  | t :: ts, s => if 200 ≤ t then some s else sp_gslot ts (s + 1)
def sp_C.gath (C : sp_C) : Option Nat := sp_gslot C.hts 0
def sp_wfH (ts : List Nat) : Prop := (∀ t, t ∈ ts → t < 108 ∨ (200 ≤ t ∧ t < 232)) ∧ ∀ (i j a b : Nat), ts[i]? = some a → ts[j]? = some b → 200 ≤ a → 200 ≤ b → i = j
/-- which variables are known behind an item, and whether they are where they have to be -/
def sp_knI (kn : Nat → Bool) (it : sp_I) : Nat → Bool := fun x => kn x || (decide (it.1 = 0) && it.2.2.any (fun t => decide (t = 100 + x))) || (decide (it.1 = 3) && decide (it.2.2.getD 2 0 = 100 + x))
def sp_knT (kn : Nat → Bool) (t : Nat) : Bool := decide (t < 100) || kn (t - 100)
def sp_okI (kn : Nat → Bool) (it : sp_I) : Bool := (it.1 == 0) || (if it.1 = 1 ∨ it.1 = 2 then it.2.2.all (sp_knT kn) else (it.2.2.take 2).all (sp_knT kn))
def sp_snd : (Nat → Bool) → List sp_I → Bool
  | _, [] => true
  | kn, it :: its => sp_okI kn it && sp_snd (sp_knI kn it) its
def sp_kn : (Nat → Bool) → List sp_I → Nat → Bool
  | kn, [] => kn
  | kn, it :: its => sp_kn (sp_knI kn it) its
def sp_hknT (kn : Nat → Bool) (t : Nat) : Bool := decide (t < 100) || kn (if 200 ≤ t then (t - 200) % 8 else t - 100)
def sp_none : Nat → Bool := fun _ => false
/-- a whole rule or deed, as it may be kept -/
def sp_wfC (S : List Nat) (C : sp_C) : Prop :=
  C.num < 100 ∧ S[C.rel]? = some C.hts.length ∧ sp_wfH C.hts ∧ (1 ≤ C.its.length ∧ C.its.length ≤ 6) ∧ (∀ it, it ∈ C.its → sp_wfI S it) ∧ (C.its.filter (fun it => it.1 == 0)).length ≤ 3 ∧ sp_snd sp_none C.its = true ∧ C.hts.all (sp_hknT (sp_kn sp_none C.its)) = true ∧ C.mod < 4 ∧ -10 ≤ C.sal.toInt ∧ C.sal.toInt ≤ 10
theorem sp_wfC.num {S : List Nat} {C : sp_C} (h : sp_wfC S C) : C.num < 100 := h.1
theorem sp_wfC.hd {S : List Nat} {C : sp_C} (h : sp_wfC S C) : S[C.rel]? = some C.hts.length := h.2.1
theorem sp_wfC.hts {S : List Nat} {C : sp_C} (h : sp_wfC S C) : sp_wfH C.hts := h.2.2.1
theorem sp_wfC.len {S : List Nat} {C : sp_C} (h : sp_wfC S C) : 1 ≤ C.its.length ∧ C.its.length ≤ 6 := h.2.2.2.1
theorem sp_wfC.its {S : List Nat} {C : sp_C} (h : sp_wfC S C) : ∀ it, it ∈ C.its → sp_wfI S it := h.2.2.2.2.1
theorem sp_wfC.atoms {S : List Nat} {C : sp_C} (h : sp_wfC S C) : (C.its.filter (fun it => it.1 == 0)).length ≤ 3 := h.2.2.2.2.2.1
theorem sp_wfC.snd {S : List Nat} {C : sp_C} (h : sp_wfC S C) : sp_snd sp_none C.its = true := h.2.2.2.2.2.2.1
theorem sp_wfC.hsnd {S : List Nat} {C : sp_C} (h : sp_wfC S C) : C.hts.all (sp_hknT (sp_kn sp_none C.its)) = true := h.2.2.2.2.2.2.2.1
theorem sp_wfC.mod {S : List Nat} {C : sp_C} (h : sp_wfC S C) : C.mod < 4 := h.2.2.2.2.2.2.2.2.1
theorem sp_wfC.sal {S : List Nat} {C : sp_C} (h : sp_wfC S C) : -10 ≤ C.sal.toInt ∧ C.sal.toInt ≤ 10 := h.2.2.2.2.2.2.2.2.2
/-- what is known has values -/
def sp_has (kn : Nat → Bool) (v : sp_V) : Prop := ∀ x, kn x = true → (v x).isSome = true
theorem sp_has.val {kn : Nat → Bool} {v : sp_V} (h : sp_has kn v) {t : Nat} (ht : sp_knT kn t = true) : (sp_val v t).isSome = true := by
  unfold sp_knT at ht
  unfold sp_val
  split
  · rfl
  · rename_i h2
    have : kn (t - 100) = true := by simpa [h2] using ht
    exact h _ this
theorem sp_bind_known {v w : sp_V} {t a : Nat} (h : sp_bind v t a = some w) : sp_val w t = some a := by
  unfold sp_bind at h
  cases e : sp_val v t with
  | none =>
    rw [e] at h
    cases h
    unfold sp_val at e ⊢
    split at e
    · cases e
    · rename_i h2
      rw [if_neg h2]
      unfold sp_up
      rw [if_pos rfl]
  | some b =>
    rw [e] at h
    by_cases q : b = a
    · have h' : (if b = a then some v else none) = some w := h
      rw [if_pos q] at h'
      cases h'
      rw [e, q]
    · have h' : (if b = a then some v else none) = some w := h
      rw [if_neg q] at h'
      cases h'
theorem sp_le_some {v w : sp_V} (h : sp_le v w) {x a : Nat} (e : v x = some a) : w x = some a := by
  rcases h x with g | g
  · rw [g] at e; cases e
  · rw [← g]; exact e
theorem sp_le_val {v w : sp_V} (h : sp_le v w) {t a : Nat} (e : sp_val v t = some a) : sp_val w t = some a := by
  unfold sp_val at e ⊢
  split at e
  · rename_i q; rw [if_pos q]; exact e
  · rename_i q; rw [if_neg q]; exact sp_le_some h e
theorem sp_binds_known {f : Nat} {ts : List Nat} : ∀ {v w : sp_V} {s : Nat}, sp_binds v f ts s = some w → ∀ t, t ∈ ts → (sp_val w t).isSome = true := by
  induction ts with
  | nil => intro v w s _ t ht; cases ht
  | cons a ts ih =>
    intro v w s h t ht
    have h' : (sp_bind v a (sp_slot f s)).bind (fun w => sp_binds w f ts (s + 1)) = some w := h
    cases e : sp_bind v a (sp_slot f s) with
    | none => rw [e] at h'; cases h'
    | some u =>
      rw [e] at h'
      have h2 : sp_binds u f ts (s + 1) = some w := h'
      rcases List.mem_cons.mp ht with rfl | ht
      · rw [sp_le_val (sp_binds_le h2) (sp_bind_known e)]
        rfl
      · exact ih h2 t ht
theorem sp_alt_atom {F : List Nat} {it : sp_I} {v : sp_V} (h : it.1 = 0) {a : Nat × sp_V} (ha : a ∈ sp_alt F (fun _ => true) it v) : a.1 < F.length ∧ F.getD a.1 0 / 1000000 = it.2.1 ∧ sp_binds v (F.getD a.1 0) it.2.2 0 = some a.2 := by
  unfold sp_alt at ha
  rw [if_pos h, List.mem_filterMap] at ha
  obtain ⟨k, hk, e⟩ := ha
  split at e
  · rename_i g
    cases hb : sp_binds v (F.getD k 0) it.2.2 0 with
    | none => rw [hb] at e; cases e
    | some w =>
      rw [hb] at e
      simp only [Option.map_some, Option.some.injEq] at e
      rw [← e]
      exact ⟨List.mem_range.mp hk, g.2, hb⟩
  · cases e
theorem sp_alt_le {F : List Nat} {it : sp_I} {v : sp_V} {a : Nat × sp_V} (ha : a ∈ sp_alt F (fun _ => true) it v) : sp_le v a.2 := by
  by_cases h0 : it.1 = 0
  · exact sp_binds_le (sp_alt_atom h0 ha).2.2
  · by_cases h1 : it.1 = 1
    · rw [sp_alt_not h1] at ha
      split at ha
      · cases ha
      · rw [List.mem_singleton.mp ha]; exact .rf
    · by_cases h2 : it.1 = 2
      · rw [sp_alt_test h2] at ha
        split at ha
        · rw [List.mem_singleton.mp ha]; exact .rf
        · cases ha
      · rw [sp_alt_plus (by omega)] at ha
        split at ha
        · rw [Option.mem_toList, Option.map_eq_some_iff] at ha
          obtain ⟨w, hw, e⟩ := ha
          rw [← e]
          exact sp_bind_le hw
        · cases ha
theorem sp_has.step {S F : List Nat} {kn : Nat → Bool} {v : sp_V} (h : sp_has kn v) {it : sp_I} (hw : sp_wfI S it) {a : Nat × sp_V} (ha : a ∈ sp_alt F (fun _ => true) it v) : sp_has (sp_knI kn it) a.2 := by
  intro x hx
  have hle := sp_alt_le ha
  unfold sp_knI at hx
  rw [Bool.or_eq_true, Bool.or_eq_true, Bool.and_eq_true, Bool.and_eq_true] at hx
  rcases hx with (hx | ⟨h0, hx⟩) | ⟨h3, hx⟩
  · obtain ⟨b, hb⟩ := Option.isSome_iff_exists.mp (h x hx)
    rw [sp_le_some hle hb]
    rfl
  · have h0 := of_decide_eq_true h0
    rw [List.any_eq_true] at hx
    obtain ⟨t, ht, e⟩ := hx
    have e := of_decide_eq_true e
    have := sp_binds_known (sp_alt_atom h0 ha).2.2 t ht
    rw [e] at this
    unfold sp_val at this
    rw [if_neg (by omega), Nat.add_sub_cancel_left] at this
    exact this
  · have h3 := of_decide_eq_true h3
    have hx := of_decide_eq_true hx
    rw [sp_alt_plus (by omega)] at ha
    split at ha
    · rw [Option.mem_toList, Option.map_eq_some_iff] at ha
      obtain ⟨w, hw, e⟩ := ha
      have := sp_bind_known hw
      rw [hx] at this
      unfold sp_val at this
      rw [if_neg (by omega), Nat.add_sub_cancel_left] at this
      rw [← e]
      show (w x).isSome = true
      rw [this]
      rfl
    · cases ha
theorem sp_okI.ok {S : List Nat} {kn : Nat → Bool} {v : sp_V} (h : sp_has kn v) {it : sp_I} (hw : sp_wfI S it) (hk : sp_okI kn it = true) (h0 : it.1 ≠ 0) : sp_ok v it := by
  unfold sp_okI at hk
  rw [Bool.or_eq_true] at hk
  rcases hk with hk | hk
  · exact absurd (by simpa using hk) h0
  constructor
  · intro h1 t ht
    rw [if_pos (Or.inl h1), List.all_eq_true] at hk
    exact h.val (hk t ht)
  · intro h2 k hk2
    have hlen : 2 ≤ it.2.2.length := by
      by_cases e : it.1 = 2
      · have := (hw.2.2.1 e).2; omega
      · have := (hw.2.2.2.1 (by have := hw.1; omega)).2; omega
    have ht : it.2.2[k]? = some (it.2.2.getD k 0) := by
      rw [List.getD_eq_getElem?_getD, List.getElem?_eq_getElem (show k < it.2.2.length by omega)]; rfl
    split at hk
    · rw [List.all_eq_true] at hk
      exact h.val (hk _ (List.mem_of_getElem? ht))
    · rw [List.all_eq_true] at hk
      refine h.val (hk _ (List.mem_of_getElem? (i := k) ?_))
      rw [List.getElem?_take, if_pos hk2]
      exact ht
/-- sound items can be gone through -/
theorem sp_snd.okA {S F : List Nat} {its : List sp_I} : ∀ {kn : Nat → Bool} {v : sp_V}, (∀ it, it ∈ its → sp_wfI S it) → sp_has kn v → sp_snd kn its = true → sp_okA F its v := by
  induction its with
  | nil => intro kn v _ _ _; trivial
  | cons it its ih =>
    intro kn v hw hh hs
    have hs' : (sp_okI kn it && sp_snd (sp_knI kn it) its) = true := hs
    rw [Bool.and_eq_true] at hs'
    refine ⟨fun h0 => sp_okI.ok hh (hw it List.mem_cons_self) hs'.1 h0, fun a ha => ih (fun i hi => hw i (List.mem_cons_of_mem _ hi)) (hh.step (hw it List.mem_cons_self) ha) hs'.2⟩
/-- a match knows all that is known behind the items -/
theorem sp_has.mat {S F : List Nat} {its : List sp_I} : ∀ {kn : Nat → Bool} {v : sp_V}, (∀ it, it ∈ its → sp_wfI S it) → sp_has kn v → ∀ q, q ∈ sp_m F its v → sp_has (sp_kn kn its) q.2 ∧ sp_le v q.2 := by
  induction its with
  | nil =>
    intro kn v _ hh q hq
    have hq' : q ∈ [(([] : List Nat), v)] := hq
    rw [List.mem_singleton.mp hq']
    exact ⟨hh, .rf⟩
  | cons it its ih =>
    intro kn v hw hh q hq
    rw [sp_m_cons, List.mem_flatMap] at hq
    obtain ⟨a, ha, hq⟩ := hq
    rw [List.mem_map] at hq
    obtain ⟨r, hr, e⟩ := hq
    have := ih (fun i hi => hw i (List.mem_cons_of_mem _ hi)) (hh.step (hw it List.mem_cons_self) ha) r hr
    rw [← e]
    exact ⟨this.1, (sp_alt_le ha).tr this.2⟩
theorem sp_has_none (v : sp_V) : sp_has sp_none v := fun x h => by cases h
theorem sp_hsum_lt {v : sp_V} {g : Nat} (hv : ∀ x a, v x = some a → a < 100) (hg : g < 100) (ts : List Nat) (h : ts.length ≤ 3) : sp_hsum v g ts 0 < 1000000 := by
  have hg : ∀ t, sp_hval v g t < 100 := by
    intro t
    unfold sp_hval
    split
    · exact hg
    · cases e : sp_val v t with
      | none => simp
      | some a => have := sp_val_lt hv e; simpa using this
  match ts, h with
  | [], _ => simp [sp_hsum]
  | [a], _ => have := hg a; simp [sp_hsum, sp_wt]; omega
  | [a, b], _ => have := hg a; have := hg b; simp [sp_hsum, sp_wt]; omega
  | [a, b, c], _ => have := hg a; have := hg b; have := hg c; simp [sp_hsum, sp_wt]; omega
  | a :: b :: c :: e :: ts, h => simp at h
/-- a rule or a deed in the arrays -/
def mBody (σ : rv_S) (b : Nat) (C : sp_C) : Prop :=
  σ.2.1 3 b = nI C.num ∧ σ.2.1 4 b = nI C.rel ∧ (∀ (k t : Nat), C.hts[k]? = some t → σ.2.1 5 (3 * b + k) = nI t) ∧ σ.2.1 6 b = nI C.its.length ∧ (∀ (i : Nat) (it : sp_I), C.its[i]? = some it → mItem σ b i it) ∧ σ.2.1 10 b = nI C.mod ∧ σ.2.1 11 b = C.sal ∧ σ.2.1 12 b = rv_z C.tells
theorem mBody.num {σ : rv_S} {b : Nat} {C : sp_C} (h : mBody σ b C) : σ.2.1 3 b = nI C.num := h.1
theorem mBody.rel {σ : rv_S} {b : Nat} {C : sp_C} (h : mBody σ b C) : σ.2.1 4 b = nI C.rel := h.2.1
theorem mBody.hts {σ : rv_S} {b : Nat} {C : sp_C} (h : mBody σ b C) : ∀ (k t : Nat), C.hts[k]? = some t → σ.2.1 5 (3 * b + k) = nI t := h.2.2.1
theorem mBody.len {σ : rv_S} {b : Nat} {C : sp_C} (h : mBody σ b C) : σ.2.1 6 b = nI C.its.length := h.2.2.2.1
theorem mBody.its {σ : rv_S} {b : Nat} {C : sp_C} (h : mBody σ b C) : ∀ (i : Nat) (it : sp_I), C.its[i]? = some it → mItem σ b i it := h.2.2.2.2.1
theorem mBody.mod {σ : rv_S} {b : Nat} {C : sp_C} (h : mBody σ b C) : σ.2.1 10 b = nI C.mod := h.2.2.2.2.2.1
theorem mBody.sal {σ : rv_S} {b : Nat} {C : sp_C} (h : mBody σ b C) : σ.2.1 11 b = C.sal := h.2.2.2.2.2.2.1
theorem mBody.tells {σ : rv_S} {b : Nat} {C : sp_C} (h : mBody σ b C) : σ.2.1 12 b = rv_z C.tells := h.2.2.2.2.2.2.2
theorem mBody.same {fs js : List Nat} {σ τ : rv_S} {b : Nat} {C : sp_C} (h : mBody σ b C) (hs : rv_same fs js σ τ) (h1 : ∀ j, j ∈ [3, 4, 5, 6, 7, 8, 9, 10, 11, 12] → j ∉ js) : mBody τ b C := by
  refine ⟨?_, ?_, ?_, ?_, fun i it e => (h.its i it e).same hs (h1 7 (by decide)) (h1 8 (by decide)) (h1 9 (by decide)), ?_, ?_, ?_⟩
  · rw [hs.2.1 3 (h1 3 (by decide))]; exact h.num
  · rw [hs.2.1 4 (h1 4 (by decide))]; exact h.rel
  · intro k t e; rw [hs.2.1 5 (h1 5 (by decide))]; exact h.hts k t e
  · rw [hs.2.1 6 (h1 6 (by decide))]; exact h.len
  · rw [hs.2.1 10 (h1 10 (by decide))]; exact h.mod
  · rw [hs.2.1 11 (h1 11 (by decide))]; exact h.sal
  · rw [hs.2.1 12 (h1 12 (by decide))]; exact h.tells
/-- a head in the arrays -/
def mHd (σ : rv_S) (S : List Nat) (b rel : Nat) (hts : List Nat) : Prop := mRel σ S ∧ b < 17 ∧ σ.2.1 4 b = nI rel ∧ S[rel]? = some hts.length ∧ (∀ (k t : Nat), hts[k]? = some t → σ.2.1 5 (3 * b + k) = nI t) ∧ ∀ t, t ∈ hts → t < 108 ∨ (200 ≤ t ∧ t < 232)
theorem mBody.mHd {σ : rv_S} {S : List Nat} {b : Nat} {C : sp_C} (h : mBody σ b C) (hS : mRel σ S) (hw : sp_wfC S C) (hb : b < 17) : mHd σ S b C.rel C.hts := ⟨hS, hb, h.rel, hw.hd, h.hts, hw.hts.1⟩
theorem mHd.bds {σ : rv_S} {S : List Nat} {b rel : Nat} {hts : List Nat} (h : mHd σ S b rel hts) : rel < 8 ∧ 1 ≤ hts.length ∧ hts.length ≤ 3 ∧ σ.2.1 2 rel = nI hts.length := by
  obtain ⟨h1, h2, h3, h4, h5, h6⟩ := h
  have := (List.getElem?_eq_some_iff.mp h4).1
  have h8 := h1.2.1
  have := h1.2.2.1 _ (List.mem_of_getElem? h4)
  exact ⟨by omega, this.1, this.2, h1.2.2.2 _ _ h4⟩
theorem sp_drop_get {α : Type} {ts : List α} {s : Nat} {t : α} (h : ts[s]? = some t) : ts.drop s = t :: ts.drop (s + 1) := by
  have hs := (List.getElem?_eq_some_iff.mp h).1
  rw [List.drop_eq_getElem_cons hs]
  congr 1
  have e2 := List.getElem?_eq_getElem hs
  rw [h] at e2
  exact (Option.some.inj e2).symm
theorem sp_gslot_get {ts : List Nat} : ∀ {n s : Nat}, sp_gslot ts n = some s → n ≤ s ∧ ∃ t, ts[s - n]? = some t ∧ 200 ≤ t := by
  induction ts with
  | nil => intro n s h; cases h
  | cons a ts ih =>
    intro n s h
    have h' : (if 200 ≤ a then some n else sp_gslot ts (n + 1)) = some s := h
    split at h'
    · rename_i g
      cases h'
      exact ⟨Nat.le_refl _, a, by rw [Nat.sub_self]; rfl, g⟩
    · obtain ⟨g1, t, g2, g3⟩ := ih h'
      refine ⟨by omega, t, ?_, g3⟩
      rw [show s - n = (s - (n + 1)) + 1 by omega]
      exact g2
theorem sp_gslot_none {ts : List Nat} : ∀ {n : Nat}, sp_gslot ts n = none → ∀ t, t ∈ ts → t < 200 := by
  induction ts with
  | nil => intro n h t ht; cases ht
  | cons a ts ih =>
    intro n h t ht
    have h' : (if 200 ≤ a then some n else sp_gslot ts (n + 1)) = none := h
    split at h'
    · cases h'
    · rcases List.mem_cons.mp ht with rfl | ht
      · omega
      · exact ih h' t ht
theorem sp_gslot_lt {ts : List Nat} {t s : Nat} (h : t < 200) : sp_gslot (t :: ts) s = sp_gslot ts (s + 1) := by
  show (if 200 ≤ t then some s else sp_gslot ts (s + 1)) = _
  rw [if_neg (by omega)]
theorem sp_gslot_ge {ts : List Nat} {t s : Nat} (h : 200 ≤ t) : sp_gslot (t :: ts) s = some s := by
  show (if 200 ≤ t then some s else sp_gslot ts (s + 1)) = _
  rw [if_pos h]
