/-! THE SYSTEM: the matcher -/
set_option maxRecDepth 100000
/-! plain: what a taker makes of matches, one after another -/
def xfold {S : Type} (stp : S → sp_Q → Option (S × Bool)) : S → List sp_Q → Option (S × Bool)
  | s, [] => some (s, true)
  | s, q :: L => match stp s q with
    | none => none
    | some (s', true) => xfold stp s' L
    | some (s', false) => some (s', false)
theorem xfold_cons {S : Type} {stp : S → sp_Q → Option (S × Bool)} {s : S} {q : sp_Q} {L : List sp_Q} : xfold stp s (q :: L) = match stp s q with
    | none => none
    | some (s', true) => xfold stp s' L
    | some (s', false) => some (s', false) := rfl
theorem xfold_app {S : Type} {stp : S → sp_Q → Option (S × Bool)} : ∀ {A B : List sp_Q} {s : S}, xfold stp s (A ++ B) = match xfold stp s A with
    | none => none
    | some (s', true) => xfold stp s' B
    | some (s', false) => some (s', false) := by
  intro A
  induction A with
  | nil => intro B s; rfl
  | cons q A ih =>
    intro B s
    rw [List.cons_append, xfold_cons, xfold_cons]
    cases h : stp s q with
    | none => rfl
    | some p =>
      obtain ⟨s', b⟩ := p
      cases b with
      | true => exact ih
      | false => rfl
theorem xfold_stop {S : Type} {stp : S → sp_Q → Option (S × Bool)} : ∀ {A : List sp_Q} {s s' : S}, xfold stp s A = some (s', false) → ∃ q, q ∈ A := by
  intro A s s' h
  cases A with
  | nil => cases h
  | cons q A => exact ⟨q, List.mem_cons_self⟩
theorem sp_reach_le {F : List Nat} : ∀ {its : List sp_I} {v : sp_V}, sp_reach F its v ≤ its.length := by
  intro its
  induction its with
  | nil => intro v; exact Nat.le_refl _
  | cons it its ih =>
    intro v
    show (sp_alt F (fun _ => true) it v).foldr (fun p n => Nat.max (1 + sp_reach F its p.2) n) 0 ≤ its.length + 1
    generalize sp_alt F (fun _ => true) it v = A
    induction A with
    | nil => exact Nat.zero_le _
    | cons p A ihA =>
      rw [List.foldr_cons]
      refine Nat.max_le.mpr ⟨?_, ihA⟩
      have := ih (v := p.2)
      omega
theorem sp_rc_le {F : List Nat} {its : List sp_I} {p : Nat} {A : List (Nat × sp_V)} : sp_rc F its p A ≤ p + 1 + its.length := by
  unfold sp_rc
  induction A with
  | nil => exact Nat.zero_le _
  | cons a A ih =>
    rw [List.foldr_cons]
    refine Nat.max_le.mpr ⟨?_, ih⟩
    have := sp_reach_le (F := F) (its := its) (v := a.2)
    omega
theorem sp_rc_cons {F : List Nat} {its : List sp_I} {p : Nat} {a : Nat × sp_V} {A : List (Nat × sp_V)} : sp_rc F its p (a :: A) = Nat.max (p + 1 + sp_reach F its a.2) (sp_rc F its p A) := rfl
theorem sp_reach_full {F : List Nat} : ∀ {its : List sp_I} {v : sp_V} {q : sp_Q}, q ∈ sp_m F its v → sp_reach F its v = its.length := by
  intro its
  induction its with
  | nil => intro v q _; rfl
  | cons it its ih =>
    intro v q hq
    refine Nat.le_antisymm sp_reach_le ?_
    rw [sp_m_cons] at hq
    obtain ⟨p, hp, hq⟩ := List.mem_flatMap.mp hq
    obtain ⟨q', hq', -⟩ := List.mem_map.mp hq
    have e := ih hq'
    show its.length + 1 ≤ (sp_alt F (fun _ => true) it v).foldr (fun p n => Nat.max (1 + sp_reach F its p.2) n) 0
    revert hp
    generalize sp_alt F (fun _ => true) it v = A
    intro hp
    induction A with
    | nil => cases hp
    | cons a A ihA =>
      rw [List.foldr_cons]
      rcases List.mem_cons.mp hp with hp | hp
      · subst hp
        rw [e]
        exact Nat.le_trans (by omega) (Nat.le_max_left _ _)
      · exact Nat.le_trans (ihA hp) (Nat.le_max_right _ _)
/-- an ATOM's ways from a place on -/
def sp_frg (F : List Nat) (al : Nat → Bool) (it : sp_I) (v : sp_V) (k : Nat) : Option (Nat × sp_V) := if al k = true ∧ F.getD k 0 / 1000000 = it.2.1 then (sp_binds v (F.getD k 0) it.2.2 0).map (fun w => (k, w)) else none
def sp_frm (F : List Nat) (al : Nat → Bool) (it : sp_I) (v : sp_V) (k : Nat) : List (Nat × sp_V) := (List.range' k (F.length - k)).filterMap (sp_frg F al it v)
theorem sp_frm_0 {F : List Nat} {al : Nat → Bool} {it : sp_I} {v : sp_V} (h : it.1 = 0) : sp_alt F al it v = sp_frm F al it v 0 := by
  unfold sp_alt sp_frm
  rw [if_pos h, List.range_eq_range']
  rfl
theorem sp_frm_step {F : List Nat} {al : Nat → Bool} {it : sp_I} {v : sp_V} {k : Nat} (h : k < F.length) : sp_frm F al it v k = (sp_frg F al it v k).toList ++ sp_frm F al it v (k + 1) := by
  unfold sp_frm
  rw [show F.length - k = (F.length - (k + 1)) + 1 by omega, List.range'_succ, List.filterMap_cons]
  cases sp_frg F al it v k <;> rfl
theorem sp_frm_skip {F : List Nat} {al : Nat → Bool} {it : sp_I} {v : sp_V} : ∀ (n i : Nat), i + n ≤ F.length → (∀ k, i ≤ k → k < i + n → sp_frg F al it v k = none) → sp_frm F al it v i = sp_frm F al it v (i + n) := by
  intro n
  induction n with
  | zero => intro i _ _; rfl
  | succ n ih =>
    intro i h1 h2
    rw [sp_frm_step (by omega), h2 i (Nat.le_refl _) (by omega)]
    show [] ++ _ = _
    rw [List.nil_append, ih (i + 1) (by omega) (fun k hk hk2 => h2 k (by omega) (by omega))]
    congr 1
    omega
theorem sp_frm_end {F : List Nat} {al : Nat → Bool} {it : sp_I} {v : sp_V} {k : Nat} (h : F.length ≤ k) : sp_frm F al it v k = [] := by
  unfold sp_frm
  rw [show F.length - k = 0 by omega]
  rfl
/-- the facts of a relation lie side by side -/
theorem sp_frm_rel {F : List Nat} (hs : sp_srt F) {al : Nat → Bool} {it : sp_I} {v : sp_V} : sp_frm F al it v 0 = sp_frm F al it v (sf_pl F (1000000 * it.2.1)) ∧ sp_frm F al it v (sf_pl F (1000000 * (it.2.1 + 1))) = [] ∧ sf_pl F (1000000 * it.2.1) ≤ sf_pl F (1000000 * (it.2.1 + 1)) ∧ ∀ k x, sf_pl F (1000000 * it.2.1) ≤ k → k < sf_pl F (1000000 * (it.2.1 + 1)) → F[k]? = some x → x / 1000000 = it.2.1 := by
  have s1 := sf_pl_spec hs (1000000 * it.2.1)
  have s2 := sf_pl_spec hs (1000000 * (it.2.1 + 1))
  have l1 := sf_pl_le F (1000000 * it.2.1)
  have l2 := sf_pl_le F (1000000 * (it.2.1 + 1))
  have g : ∀ k x, F[k]? = some x → x / 1000000 ≠ it.2.1 → sp_frg F al it v k = none := fun k x hx hne => by
    unfold sp_frg
    rw [if_neg]
    rw [sp_getD hx]
    exact fun q => hne q.2
  refine ⟨?_, ?_, ?_, fun k x h1 h2 hx => ?_⟩
  · have := sp_frm_skip (F := F) (al := al) (it := it) (v := v) (sf_pl F (1000000 * it.2.1)) 0 (by omega) (fun k _ hk => by
      have hx := List.getElem?_eq_getElem (l := F) (show k < F.length by omega)
      have := s1.1 k _ (by omega) hx
      exact g k _ hx (by omega))
    rw [this, Nat.zero_add]
  · have := sp_frm_skip (F := F) (al := al) (it := it) (v := v) (F.length - sf_pl F (1000000 * (it.2.1 + 1))) (sf_pl F (1000000 * (it.2.1 + 1))) (by omega) (fun k hk hk2 => by
      have hx := List.getElem?_eq_getElem (l := F) (show k < F.length by omega)
      have := s2.2 k _ hk hx
      exact g k _ hx (by omega))
    rw [this]
    exact sp_frm_end (by omega)
  · refine Nat.le_of_not_lt (fun hlt => ?_)
    have hx := List.getElem?_eq_getElem (l := F) (show sf_pl F (1000000 * (it.2.1 + 1)) < F.length by omega)
    have a1 := s1.1 _ _ hlt hx
    have a2 := s2.2 _ _ (Nat.le_refl _) hx
    omega
  · have a1 := s1.2 _ _ h1 hx
    have a2 := s2.1 _ _ h2 hx
    omega
/-! lists, frozen -/
def xLs (G : rv_G) (rd : Nat → rv_C → Prop) (a : Nat) (es : List Nat) : Prop := ∃ (m : Int32) (ed cap : Nat) (f : Nat → Option Nat), rd a (cO 17 [.int m, .ref ed, .int (nI es.length)]) ∧ rd ed (cR cap f) ∧ (es.length ≤ cap ∧ xoa G ed) ∧ cap < 60000000 ∧ ∀ (i e : Nat), es[i]? = some e → f i = some e
theorem xLs.mono {G : rv_G} {rd rd2 : Nat → rv_C → Prop} {a : Nat} {es : List Nat} (h : xLs G rd a es) (hm : ∀ a c, rd a c → rd2 a c) : xLs G rd2 a es := by
  obtain ⟨m, ed, cap, f, h1, h2, h3⟩ := h
  exact ⟨m, ed, cap, f, hm _ _ h1, hm _ _ h2, h3⟩
theorem xLs.L {G : rv_G} {h : rv_H} {a : Nat} {es : List Nat} (k : xLs G (rv_rd G h) a es) : xL G h a es := by
  obtain ⟨m, ed, cap, f, h1, h2, h3, h4⟩ := k
  exact ⟨m, ed, cap, f, h1, h2, h3.1, h4⟩
theorem xLs.len {G : rv_G} {rd : Nat → rv_C → Prop} {a : Nat} {es : List Nat} (h : xLs G rd a es) : es.length < 60000000 := by
  obtain ⟨m, ed, cap, f, -, -, h3, h4, -⟩ := h
  omega
/-- a list of things of a kind -/
def xLp {α : Type} (G : rv_G) (rd : Nat → rv_C → Prop) (P : (Nat → rv_C → Prop) → Nat → α → Prop) (a : Nat) (xs : List α) : Prop := ∃ es, xLs G rd a es ∧ es.length = xs.length ∧ ∀ (i e : Nat) (x : α), es[i]? = some e → xs[i]? = some x → P rd e x
theorem xLp.mono {α : Type} {G : rv_G} {rd rd2 : Nat → rv_C → Prop} {P : (Nat → rv_C → Prop) → Nat → α → Prop} {a : Nat} {xs : List α} (h : xLp G rd P a xs) (hm : ∀ a c, rd a c → rd2 a c) (hP : ∀ a x, P rd a x → P rd2 a x) : xLp G rd2 P a xs := by
  obtain ⟨es, h1, h2, h3⟩ := h
  exact ⟨es, h1.mono hm, h2, fun i e x he hx => hP _ _ (h3 i e x he hx)⟩
theorem xLp.get {α : Type} {rd : Nat → rv_C → Prop} {P : (Nat → rv_C → Prop) → Nat → α → Prop} {xs : List α} {es : List Nat} (h2 : es.length = xs.length) (h3 : ∀ (i e : Nat) (x : α), es[i]? = some e → xs[i]? = some x → P rd e x) {i : Nat} {x : α} (hx : xs[i]? = some x) : ∃ e, es[i]? = some e ∧ P rd e x := by
  have hl := (List.getElem?_eq_some_iff.mp hx).1
  exact ⟨es[i], List.getElem?_eq_getElem (by omega), h3 i _ x (List.getElem?_eq_getElem (by omega)) hx⟩
/-! a call of a taker, as the matcher makes it -/
def xTk (G : rv_G) (dt tk vr fr : Nat) (h : rv_H) (Q : rv_O → rv_H → Prop) : Prop := ∀ (X : rv_X) (d : Nat) (L : List (Option Value)) (st : List Value), X.1 = G → rv_K X yX9_go cX9_go d → dt + 1 ≤ d → (st.map fun v => v.category).sum ≤ 8 → (∀ v h', Q (.inl v) h' → rv_V X h' 38 L (v.toList ++ st)) → (∀ E h', Q (.inr E) h' → rv_T X h' 33 L E) → rv_V X h 33 L (.ref fr :: .ref vr :: .ref tk :: st)
/-- what a taker's call leaves -/
def xTkQ {S : Type} (G : rv_G) (F : xF) (T : S → xM) (nb mb : S → Nat) (vr fr : Nat) (vf ff : Nat → Int32) (n m : Nat) (h : rv_H) (s : S) (res : Option (S × Bool)) : rv_O → rv_H → Prop :=
  xT (fun u h' => ∃ s' b, res = some (s', b) ∧ u = some (.int (rv_z b)) ∧ xS G F h (vr :: fr :: xad (T s)) ((vr, cI 8 vf) :: (fr, cI 3 ff) :: T s') (n + nb s') (m + mb s') h') (fun E h' => E = RX6 ∧ res = none ∧ xS G F h (vr :: fr :: xad (T s)) [] n m h')
/-- a taker's contract: M0 the matches that may come -/
def xTkr {S : Type} (G : rv_G) (F : xF) (T : S → xM) (nb mb : S → Nat) (stp : S → sp_Q → Option (S × Bool)) (dt tk vr fr : Nat) (Fs : List Nat) (its : List sp_I) (M0 : List sp_Q) : Prop :=
  ∀ (s : S) (q : sp_Q) (vf ff : Nat → Int32) (n m : Nat) (h : rv_H), q ∈ M0 → xva q.2 vf → (∀ i f, (sp_fs Fs (sp_atk its q.1))[i]? = some f → ff i = nI f) → xH G F ((vr, cI 8 vf) :: (fr, cI 3 ff) :: T s) (n + nb s) (m + mb s) h → xTk G dt tk vr fr h (xTkQ G F T nb mb vr fr vf ff n m h s (stp s q))
/-- what is the same all the while -/
def xGo {S : Type} (G : rv_G) (F : xF) (T : S → xM) (nb mb : S → Nat) (stp : S → sp_Q → Option (S × Bool)) (dt ia st tk vr fr : Nat) (nw : Option (Nat × Nat)) (ro : Int32) (Ss : List Nat) (body its : List sp_I) (Fs : List Nat) (r : Nat → Nat) (M0 : List sp_Q) : Prop :=
  (rv_GK G ∧ xLp G (xr G F) xIt ia body ∧ xFc (xr G F) st Fs r) ∧ (body.length ≤ 6 ∧ (∃ len, its = body.take len) ∧ (its.filter (fun it => it.1 == 0)).length ≤ 3) ∧ ((∀ n, n ∈ Ss → 1 ≤ n ∧ n ≤ 3) ∧ Ss.length ≤ 8 ∧ ∀ it, it ∈ its → sp_wfI Ss it) ∧ ((∀ p, nw = some p → ro = nI p.2 ∧ p.1 < 6 ∧ p.2 < 1000000) ∧ ∀ x, x ∈ Fs → r x < 1000000) ∧ xTkr G F T nb mb stp dt tk vr fr Fs its M0
/-- what go leaves -/
def xGoQ {S : Type} (G : rv_G) (F : xF) (T : S → xM) (nb mb : S → Nat) (mo ia st tk vr fr len : Nat) (nw : Option (Nat × Nat)) (ro : Int32) (v : sp_V) (ff : Nat → Int32) (a n m : Nat) (h : rv_H) (s : S) (res : Option (S × Bool)) (TG : Nat) : rv_O → rv_H → Prop :=
  xT (fun u h' => ∃ s' b vf' ff' rch', res = some (s', b) ∧ u = none ∧ xva v vf' ∧ (∀ i, i < a → ff' i = ff i) ∧ (rch' ≤ 6 ∧ (nw = none → rch' = TG)) ∧ xS G F h (mo :: vr :: fr :: xad (T s)) ((mo, mX ia len st tk vr fr (rv_oi (nw.map (fun p => p.1))) ro (!b) rch') :: (vr, cI 8 vf') :: (fr, cI 3 ff') :: T s') (n + nb s') (m + mb s') h') (fun E h' => E = RX6 ∧ res = none ∧ xS G F h (mo :: vr :: fr :: xad (T s)) [] n m h')
/-- the matches from here on -/
def xMs (Fs : List Nat) (r : Nat → Nat) (nw : Option (Nat × Nat)) (a : Nat) (ks : List Nat) (its : List sp_I) (v : sp_V) : List sp_Q := (sp_mat Fs (xal Fs r nw) a its v).map (fun q => (ks ++ q.1, q.2))
/-- go from a place on -/
def xGoC {S : Type} (G : rv_G) (F : xF) (T : S → xM) (nb mb : S → Nat) (stp : S → sp_Q → Option (S × Bool)) (dt mo ia st tk vr fr : Nat) (nw : Option (Nat × Nat)) (ro : Int32) (its : List sp_I) (Fs : List Nat) (r : Nat → Nat) (M0 : List sp_Q) (rest : List sp_I) : Prop :=
  ∀ (d a : Nat) (pre : List sp_I) (ks : List Nat) (v : sp_V) (vf ff : Nat → Int32) (s : S) (rch n m : Nat) (h : rv_H), its = pre ++ rest → 2 * rest.length + dt + 4 ≤ d → ks.length = pre.length → a = (sp_atk pre ks).length → xva v vf → (∀ i f, (sp_fs Fs (sp_atk pre ks))[i]? = some f → ff i = nI f) → sp_okA Fs rest v → (∀ q, q ∈ xMs Fs r nw a ks rest v → q ∈ M0) → rch ≤ 6 → xH G F ((mo, mX ia its.length st tk vr fr (rv_oi (nw.map (fun p => p.1))) ro false rch) :: (vr, cI 8 vf) :: (fr, cI 3 ff) :: T s) (n + nb s) (m + mb s) h →
    rv_Call G d yX9_go wX9_go [.ref mo, .int (nI pre.length), .int (nI a)] h (xGoQ G F T nb mb mo ia st tk vr fr its.length nw ro v ff a n m h s (xfold stp s (xMs Fs r nw a ks rest v)) (Nat.max rch (pre.length + sp_reach Fs rest v)))
theorem j_max {G : rv_G} (hG : rv_GK G) {d a b : Nat} (ha : a < 2147483648) (hb : b < 2147483648) {h : rv_H} : rv_Call G d yJ12_max wJ12_max [.int (nI a), .int (nI b)] h (xN (fun u h' => h' = h ∧ u = some (.int (nI (Nat.max a b))))) := by
  refine rv_startF hG (by decide +kernel) (L := [some (.int (nI a)), some (.int (nI b))]) rfl (Nat.le_of_ble_eq_true rfl) (fun X hX1 hX hE => ?_)
  subst hX1
  have e1 : b ≤ a → Nat.max a b = a := fun q => Nat.max_eq_left q
  have e2 : a ≤ b → Nat.max a b = b := fun q => Nat.max_eq_right q
  refine rv_iload_n hX dJ12_max_0 rfl ?_
  refine rv_iload_n hX dJ12_max_1 rfl ?_
  first | refine nv_icmp_lt hX 9 (by omega) (by omega) dJ12_max_2 (by decide) (fun c_2 => ?_) (fun c_2 => ?_) | refine rv_icmp_lt hX 9 dJ12_max_2 (by decide) (fun c_2 => ?_) (fun c_2 => ?_)
  · skip
    refine rv_iload_n hX dJ12_max_9 rfl ?_
    refine rv_ireturn hX hE rfl ?_ dJ12_max_10
    refine ⟨rfl, ?_⟩
    first
      | rw [e1 (by omega)]
      | rw [e2 (by omega)]
  · skip
    refine rv_iload_n hX dJ12_max_5 rfl ?_
    refine rv_goto hX 10 dJ12_max_6 (by decide) ?_
    refine rv_ireturn hX hE rfl ?_ dJ12_max_10
    refine ⟨rfl, ?_⟩
    first
      | rw [e1 (by omega)]
      | rw [e2 (by omega)]
