/-! PLANS: in which order a rule's atoms are matched -/
set_option maxRecDepth 100000
theorem ib_and (a b : Int32) (k : Nat) : ib (a &&& b) k = (ib a k && ib b k) := by
  unfold ib
  rw [Int32.toBitVec_and, BitVec.getLsbD_and]
theorem ib_eq0 (a : Int32) : a = 0 ↔ ∀ k, ib a k = false := by
  constructor
  · intro h k
    rw [h]
    exact ib_0 k
  · intro h
    rw [← Int32.toBitVec_inj]
    apply BitVec.eq_of_getLsbD_eq
    intro i hi
    rw [show a.toBitVec.getLsbD i = false from h i]
    show false = (BitVec.ofNat 32 0).getLsbD i
    simp
def sp_it (its : List sp_I) (i : Nat) : sp_I := its.getD i (0, 0, [])
theorem sp_it_get {its : List sp_I} {i : Nat} {it : sp_I} (h : its[i]? = some it) : sp_it its i = it := by
  unfold sp_it
  rw [List.getD_eq_getElem?_getD, h]
  rfl
theorem sp_it_some {its : List sp_I} {i : Nat} (h : i < its.length) : its[i]? = some (sp_it its i) := by
  unfold sp_it
  rw [List.getD_eq_getElem?_getD, List.getElem?_eq_getElem h]
  rfl
/-- whether an item has a variable -/
def sp_iv (it : sp_I) (v : Nat) : Bool := decide (100 + v ∈ it.2.2)
/-- places of atoms -/
def sp_aix (its : List sp_I) : List Nat := sp_atk its (List.range its.length)
theorem sp_atk_mem {its : List sp_I} : ∀ {ks : List Nat} {k : Nat}, k ∈ sp_atk its ks ↔ ∃ (i : Nat) (it : sp_I), its[i]? = some it ∧ it.1 = 0 ∧ ks[i]? = some k := by
  induction its with
  | nil =>
    intro ks k
    refine ⟨fun h => (by cases h), fun ⟨i, it, h, _⟩ => (by cases h)⟩
  | cons a its ih =>
    intro ks k
    cases ks with
    | nil => exact ⟨fun h => (by cases h), fun ⟨i, it, h, h2, h3⟩ => (by cases h3)⟩
    | cons b ks =>
      have e : sp_atk (a :: its) (b :: ks) = if a.1 = 0 then b :: sp_atk its ks else sp_atk its ks := rfl
      rw [e]
      constructor
      · intro h
        split at h
        · rename_i q
          rcases List.mem_cons.mp h with h | h
          · subst h
            exact ⟨0, a, rfl, q, rfl⟩
          · obtain ⟨i, it, h1, h2, h3⟩ := ih.mp h
            exact ⟨i + 1, it, h1, h2, h3⟩
        · obtain ⟨i, it, h1, h2, h3⟩ := ih.mp h
          exact ⟨i + 1, it, h1, h2, h3⟩
      · rintro ⟨i, it, h1, h2, h3⟩
        cases i with
        | zero =>
          cases h1
          cases h3
          rw [if_pos h2]
          exact List.mem_cons_self
        | succ i =>
          have := ih.mpr ⟨i, it, h1, h2, h3⟩
          split
          · exact List.mem_cons_of_mem _ this
          · exact this
theorem sp_aix_mem {its : List sp_I} {i : Nat} : i ∈ sp_aix its ↔ ∃ it, its[i]? = some it ∧ it.1 = 0 := by
  unfold sp_aix
  rw [sp_atk_mem]
  constructor
  · rintro ⟨j, it, h1, h2, h3⟩
    have hj := (List.getElem?_eq_some_iff.mp h1).1
    rw [List.getElem?_range hj] at h3
    cases h3
    exact ⟨it, h1, h2⟩
  · rintro ⟨it, h1, h2⟩
    have hj := (List.getElem?_eq_some_iff.mp h1).1
    exact ⟨i, it, h1, h2, List.getElem?_range hj⟩
theorem sp_aix_len {its : List sp_I} : (sp_aix its).length = (its.filter (fun it => it.1 == 0)).length := sp_atk_nat (List.length_range)
theorem sp_atk_nd {its : List sp_I} : ∀ {ks : List Nat}, ks.Nodup → (sp_atk its ks).Nodup := by
  induction its with
  | nil => intro ks _; cases ks <;> exact List.nodup_nil
  | cons a its ih =>
    intro ks h
    cases ks with
    | nil => exact List.nodup_nil
    | cons b ks =>
      obtain ⟨h1, h2⟩ := List.nodup_cons.mp h
      show (if a.1 = 0 then b :: sp_atk its ks else sp_atk its ks).Nodup
      split
      · exact List.nodup_cons.mpr ⟨fun q => h1 (sp_atk_sub q), ih h2⟩
      · exact ih h2
/-- whether an item may be taken next -/
def sp_isn (its : List sp_I) (T V : Nat → Bool) (i : Nat) : Bool := decide ((sp_it its i).1 = 0) && !T i && (!(List.range 8).any V || (List.range 8).any (fun v => V v && sp_iv (sp_it its i) v))
/-- whether an atom is better than what is found -/
def sp_bt (F : List Nat) (its : List sp_I) (x : Option Nat) (i : Nat) : Bool := match x with
  | none => true
  | some j => decide (sp_cnt F (sp_it its i).2.1 < sp_cnt F (sp_it its j).2.1)
/-- the next atom among the first n items -/
def sp_na (F : List Nat) (its : List sp_I) (T V : Nat → Bool) : Nat → Option Nat
  | 0 => none
  | i + 1 => if sp_isn its T V i && sp_bt F its (sp_na F its T V i) i then some i else sp_na F its T V i
theorem sp_na_spec {F : List Nat} {its : List sp_I} {T V : Nat → Bool} : ∀ {n : Nat}, (∀ j, sp_na F its T V n = some j → j < n ∧ sp_isn its T V j = true) ∧ (sp_na F its T V n = none → ∀ i, i < n → sp_isn its T V i = false) := by
  intro n
  induction n with
  | zero => exact ⟨fun j h => (by cases h), fun _ i h => absurd h (Nat.not_lt_zero _)⟩
  | succ n ih =>
    have e : sp_na F its T V (n + 1) = if sp_isn its T V n && sp_bt F its (sp_na F its T V n) n then some n else sp_na F its T V n := rfl
    rw [e]
    constructor
    · intro j h
      split at h
      · rename_i q
        cases h
        exact ⟨Nat.lt_succ_self _, (Bool.and_eq_true_iff.mp q).1⟩
      · have := ih.1 j h
        exact ⟨by omega, this.2⟩
    · intro h i hi
      split at h
      · cases h
      · rename_i q
        rw [h] at q
        by_cases g : i = n
        · subst g
          cases e2 : sp_isn its T V i with
          | false => rfl
          | true => exact absurd (by rw [e2]; rfl) q
        · exact ih.2 h i (by omega)
def sp_tkn (tk : List Nat) (i : Nat) : Bool := decide (i ∈ tk)
def sp_tkv (its : List sp_I) (tk : List Nat) (v : Nat) : Bool := tk.any (fun i => sp_iv (sp_it its i) v)
/-- the item that is taken behind others -/
def sp_pn (F : List Nat) (its : List sp_I) (tk : List Nat) : Nat := match (if (List.range 8).any (sp_tkv its tk) then sp_na F its (sp_tkn tk) (sp_tkv its tk) its.length else none) with
  | some i => i
  | none => (sp_na F its (sp_tkn tk) (fun _ => false) its.length).getD 0
def sp_pl (F : List Nat) (its : List sp_I) : Nat → List Nat
  | 0 => []
  | n + 1 => sp_pl F its n ++ [sp_pn F its (sp_pl F its n)]
theorem sp_pl_len {F : List Nat} {its : List sp_I} : ∀ {n : Nat}, (sp_pl F its n).length = n := by
  intro n
  induction n with
  | zero => rfl
  | succ n ih =>
    show (sp_pl F its n ++ [_]).length = _
    rw [List.length_append, ih]
    rfl
theorem sp_isn_a {its : List sp_I} {tk : List Nat} {V : Nat → Bool} {i : Nat} (hi : i < its.length) (h : sp_isn its (sp_tkn tk) V i = true) : i ∈ sp_aix its ∧ i ∉ tk := by
  unfold sp_isn at h
  obtain ⟨h1, h2⟩ := Bool.and_eq_true_iff.mp h
  obtain ⟨h3, h4⟩ := Bool.and_eq_true_iff.mp h1
  refine ⟨sp_aix_mem.mpr ⟨_, sp_it_some hi, of_decide_eq_true h3⟩, fun q => ?_⟩
  unfold sp_tkn at h4
  rw [decide_eq_true q] at h4
  cases h4
theorem sp_free {its : List sp_I} {tk : List Nat} (hn : tk.Nodup) (hs : ∀ x, x ∈ tk → x ∈ sp_aix its) (hl : tk.length < (sp_aix its).length) : ∃ i, i < its.length ∧ sp_isn its (sp_tkn tk) (fun _ => false) i = true := by
  have hnd : (sp_aix its).Nodup := sp_atk_nd List.nodup_range
  obtain ⟨i, h1, h2⟩ : ∃ i, i ∈ sp_aix its ∧ i ∉ tk := by
    refine Classical.byContradiction (fun q => ?_)
    have := sp_nd_len hnd (fun x hx => Classical.byContradiction (fun q2 => q ⟨x, hx, q2⟩) : ∀ x, x ∈ sp_aix its → x ∈ tk)
    omega
  obtain ⟨it, h3, h4⟩ := sp_aix_mem.mp h1
  refine ⟨i, (List.getElem?_eq_some_iff.mp h3).1, ?_⟩
  unfold sp_isn sp_tkn
  rw [sp_it_get h3, decide_eq_true h4, decide_eq_false h2]
  rfl
/-- the item that is taken is an atom that was not -/
theorem sp_pn_spec {F : List Nat} {its : List sp_I} {tk : List Nat} (hn : tk.Nodup) (hs : ∀ x, x ∈ tk → x ∈ sp_aix its) (hl : tk.length < (sp_aix its).length) : sp_pn F its tk ∈ sp_aix its ∧ sp_pn F its tk ∉ tk ∧ sp_pn F its tk < its.length ∧ ((if (List.range 8).any (sp_tkv its tk) then sp_na F its (sp_tkn tk) (sp_tkv its tk) its.length else none) = some (sp_pn F its tk) ∨ ((if (List.range 8).any (sp_tkv its tk) then sp_na F its (sp_tkn tk) (sp_tkv its tk) its.length else none) = none ∧ sp_na F its (sp_tkn tk) (fun _ => false) its.length = some (sp_pn F its tk))) := by
  unfold sp_pn
  cases e : (if (List.range 8).any (sp_tkv its tk) then sp_na F its (sp_tkn tk) (sp_tkv its tk) its.length else none) with
  | some i =>
    show i ∈ sp_aix its ∧ i ∉ tk ∧ i < its.length ∧ (some i = some i ∨ _)
    split at e
    · obtain ⟨a, b⟩ := sp_na_spec.1 i e
      obtain ⟨c, d⟩ := sp_isn_a a b
      exact ⟨c, d, a, Or.inl rfl⟩
    · cases e
  | none =>
    show (sp_na F its (sp_tkn tk) (fun _ => false) its.length).getD 0 ∈ sp_aix its ∧ (sp_na F its (sp_tkn tk) (fun _ => false) its.length).getD 0 ∉ tk ∧ (sp_na F its (sp_tkn tk) (fun _ => false) its.length).getD 0 < its.length ∧ ((none : Option Nat) = some ((sp_na F its (sp_tkn tk) (fun _ => false) its.length).getD 0) ∨ (none : Option Nat) = none ∧ sp_na F its (sp_tkn tk) (fun _ => false) its.length = some ((sp_na F its (sp_tkn tk) (fun _ => false) its.length).getD 0))
    cases e2 : sp_na F its (sp_tkn tk) (fun _ => false) its.length with
    | none =>
      obtain ⟨i, h1, h2⟩ := sp_free hn hs hl
      rw [sp_na_spec.2 e2 i h1] at h2
      cases h2
    | some i =>
      obtain ⟨a, b⟩ := sp_na_spec.1 i e2
      obtain ⟨c, d⟩ := sp_isn_a a b
      exact ⟨c, d, a, Or.inr ⟨rfl, rfl⟩⟩
theorem sp_pl_spec {F : List Nat} {its : List sp_I} : ∀ {n : Nat}, n ≤ (sp_aix its).length → (sp_pl F its n).Nodup ∧ ∀ x, x ∈ sp_pl F its n → x ∈ sp_aix its := by
  intro n
  induction n with
  | zero => intro _; exact ⟨List.nodup_nil, fun x h => by cases h⟩
  | succ n ih =>
    intro h
    obtain ⟨i1, i2⟩ := ih (by omega)
    obtain ⟨p1, p2, -, -⟩ := sp_pn_spec (F := F) i1 i2 (by rw [sp_pl_len]; omega)
    show (sp_pl F its n ++ [sp_pn F its (sp_pl F its n)]).Nodup ∧ ∀ x, x ∈ sp_pl F its n ++ [sp_pn F its (sp_pl F its n)] → x ∈ sp_aix its
    refine ⟨?_, fun x hx => ?_⟩
    · rw [List.nodup_append]
      refine ⟨i1, by simp, fun x hx y hy e => ?_⟩
      rw [List.mem_singleton.mp hy] at e
      exact p2 (e ▸ hx)
    · rcases List.mem_append.mp hx with hx | hx
      · exact i2 x hx
      · rw [List.mem_singleton.mp hx]; exact p1
/-- how a rule's atoms are taken -/
def sp_plan (F : List Nat) (its : List sp_I) : List Nat := sp_pl F its (sp_aix its).length
def sp_wk (F : List Nat) (its : List sp_I) (ord : List Nat) : Nat → Nat
  | 0 => 0
  | n + 1 => sp_wk F its ord n + (sp_m F ((ord.take (n + 1)).map (sp_it its)) (fun _ => none)).length
theorem sp_okA_atoms {F : List Nat} {its : List sp_I} : ∀ {v : sp_V}, (∀ it, it ∈ its → it.1 = 0) → sp_okA F its v := by
  induction its with
  | nil => intro v _; trivial
  | cons it its ih => intro v h; exact ⟨fun q => absurd (h it List.mem_cons_self) q, fun a _ => ih (fun x hx => h x (List.mem_cons_of_mem _ hx))⟩
def wW.rule (w : wW) (r : Int32) : Option sp_C := (sp_find w.R r).bind (fun k => w.R[k]?)
def o_planAt (s : wS) (r p : Int32) : wA := match s.w.rule r with
  | none => (1, 0, s)
  | some C => match w_idx p (sp_aix C.its).length with
    | none => (1, 0, s)
    | some k => (0, nI ((sp_plan s.w.F C.its).getD k 0), s)
def o_work (s : wS) (r : Int32) (pl : Bool) : wA := match s.w.rule r with
  | none => (1, 0, s)
  | some C => (0, nI (sp_wk s.w.F C.its (if pl then sp_plan s.w.F C.its else sp_aix C.its) (sp_aix C.its).length), s)
