/-! ACTIVATIONS: what they are; firing -/
set_option maxRecDepth 100000
theorem sp_flat_len {α β : Type} {f : α → List β} {m : Nat} : ∀ {l : List α}, (∀ x, x ∈ l → (f x).length ≤ m) → (l.flatMap f).length ≤ l.length * m := by
  intro l
  induction l with
  | nil => intro _; exact Nat.zero_le _
  | cons x l ih =>
    intro h
    rw [List.flatMap_cons, List.length_append, List.length_cons, Nat.succ_mul]
    have := h x List.mem_cons_self
    have := ih (fun y hy => h y (List.mem_cons_of_mem _ hy))
    omega
theorem sp_alt_len {F : List Nat} {it : sp_I} {v : sp_V} : (sp_alt F (fun _ => true) it v).length ≤ if it.1 = 0 then F.length else 1 := by
  unfold sp_alt
  split
  · exact Nat.le_trans (List.length_filterMap_le _ _) (by rw [List.length_range]; exact Nat.le_refl _)
  · split
    · split <;> simp
    · split
      · split <;> simp
      · split
        · cases sp_bind v (it.2.2.getD 2 0) (sp_get v it.2.2 0 + sp_get v it.2.2 1) <;> simp
        · simp
theorem sp_m_len {F : List Nat} (hF : F.length ≤ 60) {its : List sp_I} : ∀ {v : sp_V}, (sp_m F its v).length ≤ 60 ^ (its.filter (fun it => it.1 == 0)).length := by
  induction its with
  | nil => intro v; exact Nat.le_refl _
  | cons it its ih =>
    intro v
    rw [sp_m_cons]
    have h1 := sp_flat_len (f := fun p : Nat × sp_V => (sp_m F its p.2).map (fun q => (p.1 :: q.1, q.2))) (l := sp_alt F (fun _ => true) it v) (m := 60 ^ (its.filter (fun it => it.1 == 0)).length) (fun p _ => by rw [List.length_map]; exact ih)
    refine Nat.le_trans h1 ?_
    have h2 := sp_alt_len (F := F) (it := it) (v := v)
    by_cases q : it.1 = 0
    · rw [if_pos q] at h2
      rw [List.filter_cons_of_pos (by simpa using q), List.length_cons, Nat.pow_succ, Nat.mul_comm _ 60]
      exact Nat.mul_le_mul_right _ (Nat.le_trans h2 hF)
    · rw [if_neg q] at h2
      rw [List.filter_cons_of_neg (by simpa using q)]
      calc _ ≤ 1 * _ := Nat.mul_le_mul_right _ h2
        _ = _ := Nat.one_mul _
theorem sp_m_len3 {S F : List Nat} (hF : F.length ≤ 60) {C : sp_C} (hw : sp_wfC S C) {v : sp_V} : (sp_m F C.its v).length ≤ 216000 := Nat.le_trans (sp_m_len hF) (Nat.le_trans (Nat.pow_le_pow_right (by decide) hw.atoms) (by decide))
/-- a match's places -/
theorem sp_m_ksl {F : List Nat} {its : List sp_I} : ∀ {v : sp_V} {q : sp_Q}, q ∈ sp_m F its v → q.1.length = its.length := by
  induction its with
  | nil => intro v q h; rw [List.mem_singleton.mp h]; rfl
  | cons it its ih =>
    intro v q h
    rw [sp_m_cons] at h
    obtain ⟨p, -, h2⟩ := List.mem_flatMap.mp h
    obtain ⟨r, hr, e⟩ := List.mem_map.mp h2
    rw [← e]
    show (p.1 :: r.1).length = _
    rw [List.length_cons, List.length_cons, ih hr]
theorem sp_atk_nat {its : List sp_I} : ∀ {ks : List Nat}, ks.length = its.length → (sp_atk its ks).length = (its.filter (fun it => it.1 == 0)).length := by
  induction its with
  | nil => intro ks h; rw [List.eq_nil_of_length_eq_zero h]; rfl
  | cons it its ih =>
    intro ks h
    cases ks with
    | nil => cases h
    | cons k ks =>
      show (if it.1 = 0 then k :: sp_atk its ks else sp_atk its ks).length = _
      have := ih (ks := ks) (Nat.succ.inj h)
      by_cases q : it.1 = 0
      · rw [if_pos q, List.filter_cons_of_pos (by simpa using q), List.length_cons, List.length_cons, this]
      · rw [if_neg q, List.filter_cons_of_neg (by simpa using q), this]
def wW.tv (w : wW) (k : Nat) : Nat := w.A.getD k 0
def wW.bst (w : wW) (m : Nat) : Option sp_Act × Nat := sp_bst w.F w.tv w.E w.D m w.D.length
def wW.nxt (w : wW) : Option Nat := sp_nxt w.bst w.K w.K.length
def wW.act (w : wW) : Option sp_Act := w.nxt.bind (fun k => (w.bst (w.K.getD k 0)).1)
/-- an activation is of a deed and a match -/
def sp_isA (F : List Nat) (tv : Nat → Nat) (Ds : List sp_C) (m : Nat) (a : sp_Act) : Prop := ∃ C q, Ds[a.1]? = some C ∧ C.mod = m ∧ q ∈ sp_m F C.its (fun _ => none) ∧ a = sp_act tv a.1 C q
theorem sp_pick_some {Cs : List sp_C} {C : sp_C} {B : Option sp_Act} {a : sp_Act} : (sp_pick Cs C B a).isSome = true ∧ ∀ e, sp_pick Cs C B a = some e → e = a ∨ B = some e := by
  cases B with
  | none => exact ⟨rfl, fun e h => Or.inl (Option.some.inj h).symm⟩
  | some b =>
    cases hE : Cs[b.1]? with
    | none =>
      have e : sp_pick Cs C (some b) a = some b := by
        unfold sp_pick
        show (match Cs[b.1]? with | none => some b | some E => if sp_aheadB C E a.2.1 b.2.1 = true then some a else some b) = _
        rw [hE]
      rw [e]
      exact ⟨rfl, fun e h => Or.inr h⟩
    | some E =>
      have e : sp_pick Cs C (some b) a = if sp_aheadB C E a.2.1 b.2.1 = true then some a else some b := by
        unfold sp_pick
        show (match Cs[b.1]? with | none => some b | some E => if sp_aheadB C E a.2.1 b.2.1 = true then some a else some b) = _
        rw [hE]
      rw [e]
      split
      · exact ⟨rfl, fun e h => Or.inl (Option.some.inj h).symm⟩
      · exact ⟨rfl, fun e h => Or.inr h⟩
theorem sp_pick_fold {Cs : List sp_C} {C : sp_C} : ∀ {l : List sp_Act} {B : Option sp_Act}, ((B.isSome = true ∨ 0 < l.length) → (l.foldl (sp_pick Cs C) B).isSome = true) ∧ ∀ e, l.foldl (sp_pick Cs C) B = some e → e ∈ l ∨ B = some e := by
  intro l
  induction l with
  | nil => intro B; exact ⟨fun h => h.elim id (fun q => absurd q (Nat.lt_irrefl _)), fun e h => Or.inr h⟩
  | cons a l ih =>
    intro B
    rw [List.foldl_cons]
    obtain ⟨p1, p2⟩ := sp_pick_some (Cs := Cs) (C := C) (B := B) (a := a)
    obtain ⟨i1, i2⟩ := ih (B := sp_pick Cs C B a)
    refine ⟨fun _ => i1 (Or.inl p1), fun e h => ?_⟩
    rcases i2 e h with q | q
    · exact Or.inl (List.mem_cons_of_mem _ q)
    · rcases p2 e q with q | q
      · exact Or.inl (by rw [q]; exact List.mem_cons_self)
      · exact Or.inr q
theorem sp_bst_spec {F : List Nat} {tv : Nat → Nat} {D : List (Nat × Nat × Nat × Nat)} {Ds : List sp_C} {m : Nat} : ∀ {k : Nat}, k ≤ Ds.length → (0 < (sp_bst F tv D Ds m k).2 → (sp_bst F tv D Ds m k).1.isSome = true) ∧ ∀ a, (sp_bst F tv D Ds m k).1 = some a → sp_isA F tv Ds m a := by
  intro k
  induction k with
  | zero => intro _; exact ⟨fun h => absurd h (Nat.lt_irrefl _), fun a h => by cases h⟩
  | succ k ih =>
    intro hk
    obtain ⟨i1, i2⟩ := ih (by omega)
    obtain ⟨C, hC⟩ : ∃ C, Ds[k]? = some C := ⟨Ds[k]'(by omega), List.getElem?_eq_getElem (by omega)⟩
    have e : sp_bst F tv D Ds m (k + 1) = if C.mod = m then ((sp_acts F tv D k C (sp_m F C.its (fun _ => none))).foldl (sp_pick Ds C) (sp_bst F tv D Ds m k).1, (sp_bst F tv D Ds m k).2 + (sp_acts F tv D k C (sp_m F C.its (fun _ => none))).length) else sp_bst F tv D Ds m k := by
      show (match Ds[k]? with | none => _ | some C => _) = _
      rw [hC]
    rw [e]
    by_cases q : C.mod = m
    · rw [if_pos q]
      obtain ⟨p1, p2⟩ := sp_pick_fold (Cs := Ds) (C := C) (l := sp_acts F tv D k C (sp_m F C.its (fun _ => none))) (B := (sp_bst F tv D Ds m k).1)
      refine ⟨fun h => p1 ?_, fun a h => ?_⟩
      · by_cases q2 : 0 < (sp_bst F tv D Ds m k).2
        · exact Or.inl (i1 q2)
        · exact Or.inr (by have : 0 < (sp_bst F tv D Ds m k).2 + (sp_acts F tv D k C (sp_m F C.its (fun _ => none))).length := h; omega)
      · rcases p2 a h with q2 | q2
        · obtain ⟨x, hx, e2⟩ := List.mem_map.mp (List.mem_filter.mp q2).1
          subst e2
          exact ⟨C, x, hC, q, hx, rfl⟩
        · exact i2 a q2
    · rw [if_neg q]
      exact ⟨i1, i2⟩
theorem sp_bst_len {S F : List Nat} {tv : Nat → Nat} {D : List (Nat × Nat × Nat × Nat)} {Ds : List sp_C} {m : Nat} (hF : F.length ≤ 60) (hw : ∀ C, C ∈ Ds → sp_wfC S C) : ∀ {k : Nat}, (sp_bst F tv D Ds m k).2 ≤ 216000 * k := by
  intro k
  induction k with
  | zero => exact Nat.le_refl _
  | succ k ih =>
    show (match Ds[k]? with | none => sp_bst F tv D Ds m k | some C => if C.mod = m then ((sp_acts F tv D k C (sp_m F C.its (fun _ => none))).foldl (sp_pick Ds C) (sp_bst F tv D Ds m k).1, (sp_bst F tv D Ds m k).2 + (sp_acts F tv D k C (sp_m F C.its (fun _ => none))).length) else sp_bst F tv D Ds m k).2 ≤ _
    cases hC : Ds[k]? with
    | none => show (sp_bst F tv D Ds m k).2 ≤ _; omega
    | some C =>
      show (if C.mod = m then ((sp_acts F tv D k C (sp_m F C.its (fun _ => none))).foldl (sp_pick Ds C) (sp_bst F tv D Ds m k).1, (sp_bst F tv D Ds m k).2 + (sp_acts F tv D k C (sp_m F C.its (fun _ => none))).length) else sp_bst F tv D Ds m k).2 ≤ _
      split
      · show (sp_bst F tv D Ds m k).2 + (sp_acts F tv D k C (sp_m F C.its (fun _ => none))).length ≤ _
        have : (sp_acts F tv D k C (sp_m F C.its (fun _ => none))).length ≤ 216000 := by
          unfold sp_acts
          refine Nat.le_trans (List.length_filter_le _ _) ?_
          rw [List.length_map]
          exact sp_m_len3 hF (hw C (List.mem_of_getElem? hC))
        omega
      · omega
theorem sp_nxt_spec {f : Nat → Option sp_Act × Nat} {K : List Nat} : ∀ {n k : Nat}, sp_nxt f K n = some k → k < n ∧ 0 < (f (K.getD k 0)).2 := by
  intro n
  induction n with
  | zero => intro k h; cases h
  | succ n ih =>
    intro k h
    have e : sp_nxt f K (n + 1) = if 0 < (f (K.getD n 0)).2 then some n else sp_nxt f K n := rfl
    rw [e] at h
    split at h
    · rename_i q
      cases h
      exact ⟨Nat.lt_succ_self _, q⟩
    · have := ih h
      exact ⟨by omega, this.2⟩
/-- the next activation is there if a place is -/
theorem wW.act_spec {w : wW} {k : Nat} (h : w.nxt = some k) : k < w.K.length ∧ ∃ a, (w.bst (w.K.getD k 0)).1 = some a ∧ w.act = some a ∧ sp_isA w.F w.tv w.D (w.K.getD k 0) a := by
  obtain ⟨h1, h2⟩ := sp_nxt_spec h
  obtain ⟨b1, b2⟩ := sp_bst_spec (F := w.F) (tv := w.tv) (D := w.E) (Ds := w.D) (m := w.K.getD k 0) (Nat.le_refl _)
  obtain ⟨a, ha⟩ := Option.isSome_iff_exists.mp (b1 h2)
  refine ⟨h1, a, ha, ?_, b2 a ha⟩
  unfold wW.act
  rw [h]
  exact ha
/-- the world behind a deed's firing, not settled -/
def wW.fireW (w : wW) (k : Nat) (a : sp_Act) (C : sp_C) : wW := ((w.setK (w.K.take (k + 1))).setE (w.E ++ [(C.num, a.2.2.2.1, a.2.2.2.2.1, a.2.2.2.2.2)])).setT (if C.tells = true then sp_tellF w.T a.2.2.1 0 else match sp_at w.T a.2.2.1 with
  | none => w.T
  | some j => w.T.eraseIdx j)
/-- fires once: the deed, -1 for none, -2 for a crowd; the world then -/
noncomputable def wW.fire1 (w : wW) : Int32 × wW := match w.nxt with
  | none => (-1, w.setK (w.K.take 1))
  | some k => match w.act.bind (fun a => (w.D[a.1]?).map (fun C => (a, C))) with
    | none => (-1, w)
    | some (a, C) => match (w.fireW k a C).stl with
      | none => (-2, w)
      | some w' => (nI C.num, w')
noncomputable def o_fire (s : wS) : wA := if s.w.fire1.1 = -2 then (1, 0, s) else (0, s.w.fire1.1, s.setw s.w.fire1.2)
noncomputable def wW.runs : Nat → Nat → wW → Nat × wW
  | 0, m, w => (m, w)
  | n + 1, m, w => if 0 ≤ w.fire1.1 then wW.runs n (m + 1) w.fire1.2 else (m, w.fire1.2)
noncomputable def o_run (s : wS) (most : Int32) : wA := if ¬ w_rng 1 10 most then (1, 0, s) else (0, nI (wW.runs most.toNatClampNeg 0 s.w).1, s.setw (wW.runs most.toNatClampNeg 0 s.w).2)
def o_agenda (s : wS) (m : Int32) : wA := if ¬ w_rng 0 3 m then (1, 0, s) else (0, nI (s.w.bst m.toNatClampNeg).2, s)
def o_next (s : wS) : wA := (0, (match s.w.act with
  | none => -1
  | some a => nI ((s.w.D.map (fun C => C.num)).getD a.1 0)), s)
def o_nextFact (s : wS) : wA := (0, (match s.w.act with
  | none => -1
  | some a => nI a.2.2.1), s)
def o_focus (s : wS) (m : Int32) : wA := if ¬ w_rng 0 3 m then (1, 0, s) else if s.w.K.length = 8 then (2, 0, s) else (0, nI (s.w.K.length + 1), s.setw (s.w.setK (s.w.K ++ [m.toNatClampNeg])))
def o_focused (s : wS) : wA := (0, nI (s.w.K.getLastD 0), s)
def o_now (s : wS) : wA := (0, nI s.w.now, s)
def o_begin (s : wS) : wA := if 0 < s.d.k ∨ s.b.length = 3 then (1, 0, s) else (0, nI (s.b.length + 1), s.setb (s.b ++ [s.w]))
def o_commit (s : wS) : wA := if 0 < s.d.k ∨ s.b.length = 0 then (1, 0, s) else (0, nI (s.b.length - 1), s.setb s.b.dropLast)
def o_rollBack (s : wS) : wA := if 0 < s.d.k then (1, 0, s) else match s.b.getLast? with
  | none => (1, 0, s)
  | some w => (0, nI w.F.length, (s.setw w).setb s.b.dropLast)
/-- a match's fact is a fact -/
theorem sp_key_ok {S F : List Nat} (hS : S.length ≤ 8 ∧ ∀ n, n ∈ S → 1 ≤ n ∧ n ≤ 3) {C : sp_C} (hw : sp_wfC S C) {q : sp_Q} (hq : q ∈ sp_m F C.its (fun _ => none)) : sp_faultN S (sp_key C q) = 0 ∧ sp_key C q < 8000000 ∧ sp_key C q / 1000000 = C.rel := by
  have hbd := sp_m_bd sp_none_bd q hq
  have hl := hw.ht3 hS.2
  have hl1 := (hS.2 _ (List.mem_of_getElem? hw.hd)).1
  have hrl := (List.getElem?_eq_some_iff.mp hw.hd).1
  have hlt := sp_hsum_lt hbd (by decide : 0 < 100) C.hts hl
  have hk : sp_key C q = 1000000 * C.rel + sp_hsum q.2 0 C.hts 0 := rfl
  have hdiv : sp_key C q / 1000000 = C.rel := by omega
  refine ⟨?_, by omega, hdiv⟩
  unfold sp_faultN
  rw [hdiv, hw.hd]
  show (if (if C.hts.length = 1 then sp_key C q % 10000 else if C.hts.length = 2 then sp_key C q % 100 else 0) = 0 then 0 else 2) = 0
  refine if_pos ?_
  rw [hk]
  match hts : C.hts, hl, hl1 with
  | [a], _, _ =>
    show (1000000 * C.rel + (10000 * sp_hval q.2 0 a + 0)) % 10000 = 0
    omega
  | [a, b], _, _ =>
    show (1000000 * C.rel + (10000 * sp_hval q.2 0 a + (100 * sp_hval q.2 0 b + 0))) % 100 = 0
    omega
  | [a, b, c], _, _ => rfl
