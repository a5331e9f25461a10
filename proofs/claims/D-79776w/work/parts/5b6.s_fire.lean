/-! FIRING KEEPS A WORLD SOUND -/
set_option maxRecDepth 100000
theorem sp_set_map {α β : Type} {f : α → β} {x : α} : ∀ {l : List α} {k : Nat}, l[k]?.map f = some (f x) → (l.set k x).map f = l.map f := by
  intro l
  induction l with
  | nil => intro k h; rfl
  | cons a l ih =>
    intro k h
    cases k with
    | zero =>
      have : f a = f x := Option.some.inj h
      show f x :: l.map f = f a :: l.map f
      rw [this]
    | succ k =>
      show f a :: (l.set k x).map f = f a :: l.map f
      rw [ih h]
theorem sp_tellF_ok {T : List (Nat × Nat)} {f e : Nat} {P : Nat × Nat → Prop} (h : (T.map (fun p => p.1)).Nodup) (hp : ∀ p, p ∈ T → P p) (hf : P (f, e)) : ((sp_tellF T f e).map (fun p => p.1)).Nodup ∧ ∀ p, p ∈ sp_tellF T f e → P p := by
  unfold sp_tellF
  cases hx : sp_at T f with
  | none =>
    show ((T ++ [(f, e)]).map (fun p => p.1)).Nodup ∧ ∀ p, p ∈ T ++ [(f, e)] → P p
    refine ⟨?_, fun p hm => ?_⟩
    · rw [List.map_append, List.nodup_append]
      refine ⟨h, by simp, fun x hx1 y hy => ?_⟩
      have hy' : y = f := by simpa using hy
      rw [hy']
      intro e2
      rw [e2] at hx1
      exact (sp_at_mem.mp hx) hx1
    · rcases List.mem_append.mp hm with hm | hm
      · exact hp p hm
      · rw [List.mem_singleton.mp hm]; exact hf
  | some k =>
    obtain ⟨e0, he⟩ := sp_at_some hx
    show ((if e = 0 ∨ (0 < (T.getD k (0, 0)).2 ∧ (T.getD k (0, 0)).2 < e) then T.set k (f, e) else T).map (fun p => p.1)).Nodup ∧ ∀ p, p ∈ (if e = 0 ∨ (0 < (T.getD k (0, 0)).2 ∧ (T.getD k (0, 0)).2 < e) then T.set k (f, e) else T) → P p
    split
    · refine ⟨by rw [sp_set_map (by rw [he]; rfl)]; exact h, fun p hm => ?_⟩
      rcases List.mem_or_eq_of_mem_set hm with hm | hm
      · exact hp p hm
      · rw [hm]; exact hf
    · exact ⟨h, hp⟩
theorem sp_erase_ok {T : List (Nat × Nat)} {j : Nat} {P : Nat × Nat → Prop} (h : (T.map (fun p => p.1)).Nodup) (hp : ∀ p, p ∈ T → P p) : ((T.eraseIdx j).map (fun p => p.1)).Nodup ∧ ∀ p, p ∈ T.eraseIdx j → P p := ⟨((List.eraseIdx_sublist T j).map _).nodup h, fun p hm => hp p ((List.eraseIdx_sublist T j).mem hm)⟩
theorem sp_tagk_pat {tv : Nat → Nat} {l : List Nat} (h : ∀ k, k ∈ l → tv k ≠ 0) (i : Nat) : i + 1 ≤ l.length ↔ sp_tagk tv l i ≠ 0 := by
  unfold sp_tagk
  cases e : l[i]? with
  | none =>
    have := List.getElem?_eq_none_iff.mp e
    exact ⟨fun q => absurd q (by omega), fun q => absurd rfl q⟩
  | some k =>
    have := (List.getElem?_eq_some_iff.mp e).1
    exact ⟨fun _ => h k (List.mem_of_getElem? e), fun _ => this⟩
theorem wfX.tvA {n ng ne nn : Nat} {w : wW} (h : wfX n ng ne nn w) {k : Nat} (hk : k < w.F.length) : 1 ≤ w.tv k ∧ w.tv k ≤ w.g := by
  have hA := h.1.2.2.2.2.2.1
  have hk2 : k < w.A.length := by rw [hA.1]; exact hk
  have : w.tv k = w.A[k] := by
    unfold wW.tv
    rw [List.getD_eq_getElem?_getD, List.getElem?_eq_getElem hk2]
    rfl
  rw [this]
  exact hA.2.2.1 _ (List.getElem_mem hk2)
theorem wfX.tvg {n ng ne nn : Nat} {w : wW} (h : wfX n ng ne nn w) (k : Nat) : w.tv k < w.g + 1 := by
  by_cases q : k < w.F.length
  · have := (h.tvA q).2; omega
  · unfold wW.tv
    rw [List.getD_eq_getElem?_getD, List.getElem?_eq_none (by rw [h.1.2.2.2.2.2.1.1]; omega)]
    exact Nat.succ_pos _
theorem wfX.pat {n ng ne nn : Nat} {w : wW} (h : wfX n ng ne nn w) {C : sp_C} {q : sp_Q} (hq : q ∈ sp_m w.F C.its (fun _ => none)) {m : Nat} : sp_pat C (m, sp_tagk w.tv (sp_atk C.its q.1) 0, sp_tagk w.tv (sp_atk C.its q.1) 1, sp_tagk w.tv (sp_atk C.its q.1) 2) := by
  have hn : (sp_atk C.its q.1).length = sp_nat C := sp_atk_nat (sp_m_ksl hq)
  have h0 : ∀ k, k ∈ sp_atk C.its q.1 → w.tv k ≠ 0 := fun k hk => by
    have := (h.tvA (sp_m_ks hq k hk)).1
    omega
  unfold sp_pat
  rw [← hn]
  exact ⟨sp_tagk_pat h0 0, sp_tagk_pat h0 1, sp_tagk_pat h0 2⟩
theorem wfX.fireW {n ng ne nn : Nat} {w : wW} (h : wfX n ng ne nn w) {k : Nat} (hk : k < w.K.length) {m : Nat} {a : sp_Act} (ha : sp_isA w.F w.tv w.D m a) {C : sp_C} (hC : w.D[a.1]? = some C) : wfP n ng (ne + 1) nn (w.fireW k a C) := by
  have hX := h
  obtain ⟨⟨hS, hR, hD, hT, hF, hA, hK, hN, hE⟩, hset⟩ := h
  obtain ⟨C', q, a1, a2, a3, a4⟩ := ha
  rw [hC] at a1
  cases a1
  have hCm := List.mem_of_getElem? hC
  have hCw := hD.2.1 C hCm
  refine ⟨hS, hR, hD, ?_, hF, hA, ?_, hN, ?_, ?_⟩
  · have hkey := sp_key_ok hS hCw.1 a3
    have hkey2 : a.2.2.1 = sp_key C q := by rw [a4]; rfl
    show ((if C.tells = true then sp_tellF w.T a.2.2.1 0 else match sp_at w.T a.2.2.1 with
      | none => w.T
      | some j => w.T.eraseIdx j).map (fun p => p.1)).Nodup ∧ ∀ p, p ∈ (if C.tells = true then sp_tellF w.T a.2.2.1 0 else match sp_at w.T a.2.2.1 with
      | none => w.T
      | some j => w.T.eraseIdx j) → sp_faultN w.S p.1 = 0 ∧ p.2 ≤ nn + 100
    split
    · exact sp_tellF_ok hT.1 hT.2 ⟨by rw [hkey2]; exact hkey.1, Nat.zero_le _⟩
    · split
      · exact hT
      · exact sp_erase_ok hT.1 hT.2
  · show 1 ≤ (w.K.take (k + 1)).length ∧ (w.K.take (k + 1)).length ≤ 8 ∧ ∀ m, m ∈ w.K.take (k + 1) → m < 4
    rw [List.length_take]
    exact ⟨by omega, by omega, fun m hm => hK.2.2 m (List.mem_of_mem_take hm)⟩
  · show (w.E ++ [(C.num, a.2.2.2.1, a.2.2.2.2.1, a.2.2.2.2.2)]).length ≤ ne + 1
    rw [List.length_append]
    have := hE.1
    show w.E.length + 1 ≤ _
    omega
  · intro e he
    have he' : e ∈ w.E ++ [(C.num, a.2.2.2.1, a.2.2.2.2.1, a.2.2.2.2.2)] := he
    rcases List.mem_append.mp he' with he' | he'
    · exact hE.2 e he'
    · rw [List.mem_singleton.mp he', a4]
      refine ⟨hCw.2.1, ?_, ?_, ?_, fun C2 hC2 hn => ?_⟩
      · exact Nat.lt_succ_iff.mp (sp_tagk_lt hX.tvg (Nat.succ_pos _))
      · exact Nat.lt_succ_iff.mp (sp_tagk_lt hX.tvg (Nat.succ_pos _))
      · exact Nat.lt_succ_iff.mp (sp_tagk_lt hX.tvg (Nat.succ_pos _))
      · obtain ⟨i, hi⟩ := List.getElem?_of_mem hC2
        have hi2 : w.D[i]? = some C2 := hi
        have := sp_nd_map hD.2.2.1 hi2 hC hn
        rw [this, hC] at hi2
        cases hi2
        exact hX.pat a3
theorem wfX.fire1 {n ng ne nn : Nat} {w : wW} (h : wfX n ng ne nn w) : wfX n (ng + 60) (ne + 1) nn w.fire1.2 ∧ w.fire1.2.S = w.S ∧ (w.E.length ≤ w.fire1.2.E.length) ∧ (w.fire1.1 = -1 ∨ w.fire1.1 = -2 ∨ ∃ C, C ∈ w.D ∧ w.fire1.1 = nI C.num ∧ C.num < 100) := by
  unfold wW.fire1
  cases hx : w.nxt with
  | none =>
    show wfX n (ng + 60) (ne + 1) nn (w.setK (w.K.take 1)) ∧ _ ∧ _
    refine ⟨?_, rfl, Nat.le_refl _, Or.inl rfl⟩
    obtain ⟨⟨hS, hR, hD, hT, hF, hA, hK, hN, hE⟩, hset⟩ := h.mn (Nat.le_refl n) (Nat.le_add_right ng 60) (Nat.le_add_right ne 1) (Nat.le_refl nn)
    refine ⟨⟨hS, hR, hD, hT, hF, hA, ?_, hN, hE⟩, hset⟩
    show 1 ≤ (w.K.take 1).length ∧ (w.K.take 1).length ≤ 8 ∧ ∀ m, m ∈ w.K.take 1 → m < 4
    rw [List.length_take]
    exact ⟨by omega, by omega, fun m hm => hK.2.2 m (List.mem_of_mem_take hm)⟩
  | some k =>
    obtain ⟨hkK, a, a1, a2, a3⟩ := wW.act_spec hx
    have a3' := a3
    obtain ⟨C, q, c1, c2, c3, c4⟩ := a3'
    have hm := h.mn (Nat.le_refl n) (Nat.le_add_right ng 60) (Nat.le_add_right ne 1) (Nat.le_refl nn)
    have e1 : w.act.bind (fun a => (w.D[a.1]?).map (fun C => (a, C))) = some (a, C) := by
      rw [a2]
      show (w.D[a.1]?).map _ = _
      rw [c1]
      rfl
    show wfX n (ng + 60) (ne + 1) nn (match w.act.bind (fun a => (w.D[a.1]?).map (fun C => (a, C))) with
      | none => ((-1 : Int32), w)
      | some (a, C) => match (w.fireW k a C).stl with
        | none => (-2, w)
        | some w' => (nI C.num, w')).2 ∧ (match w.act.bind (fun a => (w.D[a.1]?).map (fun C => (a, C))) with
      | none => ((-1 : Int32), w)
      | some (a, C) => match (w.fireW k a C).stl with
        | none => (-2, w)
        | some w' => (nI C.num, w')).2.S = w.S ∧ w.E.length ≤ (match w.act.bind (fun a => (w.D[a.1]?).map (fun C => (a, C))) with
      | none => ((-1 : Int32), w)
      | some (a, C) => match (w.fireW k a C).stl with
        | none => (-2, w)
        | some w' => (nI C.num, w')).2.E.length ∧ ((match w.act.bind (fun a => (w.D[a.1]?).map (fun C => (a, C))) with
      | none => ((-1 : Int32), w)
      | some (a, C) => match (w.fireW k a C).stl with
        | none => (-2, w)
        | some w' => (nI C.num, w')).1 = -1 ∨ (match w.act.bind (fun a => (w.D[a.1]?).map (fun C => (a, C))) with
      | none => ((-1 : Int32), w)
      | some (a, C) => match (w.fireW k a C).stl with
        | none => (-2, w)
        | some w' => (nI C.num, w')).1 = -2 ∨ ∃ C', C' ∈ w.D ∧ (match w.act.bind (fun a => (w.D[a.1]?).map (fun C => (a, C))) with
      | none => ((-1 : Int32), w)
      | some (a, C) => match (w.fireW k a C).stl with
        | none => (-2, w)
        | some w' => (nI C.num, w')).1 = nI C'.num ∧ C'.num < 100)
    rw [e1]
    cases hs : (w.fireW k a C).stl with
    | none =>
      simp only [hs]
      refine ⟨hm, ?_, Nat.le_refl _, ?_⟩
      · trivial
      · exact Or.inr (Or.inl trivial)
    | some w' =>
      simp only [hs]
      have hCm := List.mem_of_getElem? c1
      refine ⟨(h.fireW hkK a3 c1).stl hs, ?_, ?_, Or.inr (Or.inr ⟨C, hCm, rfl, (h.1.2.2.1.2.1 C hCm).1.num⟩)⟩
      · obtain ⟨F, -, rfl⟩ := wW.stl_spec hs
        rfl
      · obtain ⟨F, -, rfl⟩ := wW.stl_spec hs
        show w.E.length ≤ (w.E ++ [(C.num, a.2.2.2.1, a.2.2.2.2.1, a.2.2.2.2.2)]).length
        rw [List.length_append]
        exact Nat.le_add_right _ _
/-- run: what holds behind each firing -/
theorem wfX.runs {n nn : Nat} : ∀ {c ng ne m : Nat} {w : wW}, wfX n ng ne nn w → wfX n (ng + 60 * c) (ne + c) nn (wW.runs c m w).2 ∧ (wW.runs c m w).2.S = w.S ∧ w.E.length ≤ (wW.runs c m w).2.E.length ∧ (wW.runs c m w).1 ≤ m + c := by
  intro c
  induction c with
  | zero => intro ng ne m w h; exact ⟨h, rfl, Nat.le_refl _, Nat.le_refl _⟩
  | succ c ih =>
    intro ng ne m w h
    obtain ⟨f1, f2, f3, f4⟩ := h.fire1
    show wfX n (ng + 60 * (c + 1)) (ne + (c + 1)) nn (if 0 ≤ w.fire1.1 then wW.runs c (m + 1) w.fire1.2 else (m, w.fire1.2)).2 ∧ (if 0 ≤ w.fire1.1 then wW.runs c (m + 1) w.fire1.2 else (m, w.fire1.2)).2.S = w.S ∧ w.E.length ≤ (if 0 ≤ w.fire1.1 then wW.runs c (m + 1) w.fire1.2 else (m, w.fire1.2)).2.E.length ∧ (if 0 ≤ w.fire1.1 then wW.runs c (m + 1) w.fire1.2 else (m, w.fire1.2)).1 ≤ m + (c + 1)
    split
    · obtain ⟨i1, i2, i3, i4⟩ := ih (m := m + 1) f1
      exact ⟨i1.mn (Nat.le_refl _) (by omega) (by omega) (Nat.le_refl _), i2.trans f2, Nat.le_trans f3 i3, by omega⟩
    · exact ⟨f1.mn (Nat.le_refl _) (by omega) (by omega) (Nat.le_refl _), f2, f3, by show m ≤ _; omega⟩
theorem nI_m2 {n : Nat} (h : n < 2147483648) : ¬ nI n = -2 := by
  intro e
  have h1 := nI_toInt h
  rw [e] at h1
  have h2 : (-2 : Int32).toInt = -2 := by decide
  omega
theorem wW.fire1_same {w : wW} (hC : ∀ C, C ∈ w.D → C.num < 100) (h : w.fire1.1 = -2) : w.fire1.2 = w := by
  unfold wW.fire1 at h ⊢
  cases hx : w.nxt with
  | none => rw [hx] at h; exact absurd (show (-1 : Int32) = -2 from h) (by decide)
  | some k =>
    rw [hx] at h
    show (match w.act.bind (fun a => (w.D[a.1]?).map (fun C => (a, C))) with
      | none => ((-1 : Int32), w)
      | some (a, C) => match (w.fireW k a C).stl with
        | none => (-2, w)
        | some w' => (nI C.num, w')).2 = w
    have h2 : (match w.act.bind (fun a => (w.D[a.1]?).map (fun C => (a, C))) with
      | none => ((-1 : Int32), w)
      | some (a, C) => match (w.fireW k a C).stl with
        | none => (-2, w)
        | some w' => (nI C.num, w')).1 = -2 := h
    split at h2
    · rfl
    · rename_i a C e
      split at h2
      · rename_i e2
        simp only [e2]
      · obtain ⟨b, -, hb⟩ := Option.bind_eq_some_iff.mp e
        obtain ⟨C', hC', hb2⟩ := Option.map_eq_some_iff.mp hb
        cases hb2
        have := hC C (List.mem_of_getElem? hC')
        exact absurd h2 (nI_m2 (by omega))
