/-! WORLDS STAY SOUND -/
set_option maxRecDepth 100000
/-- sound, but what stands is perhaps not settled: numbers given, tags, what has fired, the time are bounded -/
def wfP (n ng ne nn : Nat) (w : wW) : Prop :=
  (w.S.length ≤ 8 ∧ ∀ n, n ∈ w.S → 1 ≤ n ∧ n ≤ 3) ∧
  (w.R.length ≤ 10 ∧ (∀ C, C ∈ w.R → sp_wfC w.S C ∧ C.num < w.nr) ∧ (w.R.map (fun C => C.num)).Nodup ∧ w.nr ≤ n) ∧
  (w.D.length ≤ 6 ∧ (∀ C, C ∈ w.D → sp_wfC w.S C ∧ C.num < w.nd ∧ C.gath = none) ∧ (w.D.map (fun C => C.num)).Nodup ∧ w.nd ≤ n) ∧
  (w.kT.Nodup ∧ ∀ p, p ∈ w.T → sp_faultN w.S p.1 = 0 ∧ p.2 ≤ nn + 100) ∧
  (sp_srt w.F ∧ w.F.length ≤ 60) ∧
  (w.A.length = w.F.length ∧ w.A.Nodup ∧ (∀ t, t ∈ w.A → 1 ≤ t ∧ t ≤ w.g) ∧ w.g ≤ ng) ∧
  (1 ≤ w.K.length ∧ w.K.length ≤ 8 ∧ ∀ m, m ∈ w.K → m < 4) ∧ w.now ≤ nn ∧
  (w.E.length ≤ ne ∧ ∀ e, e ∈ w.E → e.1 < w.nd ∧ e.2.1 ≤ w.g ∧ e.2.2.1 ≤ w.g ∧ e.2.2.2 ≤ w.g ∧ ∀ C, C ∈ w.D → C.num = e.1 → sp_pat C e)
def wfX (n ng ne nn : Nat) (w : wW) : Prop := wfP n ng ne nn w ∧ sp_set w.R w.kT = some w.F
theorem wfW.x {N : Nat} {w : wW} (h : wfW N w) : wfX N (1200 * N) (10 * N) (20 * N) w := ⟨⟨h.S, h.R, h.D, h.T, h.F60, h.A, h.K, h.now, h.E⟩, h.set⟩
theorem wfX.w {N : Nat} {w : wW} (h : wfX N (1200 * N) (10 * N) (20 * N) w) : wfW N w := by
  obtain ⟨⟨a, b, c, d, e, f, g, i, j⟩, k⟩ := h
  exact ⟨a, b, c, d, k, f, g, i, j⟩
theorem wfP.mn {n ng ne nn n' ng' ne' nn' : Nat} {w : wW} (h : wfP n ng ne nn w) (h1 : n ≤ n') (h2 : ng ≤ ng') (h3 : ne ≤ ne') (h4 : nn ≤ nn') : wfP n' ng' ne' nn' w := by
  obtain ⟨a, b, c, d, e, f, g, i, j⟩ := h
  exact ⟨a, ⟨b.1, b.2.1, b.2.2.1, by omega⟩, ⟨c.1, c.2.1, c.2.2.1, by omega⟩, ⟨d.1, fun p hp => ⟨(d.2 p hp).1, by have := (d.2 p hp).2; omega⟩⟩, e, ⟨f.1, f.2.1, f.2.2.1, by omega⟩, g, by omega, ⟨by omega, j.2⟩⟩
theorem wfX.mn {n ng ne nn n' ng' ne' nn' : Nat} {w : wW} (h : wfX n ng ne nn w) (h1 : n ≤ n') (h2 : ng ≤ ng') (h3 : ne ≤ ne') (h4 : nn ≤ nn') : wfX n' ng' ne' nn' w := ⟨h.1.mn h1 h2 h3 h4, h.2⟩
/-! tags -/
theorem sp_tgk_spec {Fo To : List Nat} (hF : Fo.Nodup) (hl : To.length = Fo.length) {f : Nat} : ∀ {j : Nat}, j ≤ Fo.length → (sp_tgk Fo To f j = 0 ∨ ∃ i, i < j ∧ Fo[i]? = some f ∧ To[i]? = some (sp_tgk Fo To f j)) ∧ ∀ i, i < j → Fo[i]? = some f → To[i]? = some (sp_tgk Fo To f j) := by
  intro j
  induction j with
  | zero => intro _; exact ⟨Or.inl rfl, fun i h => absurd h (by omega)⟩
  | succ j ih =>
    intro hj
    obtain ⟨a, b⟩ := ih (by omega)
    have e : sp_tgk Fo To f (j + 1) = if Fo.getD j 0 = f then To.getD j 0 else sp_tgk Fo To f j := rfl
    have hF1 : Fo[j]? = some (Fo.getD j 0) := sp_S_getD (by omega)
    have hT1 : To[j]? = some (To.getD j 0) := sp_S_getD (by omega)
    rw [e]
    by_cases q : Fo.getD j 0 = f
    · rw [if_pos q]
      rw [q] at hF1
      refine ⟨Or.inr ⟨j, Nat.lt_succ_self _, hF1, hT1⟩, fun i _ hi => ?_⟩
      rw [sp_nd_inj hF hi hF1]
      exact hT1
    · rw [if_neg q]
      refine ⟨?_, fun i hi hf => ?_⟩
      · rcases a with a | ⟨i, i1, i2, i3⟩
        · exact Or.inl a
        · exact Or.inr ⟨i, by omega, i2, i3⟩
      · by_cases q2 : i = j
        · rw [q2, hF1] at hf
          exact absurd (Option.some.inj hf) q
        · exact b i (by omega) hf
/-- what tags are given -/
theorem sp_gtags_spec {Fo To : List Nat} {g0 : Nat} (hF : Fo.Nodup) (hl : To.length = Fo.length) (hT : To.Nodup) (h1 : ∀ t, t ∈ To → 1 ≤ t ∧ t ≤ g0) : ∀ {G : List Nat} {g : Nat}, G.Nodup → g0 ≤ g → (sp_gtags Fo To g G).Nodup ∧ (∀ t, t ∈ sp_gtags Fo To g G → 1 ≤ t ∧ t ≤ sp_gnew Fo To g G ∧ (g < t ∨ ∃ (f i : Nat), f ∈ G ∧ Fo[i]? = some f ∧ To[i]? = some t)) ∧ g ≤ sp_gnew Fo To g G ∧ sp_gnew Fo To g G ≤ g + G.length := by
  intro G
  induction G with
  | nil => intro g _ hg; exact ⟨List.nodup_nil, fun t ht => (by cases ht), Nat.le_refl _, Nat.le_refl _⟩
  | cons f G ih =>
    intro g hG hg
    obtain ⟨hf, hG'⟩ := List.nodup_cons.mp hG
    obtain ⟨s1, s2⟩ := sp_tgk_spec hF hl (f := f) (Nat.le_refl Fo.length)
    by_cases q : sp_tg Fo To f = 0
    · have e1 : sp_gtags Fo To g (f :: G) = (g + 1) :: sp_gtags Fo To (g + 1) G := by
        show (if sp_tg Fo To f = 0 then _ else _) = _
        rw [if_pos q]
      have e2 : sp_gnew Fo To g (f :: G) = sp_gnew Fo To (g + 1) G := by
        show (if sp_tg Fo To f = 0 then _ else _) = _
        rw [if_pos q]
      obtain ⟨a, b, c, d⟩ := ih (g := g + 1) hG' (by omega)
      rw [e1, e2]
      refine ⟨List.nodup_cons.mpr ⟨fun hm => ?_, a⟩, fun t ht => ?_, by omega, by rw [List.length_cons]; omega⟩
      · obtain ⟨b1, b2, b3⟩ := b _ hm
        rcases b3 with b3 | ⟨f', i, -, -, b4⟩
        · omega
        · have := (h1 _ (List.mem_of_getElem? b4)).2
          omega
      · rcases List.mem_cons.mp ht with e | ht
        · subst e
          exact ⟨by omega, by omega, Or.inl (by omega)⟩
        · obtain ⟨b1, b2, b3⟩ := b t ht
          refine ⟨b1, b2, ?_⟩
          rcases b3 with b3 | ⟨f', i, b4, b5⟩
          · exact Or.inl (by omega)
          · exact Or.inr ⟨f', i, List.mem_cons_of_mem _ b4, b5⟩
    · have e1 : sp_gtags Fo To g (f :: G) = sp_tg Fo To f :: sp_gtags Fo To g G := by
        show (if sp_tg Fo To f = 0 then _ else _) = _
        rw [if_neg q]
      have e2 : sp_gnew Fo To g (f :: G) = sp_gnew Fo To g G := by
        show (if sp_tg Fo To f = 0 then _ else _) = _
        rw [if_neg q]
      obtain ⟨a, b, c, d⟩ := ih (g := g) hG' hg
      rw [e1, e2]
      obtain ⟨i0, -, i2, i3⟩ : ∃ i, i < Fo.length ∧ Fo[i]? = some f ∧ To[i]? = some (sp_tg Fo To f) := by
        rcases s1 with s1 | s1
        · exact absurd s1 q
        · exact s1
      have hb := h1 _ (List.mem_of_getElem? i3)
      refine ⟨List.nodup_cons.mpr ⟨fun hm => ?_, a⟩, fun t ht => ?_, c, by rw [List.length_cons]; omega⟩
      · obtain ⟨b1, b2, b3⟩ := b _ hm
        rcases b3 with b3 | ⟨f', i, b4, b5, b6⟩
        · omega
        · have := sp_nd_inj hT i3 b6
          subst this
          rw [i2] at b5
          cases b5
          exact hf b4
      · rcases List.mem_cons.mp ht with e | ht
        · subst e
          exact ⟨hb.1, by omega, Or.inr ⟨f, i0, List.mem_cons_self, i2, i3⟩⟩
        · obtain ⟨b1, b2, b3⟩ := b t ht
          refine ⟨b1, b2, ?_⟩
          rcases b3 with b3 | ⟨f', i, b4, b5⟩
          · exact Or.inl b3
          · exact Or.inr ⟨f', i, List.mem_cons_of_mem _ b4, b5⟩
/-- settling keeps a world sound -/
theorem wfP.stl {n ng ne nn : Nat} {w w' : wW} (h : wfP n ng ne nn w) (hs : w.stl = some w') : wfX n (ng + 60) ne nn w' := by
  obtain ⟨F, hF, rfl⟩ := wW.stl_spec hs
  obtain ⟨a, b, c, d, e, f, g, i, j⟩ := h
  obtain ⟨st, hst, h2⟩ := sp_set_spec hF
  have hF6 := sp_stl_srt h2
  obtain ⟨t1, t2, t3, t4⟩ := sp_gtags_spec (g0 := w.g) (sp_srt_nd e.1) f.1 f.2.1 f.2.2.1 (sp_srt_nd hF6.1) (Nat.le_refl w.g)
  refine ⟨⟨a, b, c, d, hF6, ⟨sp_gtags_len _ _ _ _, t1, fun t ht => ⟨(t2 t ht).1, (t2 t ht).2.1⟩, ?_⟩, g, i, ⟨j.1, fun x hx => ?_⟩⟩, hF⟩
  · show sp_gnew w.F w.A w.g F ≤ ng + 60
    have := f.2.2.2
    omega
  · obtain ⟨j1, j2, j3, j4, j5⟩ := j.2 x hx
    refine ⟨j1, ?_, ?_, ?_, j5⟩
    · show x.2.1 ≤ sp_gnew w.F w.A w.g F; omega
    · show x.2.2.1 ≤ sp_gnew w.F w.A w.g F; omega
    · show x.2.2.2 ≤ sp_gnew w.F w.A w.g F; omega
theorem wfP.st {n ng ne nn : Nat} {w : wW} (h : wfP n ng ne nn w) (hg : ng ≤ 1000000) : wSt w := ⟨h.2.2.2.2.1.2, h.2.2.2.2.2.1.1, fun t ht => (h.2.2.2.2.2.1.2.2.1 t ht).2, by have := h.2.2.2.2.2.1.2.2.2; omega⟩
theorem wfX.b6 {n ng ne nn : Nat} {w : wW} (h : wfX n ng ne nn w) : wB6 w := by
  obtain ⟨⟨a, b, c, d, e, f, g, i, j⟩, k⟩ := h
  obtain ⟨st, -, h2⟩ := sp_set_spec k
  refine ⟨?_, e.2, by rw [f.1]; exact e.2⟩
  have := sp_nd_len d.1 (sp_stl_T h2)
  have e2 : w.kT.length = w.T.length := by unfold wW.kT; rw [List.length_map]
  omega
