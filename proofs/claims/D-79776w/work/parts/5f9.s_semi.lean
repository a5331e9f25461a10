/-! THE SYSTEM'S PLAIN LAW: rounds in each of which a fact that came in the one ahead takes part -/
set_option maxRecDepth 100000
theorem sp_alt_al {F : List Nat} {al : Nat → Bool} {it : sp_I} {v : sp_V} {p : Nat × sp_V} : p ∈ sp_alt F al it v ↔ p ∈ sp_alt F (fun _ => true) it v ∧ (it.1 = 0 → al p.1 = true) := by
  unfold sp_alt
  by_cases h0 : it.1 = 0
  · rw [if_pos h0, if_pos h0, List.mem_filterMap, List.mem_filterMap]
    constructor
    · rintro ⟨k, hk, e⟩
      split at e
      · rename_i c
        obtain ⟨w, hw, rfl⟩ := Option.map_eq_some_iff.mp e
        exact ⟨⟨k, hk, by rw [if_pos ⟨rfl, c.2⟩, hw]; rfl⟩, fun _ => c.1⟩
      · cases e
    · rintro ⟨⟨k, hk, e⟩, hal⟩
      split at e
      · rename_i c
        obtain ⟨w, hw, rfl⟩ := Option.map_eq_some_iff.mp e
        exact ⟨k, hk, by rw [if_pos ⟨hal h0, c.2⟩, hw]; rfl⟩
      · cases e
  · rw [if_neg h0, if_neg h0]
    exact ⟨fun q => ⟨q, fun e => absurd e h0⟩, fun q => q.1⟩
theorem sp_mat_mem {F : List Nat} {al : Nat → Nat → Bool} : ∀ {its : List sp_I} {a : Nat} {v : sp_V} {q : sp_Q}, q ∈ sp_mat F al a its v ↔ q ∈ sp_m F its v ∧ ∀ (i p : Nat), (sp_atk its q.1)[i]? = some p → al (a + i) p = true := by
  intro its
  induction its with
  | nil =>
    intro a v q
    constructor
    · intro h
      refine ⟨h, fun i p e => ?_⟩
      have e' : ([] : List Nat)[i]? = some p := e
      simp at e'
    · exact fun h => h.1
  | cons it its ih =>
    intro a v q
    rw [sp_m_cons]
    show q ∈ (sp_alt F (al a) it v).flatMap _ ↔ _
    rw [List.mem_flatMap, List.mem_flatMap]
    constructor
    · rintro ⟨p, hp, h2⟩
      obtain ⟨q', hq', rfl⟩ := List.mem_map.mp h2
      obtain ⟨p1, p2⟩ := sp_alt_al.mp hp
      obtain ⟨i1, i2⟩ := ih.mp hq'
      refine ⟨⟨p, p1, List.mem_map.mpr ⟨q', i1, rfl⟩⟩, fun i x e => ?_⟩
      have e' : (if it.1 = 0 then p.1 :: sp_atk its q'.1 else sp_atk its q'.1)[i]? = some x := e
      by_cases h0 : it.1 = 0
      · rw [if_pos h0] at e' i2
        cases i with
        | zero => cases e'; exact p2 h0
        | succ i =>
          have := i2 i x e'
          rw [show a + (i + 1) = a + 1 + i by omega]
          exact this
      · rw [if_neg h0] at e' i2
        exact i2 i x e'
    · rintro ⟨⟨p, p1, h2⟩, hal⟩
      obtain ⟨q', hq', rfl⟩ := List.mem_map.mp h2
      have hal' : ∀ (i x : Nat), (if it.1 = 0 then p.1 :: sp_atk its q'.1 else sp_atk its q'.1)[i]? = some x → al (a + i) x = true := hal
      refine ⟨p, sp_alt_al.mpr ⟨p1, fun h0 => ?_⟩, List.mem_map.mpr ⟨q', ih.mpr ⟨hq', fun i x e => ?_⟩, rfl⟩⟩
      · exact hal' 0 p.1 (by rw [if_pos h0]; rfl)
      · by_cases h0 : it.1 = 0
        · rw [if_pos h0]
          have := hal' (i + 1) x (by rw [if_pos h0]; exact e)
          rw [show a + 1 + i = a + (i + 1) by omega]
          exact this
        · rw [if_neg h0]
          exact hal' i x (by rw [if_neg h0]; exact e)
theorem xMs_mem {F : List Nat} {r : Nat → Nat} {nw : Option (Nat × Nat)} {its : List sp_I} {v : sp_V} {q : sp_Q} : q ∈ xMs F r nw 0 [] its v ↔ q ∈ sp_m F its v ∧ ∀ (i p : Nat), (sp_atk its q.1)[i]? = some p → xal F r nw i p = true := by
  unfold xMs
  have e : (sp_mat F (xal F r nw) 0 its v).map (fun q : List Nat × sp_V => ([] ++ q.1, q.2)) = sp_mat F (xal F r nw) 0 its v := by
    have : (fun q : List Nat × sp_V => ([] ++ q.1, q.2)) = id := by
      funext q
      rfl
    rw [this, List.map_id]
  rw [e, sp_mat_mem]
  simp only [Nat.zero_add]
/-- what a rule gives by matches that have a fact of a round -/
def xnew (F : List Nat) (r : Nat → Nat) (rd : Nat) (C : sp_C) : List Nat := if C.gath = none then (List.range (C.its.filter (fun it => it.1 == 0)).length).flatMap (fun k => (xMs F r (some (k, rd)) 0 [] C.its (fun _ => none)).map (sp_key C)) else []
theorem xnew_sub {F : List Nat} {r : Nat → Nat} {rd : Nat} {C : sp_C} {f : Nat} (h : f ∈ xnew F r rd C) : f ∈ sp_give F C := by
  unfold xnew at h
  split at h
  · rename_i hg
    obtain ⟨k, -, h2⟩ := List.mem_flatMap.mp h
    obtain ⟨q, hq, rfl⟩ := List.mem_map.mp h2
    unfold sp_give
    rw [if_pos hg]
    exact List.mem_map.mpr ⟨q, (xMs_mem.mp hq).1, rfl⟩
  · cases h
theorem xnew_mem {F : List Nat} {r : Nat → Nat} {rd : Nat} {C : sp_C} (hr : ∀ x, x ∈ F → r x ≤ rd) (hg : C.gath = none) {w : sp_V} {L : List Nat} (h : sp_MF (fun f => f ∈ F) C.its (fun _ => none) w L) (hx : ∃ x, x ∈ L ∧ r x = rd) : sp_hfact C w 0 ∈ xnew F r rd C := by
  obtain ⟨ks, hk, rfl⟩ := sp_m_MF.mpr h
  obtain ⟨x, hx1, hx2⟩ := hx
  unfold xnew
  rw [if_pos hg]
  cases e : (sp_fs F (sp_atk C.its ks)).findIdx? (fun x => r x == rd) with
  | none =>
    have := sp_fi_none e x hx1
    simp [hx2] at this
  | some i =>
    obtain ⟨hi, e1, e2⟩ := List.findIdx?_eq_some_iff_getElem.mp e
    have hi' : i < (sp_atk C.its ks).length := by
      unfold sp_fs at hi
      rw [List.length_map] at hi
      exact hi
    refine List.mem_flatMap.mpr ⟨i, List.mem_range.mpr ?_, List.mem_map.mpr ⟨(ks, w), xMs_mem.mpr ⟨hk, fun j p hp => ?_⟩, rfl⟩⟩
    · rw [← sp_atk_nat (sp_m_ksl hk)]
      exact hi'
    · have hpF : p < F.length := sp_m_ks hk p (List.mem_of_getElem? hp)
      have hpr : r (F.getD p 0) ≤ rd := by
        refine hr _ ?_
        rw [List.getD_eq_getElem?_getD, List.getElem?_eq_getElem hpF]
        exact List.getElem_mem hpF
      have hj : (sp_fs F (sp_atk C.its ks))[j]? = some (F.getD p 0) := by
        unfold sp_fs
        rw [List.getElem?_map, hp]
        rfl
      obtain ⟨hjl, hje⟩ := List.getElem?_eq_some_iff.mp hj
      show (if j < i then decide (r (F.getD p 0) < rd) else decide (i < j) || decide (r (F.getD p 0) = rd)) = true
      by_cases hji : j < i
      · rw [if_pos hji]
        have := e2 j hji
        rw [hje] at this
        have h3 : r (F.getD p 0) ≠ rd := by simpa using this
        exact decide_eq_true (by omega)
      · rw [if_neg hji]
        by_cases hij : i < j
        · simp [hij]
        · have : j = i := by omega
          subst this
          rw [hje] at e1
          have h3 : r (F.getD p 0) = rd := by simpa using e1
          rw [decide_eq_true h3]
          exact Bool.or_true _
theorem sp_MF_sub {S : List Nat} (hS : ∀ n, n ∈ S → 1 ≤ n ∧ n ≤ 3) {F G : Nat → Prop} {its : List sp_I} (hw : ∀ it, it ∈ its → sp_wfI S it) (hn : ∀ it, it ∈ its → it.1 = 1 → ∀ f, G f → f / 1000000 = it.2.1 → F f) : ∀ {v w : sp_V} {L : List Nat}, sp_bd v → sp_MF F its v w L → (∀ x, x ∈ L → G x) → sp_MF G its v w L := by
  induction its with
  | nil => intro v w L _ h _; exact h
  | cons it its ih =>
    intro v w L hv h hL
    have ih' := fun {v w : sp_V} {L : List Nat} => ih (fun i hi => hw i (List.mem_cons_of_mem _ hi)) (fun i hi => hn i (List.mem_cons_of_mem _ hi)) (v := v) (w := w) (L := L)
    rcases h with ⟨h0, u, f, L', h1, h2, h3, h4, h5⟩ | ⟨h0, u, h1, h2⟩
    · subst h4
      exact Or.inl ⟨h0, u, f, L', hL f List.mem_cons_self, h2, h3, rfl, ih' (sp_binds_bd h3 hv) h5 (fun x hx => hL x (List.mem_cons_of_mem _ hx))⟩
    · refine Or.inr ⟨h0, u, ?_, ih' (sp_A_bd h1 hv) h2 hL⟩
      unfold sp_A at h1 ⊢
      rw [if_neg h0] at h1 ⊢
      split at h1
      · rename_i q1
        rw [if_pos q1]
        exact ⟨fun hG => h1.1 (hn it List.mem_cons_self q1 _ hG (sp_num_rel hv ((hw it List.mem_cons_self).len hS).2)), h1.2⟩
      · rename_i q1
        rw [if_neg q1]
        exact h1
/-- a stratum under way: H what stood at its start, cur what stands, r the rounds, rd the round -/
def xsn (R : List sp_C) (st : Nat → Nat) (s : Nat) (H cur : List Nat) (r : Nat → Nat) (rd : Nat) (first new : Bool) : Prop :=
  sp_way R st s H cur ∧ (∀ x, x ∈ cur → r x ≤ rd) ∧ (first = true → cur = H ∧ new = true) ∧ (first = false → ∀ C, C ∈ R → st C.rel = s → (∀ f, f ∈ sp_give H C → f ∈ cur) ∧ (C.gath = none → ∀ w L, sp_MF (fun f => f ∈ cur) C.its (fun _ => none) w L → (∀ x, x ∈ L → r x < rd) → sp_hfact C w 0 ∈ cur)) ∧ (new = false → first = false ∧ ∀ x, x ∈ cur → r x < rd)
theorem xsn.start {R : List sp_C} {st : Nat → Nat} {s : Nat} {H : List Nat} {r : Nat → Nat} {rd : Nat} (h : sp_srt H) (hr : ∀ x, x ∈ H → r x ≤ rd) : xsn R st s H H r rd true true := ⟨.rf h, hr, fun _ => ⟨rfl, rfl⟩, fun e => (by cases e), fun e => (by cases e)⟩
section SN
variable {S : List Nat} {R : List sp_C} {st : Nat → Nat} {s : Nat} {H cur : List Nat} {r : Nat → Nat} {rd : Nat} {first new : Bool}
theorem sp_way.low (hS : ∀ n, n ∈ S → 1 ≤ n ∧ n ≤ 3) (hR : ∀ C, C ∈ R → sp_wfC S C) (hf : ∀ C, C ∈ R → sp_fit st C) (h : sp_way R st s H cur) {C : sp_C} (hC : C ∈ R) (hs : st C.rel = s) {it : sp_I} (hi : it ∈ C.its) (hk : it.1 ≤ 1) (hk2 : it.1 = 1 ∨ C.gath ≠ none) {f : Nat} (e : f / 1000000 = it.2.1) : f ∈ cur ↔ f ∈ H := by
  have := hf C hC it hi hk
  rw [if_pos hk2, hs] at this
  refine ⟨fun q => (h.1.2.2 f q).elim id (fun q2 => ?_), h.1.2.1 f⟩
  rw [e] at q2
  omega
theorem xsn.done (hS : ∀ n, n ∈ S → 1 ≤ n ∧ n ≤ 3) (hR : ∀ C, C ∈ R → sp_wfC S C) (hf : ∀ C, C ∈ R → sp_fit st C) (h : xsn R st s H cur r rd first false) (hl : cur.length ≤ 60) : sp_lf R st s H cur := by
  obtain ⟨h1, h2, h3, h4, h5⟩ := h
  obtain ⟨e, h5⟩ := h5 rfl
  refine ⟨h1.1, hl, fun C hC hs f hfm => ?_, h1.2⟩
  obtain ⟨a1, a2⟩ := h4 e C hC hs
  by_cases hg : C.gath = none
  · obtain ⟨w, hw, rfl⟩ := (sp_give_plain hg).mp hfm
    obtain ⟨L, hL⟩ := sp_M_MF hw
    exact a2 hg w L hL (fun x hx => h5 x (sp_MF_in hL x hx).1)
  · exact a1 f (sp_give_same hS hg (hR C hC).its (fun it hi hk f e => sp_way.low hS hR hf h1 hC hs hi hk (Or.inr hg) e) hfm)
theorem xsn.step (hS : ∀ n, n ∈ S → 1 ≤ n ∧ n ≤ 3) (hR : ∀ C, C ∈ R → sp_wfC S C) (hf : ∀ C, C ∈ R → sp_fit st C) (h : xsn R st s H cur r rd first true) {W cur' : List Nat} {r' : Nat → Nat} (hW : ∀ x, x ∈ W ↔ ∃ C, C ∈ R ∧ st C.rel = s ∧ x ∈ (if first = true then sp_give cur C else xnew cur r rd C)) (hsr : sp_srt cur') (hc : ∀ x, x ∈ cur' ↔ x ∈ cur ∨ x ∈ W) (hr' : ∀ x, x ∈ cur' → r' x = if x ∈ cur then r x else rd + 1) : xsn R st s H cur' r' (rd + 1) false (decide (cur.length < cur'.length)) := by
  obtain ⟨h1, h2, h3, h4, h5⟩ := h
  have hWg : ∀ x, x ∈ W → ∃ C, C ∈ R ∧ st C.rel = s ∧ x ∈ sp_give cur C := fun x hx => by
    obtain ⟨C, hC, hs, hx⟩ := (hW x).mp hx
    refine ⟨C, hC, hs, ?_⟩
    split at hx
    · exact hx
    · exact xnew_sub hx
  refine ⟨⟨⟨hsr, fun f q => (hc f).mpr (Or.inl (h1.1.2.1 f q)), fun f q => ?_⟩, fun G' hG hcl f q => ?_⟩, fun x hx => ?_, fun e => (by cases e), fun _ C hC hs => ⟨fun f hfg => ?_, fun hg w L hL hLr => ?_⟩, fun e => ⟨rfl, fun x hx => ?_⟩⟩
  · rcases (hc f).mp q with q | q
    · exact h1.1.2.2 f q
    · obtain ⟨C, hC, hs, hx⟩ := hWg f q
      exact Or.inr (by rw [(sp_give_rel (hR C hC |>.ht3 hS) hx).1, hs])
  · rcases (hc f).mp q with q | q
    · exact h1.2 G' hG hcl f q
    · obtain ⟨C, hC, hs, hx⟩ := hWg f q
      exact h1.give hS hC (hR C hC) (hf C hC) hs G' hG hcl f hx
  · rw [hr' x hx]
    split
    · rename_i q
      have := h2 x q
      omega
    · exact Nat.le_refl _
  · cases first with
    | true =>
      have e := (h3 rfl).1
      subst e
      exact (hc f).mpr (Or.inr ((hW f).mpr ⟨C, hC, hs, by rw [if_pos rfl]; exact hfg⟩))
    | false => exact (hc f).mpr (Or.inl ((h4 rfl C hC hs).1 f hfg))
  · have hLc : ∀ x, x ∈ L → x ∈ cur := fun x hx => by
      have q1 := (sp_MF_in hL x hx).1
      have q2 := hLr x hx
      rw [hr' x q1] at q2
      split at q2
      · rename_i q
        exact q
      · omega
    have hL' : sp_MF (fun f => f ∈ cur) C.its (fun _ => none) w L := sp_MF_sub hS (hR C hC).its (fun it hi hk f q e => (hc f).mpr (Or.inl q)) (fun x a e => by cases e) hL hLc
    cases first with
    | true =>
      exact (hc _).mpr (Or.inr ((hW _).mpr ⟨C, hC, hs, by rw [if_pos rfl]; exact (sp_give_plain hg).mpr ⟨w, sp_MF_M hL', rfl⟩⟩))
    | false =>
      by_cases hx : ∃ x, x ∈ L ∧ r x = rd
      · exact (hc _).mpr (Or.inr ((hW _).mpr ⟨C, hC, hs, by rw [if_neg (by decide)]; exact xnew_mem h2 hg hL' hx⟩))
      · refine (hc _).mpr (Or.inl ((h4 rfl C hC hs).2 hg w L hL' (fun x hxL => ?_)))
        have q1 := h2 x (hLc x hxL)
        have q2 : r x ≠ rd := fun e => hx ⟨x, hxL, e⟩
        omega
  · have e' : ¬ cur.length < cur'.length := of_decide_eq_false e
    have hxc : x ∈ cur := by
      apply Classical.byContradiction
      intro hn
      have hnd : (x :: cur).Nodup := List.nodup_cons.mpr ⟨hn, sp_srt_nd h1.1.1⟩
      have := sp_nd_len hnd (G := cur') (fun y hy => by
        rcases List.mem_cons.mp hy with rfl | hy
        · exact hx
        · exact (hc y).mpr (Or.inl hy))
      rw [List.length_cons] at this
      omega
    rw [hr' x hx, if_pos hxc]
    have := h2 x hxc
    omega
/-- the same by rounds with all that stands so far -/
theorem sp_way.more (hS : ∀ n, n ∈ S → 1 ≤ n ∧ n ≤ 3) (hR : ∀ C, C ∈ R → sp_wfC S C) (hf : ∀ C, C ∈ R → sp_fit st C) (h : sp_way R st s H cur) {W cur' : List Nat} (hW : ∀ x, x ∈ W → ∃ C, C ∈ R ∧ st C.rel = s ∧ x ∈ sp_give cur C) (hsr : sp_srt cur') (hc : ∀ x, x ∈ cur' ↔ x ∈ cur ∨ x ∈ W) : sp_way R st s H cur' := by
  refine ⟨⟨hsr, fun f q => (hc f).mpr (Or.inl (h.1.2.1 f q)), fun f q => ?_⟩, fun G' hG hcl f q => ?_⟩
  · rcases (hc f).mp q with q | q
    · exact h.1.2.2 f q
    · obtain ⟨C, hC, hs, hx⟩ := hW f q
      exact Or.inr (by rw [(sp_give_rel (hR C hC |>.ht3 hS) hx).1, hs])
  · rcases (hc f).mp q with q | q
    · exact h.2 G' hG hcl f q
    · obtain ⟨C, hC, hs, hx⟩ := hW f q
      exact h.give hS hC (hR C hC) (hf C hC) hs G' hG hcl f hx
end SN
