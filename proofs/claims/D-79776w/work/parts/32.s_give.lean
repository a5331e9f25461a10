/-! THE PLAIN LAW, 5: what a rule gives -/
set_option maxRecDepth 100000
theorem sp_nd_len {L G : List Nat} (h : L.Nodup) (hs : ∀ x, x ∈ L → x ∈ G) : L.length ≤ G.length := by
  induction L generalizing G with
  | nil => exact Nat.zero_le _
  | cons a L ih =>
    have h' := List.nodup_cons.mp h
    have ha := hs a List.mem_cons_self
    have := ih (G := G.erase a) h'.2 (fun x hx => by
      have hne : x ≠ a := fun e => h'.1 (by rw [← e]; exact hx)
      exact (List.mem_erase_of_ne hne).mpr (hs x (List.mem_cons_of_mem _ hx)))
    rw [List.length_erase_of_mem ha] at this
    have hpos : 0 < G.length := List.length_pos_of_mem ha
    rw [List.length_cons]
    omega
theorem sp_srt_nd {F : List Nat} (h : sp_srt F) : F.Nodup := h.imp (fun hab e => by subst e; exact Nat.lt_irrefl _ hab)
def sp_exl (F L : List Nat) : List Nat := L.foldl (sp_exq F) []
theorem sp_exl_snoc (F L : List Nat) (f : Nat) : sp_exl F (L ++ [f]) = sp_exq F (sp_exl F L) f := by
  unfold sp_exl
  rw [List.foldl_append]
  rfl
theorem sp_exl_prop (F : List Nat) : ∀ (L : List Nat), (sp_exl F L).Nodup ∧ (∀ f, f ∈ sp_exl F L → f ∈ L ∧ f ∉ F) ∧ (sp_exl F L).length ≤ 61 ∧ (61 ≤ (sp_exl F L).length ∨ ∀ f, f ∈ L → f ∈ F ∨ f ∈ sp_exl F L) := by
  have key : ∀ (L acc L0 : List Nat), acc.Nodup → (∀ f, f ∈ acc → f ∈ L0 ∧ f ∉ F) → acc.length ≤ 61 → (61 ≤ acc.length ∨ ∀ f, f ∈ L0 → f ∈ F ∨ f ∈ acc) → (L.foldl (sp_exq F) acc).Nodup ∧ (∀ f, f ∈ L.foldl (sp_exq F) acc → f ∈ L0 ++ L ∧ f ∉ F) ∧ (L.foldl (sp_exq F) acc).length ≤ 61 ∧ (61 ≤ (L.foldl (sp_exq F) acc).length ∨ ∀ f, f ∈ L0 ++ L → f ∈ F ∨ f ∈ L.foldl (sp_exq F) acc) := by
    intro L
    induction L with
    | nil =>
      intro acc L0 h1 h2 h3 h4
      rw [List.append_nil]
      exact ⟨h1, h2, h3, h4⟩
    | cons a L ih =>
      intro acc L0 h1 h2 h3 h4
      rw [List.foldl_cons]
      have e : L0 ++ a :: L = (L0 ++ [a]) ++ L := by rw [List.append_assoc]; rfl
      rw [e]
      refine ih (sp_exq F acc a) (L0 ++ [a]) ?_ ?_ ?_ ?_
      · unfold sp_exq
        split
        · exact h1
        · rename_i q
          exact sp_nd_snoc h1 (fun hq => q (Or.inr (Or.inl hq)))
      · unfold sp_exq
        split
        · exact fun f hf => ⟨List.mem_append_left _ (h2 f hf).1, (h2 f hf).2⟩
        · rename_i q
          intro f hf
          rcases List.mem_append.mp hf with hf | hf
          · exact ⟨List.mem_append_left _ (h2 f hf).1, (h2 f hf).2⟩
          · rw [List.mem_singleton.mp hf]
            exact ⟨List.mem_append_right _ (List.mem_singleton.mpr rfl), fun hq => q (Or.inl hq)⟩
      · unfold sp_exq
        split
        · exact h3
        · rename_i q
          rw [List.length_append]
          show acc.length + 1 ≤ 61
          have : ¬ 60 < acc.length := fun hq => q (Or.inr (Or.inr hq))
          omega
      · unfold sp_exq
        split
        · rename_i q
          rcases h4 with h4 | h4
          · exact Or.inl h4
          · by_cases g : 61 ≤ acc.length
            · exact Or.inl g
            · refine Or.inr (fun f hf => ?_)
              rcases List.mem_append.mp hf with hf | hf
              · exact h4 f hf
              · rw [List.mem_singleton.mp hf]
                rcases q with q | q | q
                · exact Or.inl q
                · exact Or.inr q
                · omega
        · rename_i q
          rcases h4 with h4 | h4
          · exact absurd (show 60 < acc.length by omega) (fun hq => q (Or.inr (Or.inr hq)))
          · refine Or.inr (fun f hf => ?_)
            rcases List.mem_append.mp hf with hf | hf
            · rcases h4 f hf with g | g
              · exact Or.inl g
              · exact Or.inr (List.mem_append_left _ g)
            · exact Or.inr (List.mem_append_right _ hf)
  intro L
  have := key L [] [] (by simp) (fun f hf => by cases hf) (Nat.zero_le _) (Or.inr (fun f hf => by cases hf))
  exact this
/-- values stay below 100 -/
def sp_bd (v : sp_V) : Prop := ∀ x a, v x = some a → a < 100
theorem sp_bind_bd {v w : sp_V} {t a : Nat} (h : sp_bind v t a = some w) (hv : sp_bd v) (ha : a < 100) : sp_bd w := by
  unfold sp_bind at h
  cases e : sp_val v t with
  | none =>
    rw [e] at h
    cases h
    intro x b hb
    unfold sp_up at hb
    split at hb
    · cases hb; exact ha
    · exact hv x b hb
  | some b =>
    rw [e] at h
    have h' : (if b = a then some v else none) = some w := h
    split at h'
    · cases h'; exact hv
    · cases h'
theorem sp_binds_bd {f : Nat} {ts : List Nat} : ∀ {v w : sp_V} {s : Nat}, sp_binds v f ts s = some w → sp_bd v → sp_bd w := by
  induction ts with
  | nil => intro v w s h hv; cases h; exact hv
  | cons t ts ih =>
    intro v w s h hv
    have h' : (sp_bind v t (sp_slot f s)).bind (fun w => sp_binds w f ts (s + 1)) = some w := h
    cases e : sp_bind v t (sp_slot f s) with
    | none => rw [e] at h'; cases h'
    | some u =>
      rw [e] at h'
      exact ih h' (sp_bind_bd e hv (sp_slot_lt _ _))
theorem sp_alt_bd {F : List Nat} {it : sp_I} {v : sp_V} {a : Nat × sp_V} (ha : a ∈ sp_alt F (fun _ => true) it v) (hv : sp_bd v) : sp_bd a.2 := by
  by_cases h0 : it.1 = 0
  · exact sp_binds_bd (sp_alt_atom h0 ha).2.2 hv
  · by_cases h1 : it.1 = 1
    · rw [sp_alt_not h1] at ha
      split at ha
      · cases ha
      · rw [List.mem_singleton.mp ha]; exact hv
    · by_cases h2 : it.1 = 2
      · rw [sp_alt_test h2] at ha
        split at ha
        · rw [List.mem_singleton.mp ha]; exact hv
        · cases ha
      · rw [sp_alt_plus (by omega)] at ha
        split at ha
        · rename_i hlt
          rw [Option.mem_toList, Option.map_eq_some_iff] at ha
          obtain ⟨w, hw, e⟩ := ha
          rw [← e]
          exact sp_bind_bd hw hv hlt
        · cases ha
theorem sp_m_bd {F : List Nat} {its : List sp_I} : ∀ {v : sp_V}, sp_bd v → ∀ q, q ∈ sp_m F its v → sp_bd q.2 := by
  induction its with
  | nil =>
    intro v hv q hq
    have hq' : q ∈ [(([] : List Nat), v)] := hq
    rw [List.mem_singleton.mp hq']
    exact hv
  | cons it its ih =>
    intro v hv q hq
    rw [sp_m_cons, List.mem_flatMap] at hq
    obtain ⟨a, ha, hq⟩ := hq
    rw [List.mem_map] at hq
    obtain ⟨r, hr, e⟩ := hq
    rw [← e]
    exact ih (sp_alt_bd ha hv) r hr
theorem sp_none_bd : sp_bd (fun _ => none) := fun _ _ h => by cases h
/-- the slots of a head's fact -/
theorem sp_hval_lt {v : sp_V} {g : Nat} (hv : sp_bd v) (hg : g < 100) (t : Nat) : sp_hval v g t < 100 := by
  unfold sp_hval
  split
  · exact hg
  · cases e : sp_val v t with
    | none => simp
    | some a => have := sp_val_lt hv e; simpa using this
theorem sp_hfact_slot {C : sp_C} {v : sp_V} {g s t : Nat} (hv : sp_bd v) (hg : g < 100) (hl : C.hts.length ≤ 3) (ht : C.hts[s]? = some t) : sp_slot (sp_hfact C v g) s = sp_hval v g t := by
  have hb := sp_hval_lt hv hg
  unfold sp_hfact
  generalize C.rel = r
  generalize C.hts = ts at hl ht
  match ts, hl with
  | [], _ => simp at ht
  | [a], _ =>
    have := hb a
    match s, ht with
    | 0, ht => cases ht; simp [sp_hsum, sp_wt, sp_slot]; omega
    | n + 1, ht => simp at ht
  | [a, b], _ =>
    have := hb a
    have := hb b
    match s, ht with
    | 0, ht => cases ht; simp [sp_hsum, sp_wt, sp_slot]; omega
    | 1, ht => cases ht; simp [sp_hsum, sp_wt, sp_slot]; omega
    | n + 2, ht => simp at ht
  | [a, b, c], _ =>
    have := hb a
    have := hb b
    have := hb c
    match s, ht with
    | 0, ht => cases ht; simp [sp_hsum, sp_wt, sp_slot]; omega
    | 1, ht => cases ht; simp [sp_hsum, sp_wt, sp_slot]; omega
    | 2, ht => cases ht; simp [sp_hsum, sp_wt, sp_slot]; omega
    | n + 3, ht => simp at ht
  | a :: b :: c :: e :: ts, h => simp at h
/-- what is gathered: kind and variable -/
def sp_C.gt (C : sp_C) : Nat := C.hts.getD ((C.gath).getD 0) 0
def sp_C.gx (C : sp_C) : Nat := (C.gt - 200) % 8
def sp_gfact (C : sp_C) (M : List sp_Q) (key : Nat) : Nat := key + sp_wt ((C.gath).getD 0) * sp_min99 (sp_agg ((C.gt - 200) / 8) (sp_hasv C.gx (sp_grp C M key)))
/-- the facts that a rule gives by facts that stand -/
def sp_give (F : List Nat) (C : sp_C) : List Nat := if C.gath = none then (sp_m F C.its (fun _ => none)).map (sp_key C) else (sp_keys C (sp_m F C.its (fun _ => none))).map (sp_gfact C (sp_m F C.its (fun _ => none)))
/-- more facts than can stand -/
def sp_crowd (F T : List Nat) : Prop := ∀ G, sp_srt G → (∀ x, x ∈ F → x ∈ G) → (∀ x, x ∈ T → x ∈ G) → 60 < G.length
theorem sp_min99_lt (a : Nat) : sp_min99 a < 100 := by unfold sp_min99; split <;> omega
theorem sp_gfact_inj {C : sp_C} {s t : Nat} (hl : C.hts.length ≤ 3) (hs : C.gath = some s) (ht : C.hts[s]? = some t) (ht2 : 200 ≤ t) {M : List sp_Q} {v w : sp_V} (hv : sp_bd v) (hw : sp_bd w) (h : sp_gfact C M (sp_hfact C v 0) = sp_gfact C M (sp_hfact C w 0)) : sp_hfact C v 0 = sp_hfact C w 0 := by
  have h1 := sp_hfact_slot hv (show 0 < 100 by decide) hl ht
  have h2 := sp_hfact_slot hw (show 0 < 100 by decide) hl ht
  have h3 : ∀ u : sp_V, sp_hval u 0 t = 0 := fun u => by unfold sp_hval; rw [if_pos ht2]
  rw [h3] at h1 h2
  unfold sp_gfact at h
  have e : (C.gath).getD 0 = s := by rw [hs]; rfl
  rw [e] at h
  have hs3 := (List.getElem?_eq_some_iff.mp ht).1
  generalize sp_hfact C v 0 = a at h h1 ⊢
  generalize sp_hfact C w 0 = b at h h2 ⊢
  have m1 := sp_min99_lt (sp_agg ((C.gt - 200) / 8) (sp_hasv C.gx (sp_grp C M a)))
  have m2 := sp_min99_lt (sp_agg ((C.gt - 200) / 8) (sp_hasv C.gx (sp_grp C M b)))
  generalize sp_min99 (sp_agg ((C.gt - 200) / 8) (sp_hasv C.gx (sp_grp C M a))) = x at h m1
  generalize sp_min99 (sp_agg ((C.gt - 200) / 8) (sp_hasv C.gx (sp_grp C M b))) = y at h m2
  unfold sp_slot at h1 h2
  unfold sp_wt at h
  by_cases q0 : s = 0
  · rw [if_pos q0] at h h1 h2
    omega
  · rw [if_neg q0] at h h1 h2
    by_cases q1 : s = 1
    · rw [if_pos q1] at h h1 h2
      omega
    · rw [if_neg q1] at h h1 h2
      omega
theorem sp_map_nd {f : Nat → Nat} {L : List Nat} (h : L.Nodup) (hf : ∀ x y, x ∈ L → y ∈ L → f x = f y → x = y) : (L.map f).Nodup := by
  induction L with
  | nil => simp
  | cons a L ih =>
    have h' := List.nodup_cons.mp h
    rw [List.map_cons, List.nodup_cons]
    refine ⟨fun hm => ?_, ih h'.2 (fun x y hx hy => hf x y (List.mem_cons_of_mem _ hx) (List.mem_cons_of_mem _ hy))⟩
    obtain ⟨b, hb, e⟩ := List.mem_map.mp hm
    have := hf b a (List.mem_cons_of_mem _ hb) List.mem_cons_self e
    rw [this] at hb
    exact h'.1 hb
/-- so many keys: too much in any case -/
theorem sp_keys_crowd {F : List Nat} {C : sp_C} {s t : Nat} (hl : C.hts.length ≤ 3) (hs : C.gath = some s) (ht : C.hts[s]? = some t) (ht2 : 200 ≤ t) {P R : List sp_Q} (hPR : P ++ R = sp_m F C.its (fun _ => none)) (hk : 60 < (sp_keys C P).length) : sp_crowd F (sp_give F C) ∧ sp_crowd F ((sp_keys C P).map (sp_gfact C P)) := by
  have hkey : ∀ key, key ∈ sp_keys C P → ∃ v, sp_bd v ∧ key = sp_hfact C v 0 := fun key hkey => by
    obtain ⟨q, hq, e⟩ := List.mem_map.mp (sp_dd_mem.mp hkey)
    exact ⟨q.2, sp_m_bd sp_none_bd q (by rw [← hPR]; exact List.mem_append_left _ hq), e.symm⟩
  have hsub : ∀ key, key ∈ sp_keys C P → key ∈ sp_keys C (sp_m F C.its (fun _ => none)) := fun key hkey => by
    obtain ⟨q, hq, e⟩ := List.mem_map.mp (sp_dd_mem.mp hkey)
    exact sp_dd_mem.mpr (List.mem_map.mpr ⟨q, by rw [← hPR]; exact List.mem_append_left _ hq, e⟩)
  have gen : ∀ M, ((sp_keys C P).map (sp_gfact C M)).Nodup := fun M => sp_map_nd (sp_dd_nd _) (fun x y hx hy e => by
    obtain ⟨v, hv, e1⟩ := hkey x hx
    obtain ⟨w, hw, e2⟩ := hkey y hy
    subst e1 e2
    exact sp_gfact_inj hl hs ht ht2 hv hw e)
  constructor
  · intro G hG _ hT
    have := sp_nd_len (gen (sp_m F C.its (fun _ => none))) (G := G) (fun x hx => hT x (by
      unfold sp_give
      rw [if_neg (by rw [hs]; simp)]
      obtain ⟨k, hk, e⟩ := List.mem_map.mp hx
      exact List.mem_map.mpr ⟨k, hsub k hk, e⟩))
    rw [List.length_map] at this
    omega
  · intro G hG _ hT
    have := sp_nd_len (gen P) (G := G) (fun x hx => hT x hx)
    rw [List.length_map] at this
    omega
