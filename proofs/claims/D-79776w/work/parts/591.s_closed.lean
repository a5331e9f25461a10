/-! THE PLAIN LAW, 7: what stands is closed; every fact of it has a depth -/
set_option maxRecDepth 100000
theorem sp_strata_8 {R : List sp_C} {st : Nat → Nat} (h : sp_strata R = some st) : ∀ i, st i < 8 := by
  have r : ∀ (cs : List sp_C) (a b : Nat → Nat) (c d : Bool), (∀ i, a i < 8) → sp_srnd cs a c = some (b, d) → ∀ i, b i < 8 := by
    intro cs
    induction cs with
    | nil => intro a b c d ha e; cases e; exact ha
    | cons C cs ih =>
      intro a b c d ha e
      have e' : (if 8 ≤ sp_lst a C then none else if a C.rel < sp_lst a C then sp_srnd cs (sp_put a C.rel (sp_lst a C)) true else sp_srnd cs a c) = some (b, d) := e
      split at e'
      · cases e'
      · rename_i q
        split at e'
        · refine ih _ _ _ _ (fun i => ?_) e'
          unfold sp_put
          split
          · omega
          · exact ha i
        · exact ih _ _ _ _ ha e'
  have t : ∀ (n : Nat) (a b : Nat → Nat), (∀ i, a i < 8) → sp_strt n R a = some b → ∀ i, b i < 8 := by
    intro n
    induction n with
    | zero => intro a b _ e; cases e
    | succ n ih =>
      intro a b ha e
      have e' : (match sp_srnd R a false with | none => none | some (st', ch) => if ch = true then sp_strt n R st' else some st') = some b := e
      cases hr : sp_srnd R a false with
      | none => rw [hr] at e'; cases e'
      | some p =>
        obtain ⟨a', ch⟩ := p
        rw [hr] at e'
        have e2 : (if ch = true then sp_strt n R a' else some a') = some b := e'
        have ha' := r R a a' false ch ha hr
        split at e2
        · exact ih _ _ ha' e2
        · cases e2; exact ha'
  exact t 57 _ _ (fun _ => by decide) h
theorem sp_chain_split {R : List sp_C} {st : Nat → Nat} {F : List Nat} : ∀ {n : Nat} {G : List Nat}, sp_chain R st n F G → ∀ s, s ≤ n → ∃ H, sp_chain R st s F H ∧ (∀ x, x ∈ H → x ∈ G) ∧ ∀ x, x ∈ G → x ∈ H ∨ s ≤ st (x / 1000000) := by
  intro n
  induction n with
  | zero => intro G hG s hs; have : s = 0 := by omega
            subst this
            exact ⟨G, hG, fun _ h => h, fun _ h => Or.inl h⟩
  | succ n ih =>
    intro G hG s hs
    by_cases e : s = n + 1
    · subst e
      exact ⟨G, hG, fun _ h => h, fun _ h => Or.inl h⟩
    · obtain ⟨H', h1, h2⟩ := hG
      obtain ⟨H, a1, a2, a3⟩ := ih h1 s (by omega)
      refine ⟨H, a1, fun x hx => h2.1.2.1 x (a2 x hx), fun x hx => ?_⟩
      rcases h2.1.2.2 x hx with q | q
      · exact a3 x q
      · exact Or.inr (by omega)
theorem sp_wfC.ht3 {S : List Nat} (hS : ∀ n, n ∈ S → 1 ≤ n ∧ n ≤ 3) {C : sp_C} (h : sp_wfC S C) : C.hts.length ≤ 3 := (hS _ (List.mem_of_getElem? h.hd)).2
/-- alike over what a rule's items ask for: it gives the same -/
theorem sp_give_eq {S : List Nat} (hS : ∀ n, n ∈ S → 1 ≤ n ∧ n ≤ 3) {F G : List Nat} {C : sp_C} (hw : ∀ it, it ∈ C.its → sp_wfI S it) (hn : ∀ it, it ∈ C.its → it.1 ≤ 1 → ∀ f, f / 1000000 = it.2.1 → (f ∈ F ↔ f ∈ G)) {f : Nat} (h : f ∈ sp_give F C) : f ∈ sp_give G C := by
  by_cases hg : C.gath = none
  · obtain ⟨w, h1, h2⟩ := (sp_give_plain hg).mp h
    exact (sp_give_plain hg).mpr ⟨w, (sp_M_same hS hw hn sp_none_bd).mp h1, h2⟩
  · exact sp_give_same hS hg hw hn h
theorem sp_stl_closed {S : List Nat} (hS : ∀ n, n ∈ S → 1 ≤ n ∧ n ≤ 3) {R : List sp_C} (hR : ∀ C, C ∈ R → sp_wfC S C) {st : Nat → Nat} (hst : sp_strata R = some st) {T G : List Nat} (h : sp_stl R st T G) : ∀ C, C ∈ R → ∀ f, f ∈ sp_give G C → f ∈ G := by
  intro C hC f hf
  obtain ⟨F, -, -, -, hch⟩ := h
  have h8 := sp_strata_8 hst C.rel
  obtain ⟨H, a1, a2, a3⟩ := sp_chain_split hch (st C.rel + 1) (by omega)
  obtain ⟨H0, b1, b2⟩ := a1
  refine a2 f (b2.2.2.1 C hC rfl f (sp_give_eq hS (hR C hC).its (fun it hit hk x hx => ⟨fun hG => ?_, fun hH => a2 x hH⟩) hf))
  rcases a3 x hG with q | q
  · exact q
  · have := sp_strata_fit hst C hC it hit hk
    rw [hx] at q
    split at this <;> omega
/-! matches with the facts of their ATOMs -/
def sp_MF (F : Nat → Prop) : List sp_I → sp_V → sp_V → List Nat → Prop
  | [], v, w, L => w = v ∧ L = []
  | it :: its, v, w, L => (it.1 = 0 ∧ ∃ u f L', F f ∧ f / 1000000 = it.2.1 ∧ sp_binds v f it.2.2 0 = some u ∧ L = f :: L' ∧ sp_MF F its u w L') ∨ (it.1 ≠ 0 ∧ ∃ u, sp_A F it v u ∧ sp_MF F its u w L)
theorem sp_m_MF {F : List Nat} {its : List sp_I} : ∀ {v w : sp_V} {L : List Nat}, (∃ ks, (ks, w) ∈ sp_m F its v ∧ sp_fs F (sp_atk its ks) = L) ↔ sp_MF (fun f => f ∈ F) its v w L := by
  induction its with
  | nil =>
    intro v w L
    constructor
    · rintro ⟨ks, hk, e⟩
      have hk' : (ks, w) ∈ [(([] : List Nat), v)] := hk
      have := List.mem_singleton.mp hk'
      cases this
      exact ⟨rfl, e.symm⟩
    · rintro ⟨rfl, rfl⟩
      exact ⟨[], List.mem_singleton.mpr rfl, rfl⟩
  | cons it its ih =>
    intro v w L
    rw [sp_m_cons]
    constructor
    · rintro ⟨ks, hk, e⟩
      obtain ⟨p, hp, h2⟩ := List.mem_flatMap.mp hk
      obtain ⟨q, hq, h3⟩ := List.mem_map.mp h2
      have e1 : ks = p.1 :: q.1 := congrArg Prod.fst h3.symm
      have e2 : w = q.2 := congrArg Prod.snd h3.symm
      subst e1 e2
      by_cases h0 : it.1 = 0
      · obtain ⟨g1, g2, g3⟩ := sp_alt_atom h0 hp
        refine Or.inl ⟨h0, p.2, F.getD p.1 0, sp_fs F (sp_atk its q.1), ?_, g2, g3, ?_, ih.mp ⟨q.1, hq, rfl⟩⟩
        · rw [List.getD_eq_getElem?_getD, List.getElem?_eq_getElem g1]
          exact List.getElem_mem g1
        · rw [← e]
          show sp_fs F (if it.1 = 0 then p.1 :: sp_atk its q.1 else sp_atk its q.1) = _
          rw [if_pos h0]
          rfl
      · refine Or.inr ⟨h0, p.2, sp_alt_A.mp ⟨p.1, hp⟩, ih.mp ⟨q.1, hq, ?_⟩⟩
        rw [← e]
        show _ = sp_fs F (if it.1 = 0 then p.1 :: sp_atk its q.1 else sp_atk its q.1)
        rw [if_neg h0]
    · rintro (⟨h0, u, f, L', h1, h2, h3, h4, h5⟩ | ⟨h0, u, h1, h2⟩)
      · obtain ⟨ks, k1, k2⟩ := ih.mpr h5
        obtain ⟨i, hi⟩ := List.getElem?_of_mem h1
        have hil := (List.getElem?_eq_some_iff.mp hi).1
        have hgd : F.getD i 0 = f := sp_getD hi
        refine ⟨i :: ks, List.mem_flatMap.mpr ⟨(i, u), ?_, List.mem_map.mpr ⟨(ks, w), k1, rfl⟩⟩, ?_⟩
        · unfold sp_alt
          rw [if_pos h0, List.mem_filterMap]
          exact ⟨i, List.mem_range.mpr hil, by rw [hgd, if_pos ⟨rfl, h2⟩, h3]; rfl⟩
        · show sp_fs F (if it.1 = 0 then i :: sp_atk its ks else sp_atk its ks) = L
          rw [if_pos h0, h4, ← k2]
          show F.getD i 0 :: _ = _
          rw [hgd]
          rfl
      · obtain ⟨ks, k1, k2⟩ := ih.mpr h2
        obtain ⟨i, hi⟩ := sp_alt_A.mpr h1
        refine ⟨i :: ks, List.mem_flatMap.mpr ⟨(i, u), hi, List.mem_map.mpr ⟨(ks, w), k1, rfl⟩⟩, ?_⟩
        show sp_fs F (if it.1 = 0 then i :: sp_atk its ks else sp_atk its ks) = L
        rw [if_neg h0]
        exact k2
theorem sp_MF_M {F : Nat → Prop} {its : List sp_I} : ∀ {v w : sp_V} {L : List Nat}, sp_MF F its v w L → sp_M F its v w := by
  induction its with
  | nil => intro v w L h; exact h.1
  | cons it its ih =>
    intro v w L h
    rcases h with ⟨h0, u, f, L', h1, h2, h3, -, h5⟩ | ⟨h0, u, h1, h2⟩
    · refine ⟨u, ?_, ih h5⟩
      unfold sp_A
      rw [if_pos h0]
      exact ⟨f, h1, h2, h3⟩
    · exact ⟨u, h1, ih h2⟩
theorem sp_M_MF {F : Nat → Prop} {its : List sp_I} : ∀ {v w : sp_V}, sp_M F its v w → ∃ L, sp_MF F its v w L := by
  induction its with
  | nil => intro v w h; exact ⟨[], h, rfl⟩
  | cons it its ih =>
    intro v w h
    obtain ⟨u, h1, h2⟩ := h
    obtain ⟨L, hL⟩ := ih h2
    by_cases h0 : it.1 = 0
    · unfold sp_A at h1
      rw [if_pos h0] at h1
      obtain ⟨f, a, b, c⟩ := h1
      exact ⟨f :: L, Or.inl ⟨h0, u, f, L, a, b, c, rfl, hL⟩⟩
    · exact ⟨L, Or.inr ⟨h0, u, h1, hL⟩⟩
/-- the facts are facts -/
theorem sp_MF_in {F : Nat → Prop} {its : List sp_I} : ∀ {v w : sp_V} {L : List Nat}, sp_MF F its v w L → ∀ f, f ∈ L → F f ∧ ∃ it, it ∈ its ∧ it.1 = 0 ∧ f / 1000000 = it.2.1 := by
  induction its with
  | nil => intro v w L h f hf; rw [h.2] at hf; cases hf
  | cons it its ih =>
    intro v w L h f hf
    rcases h with ⟨h0, u, g, L', h1, h2, h3, h4, h5⟩ | ⟨h0, u, h1, h2⟩
    · rw [h4] at hf
      rcases List.mem_cons.mp hf with e | hf
      · subst e
        exact ⟨h1, it, List.mem_cons_self, h0, h2⟩
      · obtain ⟨a, i, b, c⟩ := ih h5 f hf
        exact ⟨a, i, List.mem_cons_of_mem _ b, c⟩
    · obtain ⟨a, i, b, c⟩ := ih h2 f hf
      exact ⟨a, i, List.mem_cons_of_mem _ b, c⟩
theorem sp_MF_mono {S : List Nat} (hS : ∀ n, n ∈ S → 1 ≤ n ∧ n ≤ 3) {F G : Nat → Prop} (hFG : ∀ f, F f → G f) {its : List sp_I} (hw : ∀ it, it ∈ its → sp_wfI S it) (hn : ∀ it, it ∈ its → it.1 = 1 → ∀ f, G f → f / 1000000 = it.2.1 → F f) : ∀ {v w : sp_V} {L : List Nat}, sp_bd v → sp_MF F its v w L → sp_MF G its v w L := by
  induction its with
  | nil => intro v w L _ h; exact h
  | cons it its ih =>
    intro v w L hv h
    have ih' := fun {v w : sp_V} {L : List Nat} => ih (fun i hi => hw i (List.mem_cons_of_mem _ hi)) (fun i hi => hn i (List.mem_cons_of_mem _ hi)) (v := v) (w := w) (L := L)
    rcases h with ⟨h0, u, f, L', h1, h2, h3, h4, h5⟩ | ⟨h0, u, h1, h2⟩
    · exact Or.inl ⟨h0, u, f, L', hFG f h1, h2, h3, h4, ih' (sp_binds_bd h3 hv) h5⟩
    · refine Or.inr ⟨h0, u, ?_, ih' (sp_A_bd h1 hv) h2⟩
      unfold sp_A at h1 ⊢
      rw [if_neg h0] at h1 ⊢
      split at h1
      · rename_i q1
        rw [if_pos q1]
        exact ⟨fun hG => h1.1 (hn it List.mem_cons_self q1 _ hG (sp_num_rel hv ((hw it List.mem_cons_self).len hS).2)), h1.2⟩
      · rename_i q1
        rw [if_neg q1]
        exact h1
theorem sp_dmax {R : List sp_C} {F T : List Nat} (L : List Nat) : ∃ N, ∀ f, f ∈ L → (∃ n, sp_D R F T n f) → sp_D R F T N f := by
  induction L with
  | nil => exact ⟨0, fun f h => by cases h⟩
  | cons x L ih =>
    obtain ⟨N, hN⟩ := ih
    by_cases hx : ∃ n, sp_D R F T n x
    · obtain ⟨n, hn⟩ := hx
      refine ⟨N + n, fun f hf hd => ?_⟩
      rcases List.mem_cons.mp hf with e | hf
      · rw [e]; exact sp_D_le hn (by omega)
      · exact sp_D_le (hN f hf hd) (by omega)
    · refine ⟨N, fun f hf hd => ?_⟩
      rcases List.mem_cons.mp hf with e | hf
      · rw [e] at hd; exact absurd hd hx
      · exact hN f hf hd
theorem sp_fs_mem {F l : List Nat} {f : Nat} : f ∈ sp_fs F l ↔ ∃ k, k ∈ l ∧ F.getD k 0 = f := by
  unfold sp_fs
  exact List.mem_map
/-- all that stands can be derived -/
theorem sp_stl_D {S : List Nat} (hS : ∀ n, n ∈ S → 1 ≤ n ∧ n ≤ 3) {R : List sp_C} (hR : ∀ C, C ∈ R → sp_wfC S C) {st : Nat → Nat} (hst : sp_strata R = some st) {T G : List Nat} (h : sp_stl R st T G) : ∀ f, f ∈ G → ∃ n, sp_D R G T n f := by
  obtain ⟨F, f1, f2, f3, hch⟩ := h
  have main : ∀ s, s ≤ 8 → ∀ H, sp_chain R st s F H → (∀ x, x ∈ H → x ∈ G) → (∀ x, x ∈ G → x ∈ H ∨ s ≤ st (x / 1000000)) → ∀ f, f ∈ H → ∃ n, sp_D R G T n f := by
    intro s
    induction s with
    | zero =>
      intro _ H hH _ _ f hf
      have e : H = F := hH
      rw [e] at hf
      exact ⟨0, (f3 f).mp hf⟩
    | succ s ih =>
      intro hs H hH hsub hsup f hf
      obtain ⟨H0, b1, b2⟩ := hH
      obtain ⟨⟨u1, u2, u3⟩, b60, bcls, bmin⟩ := b2
      have sub0 : ∀ x, x ∈ H0 → x ∈ G := fun x hx => hsub x (u2 x hx)
      have sup0 : ∀ x, x ∈ G → x ∈ H0 ∨ s ≤ st (x / 1000000) := fun x hx => by
        rcases hsup x hx with q | q
        · rcases u3 x q with q2 | q2
          · exact Or.inl q2
          · exact Or.inr (by omega)
        · exact Or.inr (by omega)
      have ih0 := ih (by omega) H0 b1 sub0 sup0
      obtain ⟨N, hN⟩ := sp_dmax (R := R) (F := G) (T := T) G
      let p : Nat → Bool := fun f => @decide (∃ n, sp_D R G T n f) (Classical.propDecidable _)
      have hp : ∀ f, p f = true ↔ ∃ n, sp_D R G T n f := fun f => @decide_eq_true_iff _ (Classical.propDecidable _)
      have hmem : ∀ x, x ∈ H.filter p ↔ x ∈ H ∧ ∃ n, sp_D R G T n x := fun x => by rw [List.mem_filter, hp]
      have key := bmin (H.filter p) ⟨List.Pairwise.filter _ u1, fun x hx => (hmem x).mpr ⟨u2 x hx, ih0 x hx⟩, fun x hx => u3 x ((hmem x).mp hx).1⟩ (fun C hC hCs x hx => ?_) f hf
      · exact ((hmem f).mp key).2
      · have hwC := hR C hC
        have hfit := sp_strata_fit hst C hC
        have hxH : x ∈ H := by
          refine bcls C hC hCs x (sp_give_mono hS hwC hfit (F := H.filter p) (fun y hy => ((hmem y).mp hy).1) (fun y hy => ?_) hx)
          rcases u3 y hy with q | q
          · exact Or.inl ((hmem y).mpr ⟨hy, ih0 y q⟩)
          · exact Or.inr (by rw [hCs]; exact q)
        refine (hmem x).mpr ⟨hxH, N + 1, Or.inr ⟨C, hC, ?_⟩⟩
        have hpG : ∀ y, y ∈ H.filter p → y ∈ G := fun y hy => hsub y ((hmem y).mp hy).1
        by_cases hg : C.gath = none
        · obtain ⟨w, hM, e⟩ := (sp_give_plain hg).mp hx
          obtain ⟨L, hL⟩ := sp_M_MF hM
          have hL2 := sp_MF_mono hS (G := fun f => f ∈ G) hpG hwC.its (fun it hit hk y hy hr => by
            rcases hsup y hy with q | q
            · rcases u3 y q with q2 | q2
              · exact (hmem y).mpr ⟨q, ih0 y q2⟩
              · have := hfit it hit (by omega)
                rw [if_pos (Or.inl hk)] at this
                rw [hr] at q2
                omega
            · have := hfit it hit (by omega)
              rw [if_pos (Or.inl hk)] at this
              rw [hr] at q
              omega) sp_none_bd hL
          obtain ⟨ks, k1, k2⟩ := sp_m_MF.mpr hL2
          refine Or.inl ⟨hg, (ks, w), k1, e.symm, fun k hk => ?_⟩
          have hin : G.getD k 0 ∈ L := by rw [← k2]; exact sp_fs_mem.mpr ⟨k, hk, rfl⟩
          have := (sp_MF_in hL _ hin).1
          exact hN _ (hpG _ this) ((hmem _).mp this).2
        · refine Or.inr ⟨hg, ?_⟩
          have hxG : x ∈ sp_give G C := sp_give_eq hS hwC.its (fun it hit hk y hr => ⟨fun h => hpG y h, fun h => by
            rcases sup0 y h with q | q
            · exact (hmem y).mpr ⟨u2 y q, ih0 y q⟩
            · have := hfit it hit hk
              rw [if_pos (Or.inr hg)] at this
              rw [hr] at q
              omega⟩) hx
          unfold sp_give at hxG
          rw [if_neg hg] at hxG
          obtain ⟨key, hk, e⟩ := List.mem_map.mp hxG
          refine ⟨key, hk, e, fun q hq k hkk => ?_⟩
          have hqm := (List.mem_filter.mp hq).1
          have hMF := sp_m_MF.mp ⟨q.1, hqm, rfl⟩
          obtain ⟨g1, it, hit, h0, hr⟩ := sp_MF_in hMF (G.getD k 0) (sp_fs_mem.mpr ⟨k, hkk, rfl⟩)
          have : G.getD k 0 ∈ H0 := by
            rcases sup0 _ g1 with q | q
            · exact q
            · have := hfit it hit (by omega)
              rw [if_pos (Or.inr hg)] at this
              rw [hr] at q
              omega
          exact hN _ g1 (ih0 _ this)
  have h8 : ∀ x, x ∈ G → x ∈ G ∨ 8 ≤ st (x / 1000000) := fun x hx => Or.inl hx
  exact main 8 (Nat.le_refl _) G hch (fun _ h => h) h8
/-! depths are small -/
noncomputable def sp_lv (R : List sp_C) (F T : List Nat) (n : Nat) : List Nat := F.filter (fun f => @decide (sp_D R F T n f) (Classical.propDecidable _))
theorem sp_lv_mem {R : List sp_C} {F T : List Nat} {n f : Nat} : f ∈ sp_lv R F T n ↔ f ∈ F ∧ sp_D R F T n f := by
  unfold sp_lv
  rw [List.mem_filter]
  exact and_congr_right fun _ => @decide_eq_true_iff _ (Classical.propDecidable _)
theorem sp_D_stab {R : List sp_C} {F T : List Nat} {m : Nat} (h : ∀ f, f ∈ F → sp_D R F T (m + 1) f → sp_D R F T m f) : ∀ n f, f ∈ F → sp_D R F T n f → sp_D R F T m f := by
  intro n
  induction n with
  | zero => intro f _ hd; exact sp_D_le hd (Nat.zero_le _)
  | succ n ih =>
    intro f hf hd
    rcases hd with hd | ⟨C, hC, hd⟩
    · exact ih f hf hd
    · refine h f hf (Or.inr ⟨C, hC, ?_⟩)
      have get : ∀ k, k < F.length → F.getD k 0 ∈ F := fun k hk => by rw [List.getD_eq_getElem?_getD, List.getElem?_eq_getElem hk]; exact List.getElem_mem hk
      rcases hd with ⟨hg, q, hq, e, hk⟩ | ⟨hg, key, hk, e, hq⟩
      · exact Or.inl ⟨hg, q, hq, e, fun k hkk => ih _ (get k (sp_m_ks hq k hkk)) (hk k hkk)⟩
      · exact Or.inr ⟨hg, key, hk, e, fun q hqq k hkk => ih _ (get k (sp_m_ks (List.mem_filter.mp hqq).1 k hkk)) (hq q hqq k hkk)⟩
theorem sp_D_small {R : List sp_C} {F T : List Nat} (hF : sp_srt F) {n f : Nat} (hf : f ∈ F) (h : sp_D R F T n f) : sp_D R F T F.length f := by
  have hnd : ∀ n, (sp_lv R F T n).Nodup := fun n => List.Pairwise.filter _ (sp_srt_nd hF)
  have step : ∀ n, (∃ m, m < n ∧ ∀ f, f ∈ F → sp_D R F T (m + 1) f → sp_D R F T m f) ∨ n ≤ (sp_lv R F T n).length := by
    intro n
    induction n with
    | zero => exact Or.inr (Nat.zero_le _)
    | succ n ih =>
      rcases ih with ⟨m, hm, hs⟩ | ih
      · exact Or.inl ⟨m, by omega, hs⟩
      · by_cases hs : ∀ f, f ∈ F → sp_D R F T (n + 1) f → sp_D R F T n f
        · exact Or.inl ⟨n, by omega, hs⟩
        · refine Or.inr ?_
          obtain ⟨x, hx⟩ := Classical.not_forall.mp hs
          obtain ⟨hxF, hx⟩ := Classical.not_imp.mp hx
          obtain ⟨hx1, hx0⟩ := Classical.not_imp.mp hx
          have hc : (x :: sp_lv R F T n).Nodup := List.nodup_cons.mpr ⟨fun h => hx0 (sp_lv_mem.mp h).2, hnd n⟩
          have := sp_nd_len hc (G := sp_lv R F T (n + 1)) (fun y hy => by
            rcases List.mem_cons.mp hy with e | hy
            · rw [e]; exact sp_lv_mem.mpr ⟨hxF, hx1⟩
            · obtain ⟨a, b⟩ := sp_lv_mem.mp hy
              exact sp_lv_mem.mpr ⟨a, Or.inl b⟩)
          rw [List.length_cons] at this
          omega
  rcases step (F.length + 1) with ⟨m, hm, hs⟩ | h2
  · exact sp_D_le (sp_D_stab hs n f hf h) (by omega)
  · have := List.length_filter_le (fun f => @decide (sp_D R F T (F.length + 1) f) (Classical.propDecidable _)) F
    have e : (sp_lv R F T (F.length + 1)).length ≤ F.length := this
    omega
/-- the depth of a fact -/
noncomputable def sp_dpt (R : List sp_C) (F T : List Nat) (f : Nat) : Nat := @dite _ (∃ n, sp_D R F T n f) (Classical.propDecidable _) (fun h => Classical.choose (pk_least _ h)) (fun _ => 1000000)
theorem sp_dpt_spec {R : List sp_C} {F T : List Nat} {f : Nat} (h : ∃ n, sp_D R F T n f) : sp_D R F T (sp_dpt R F T f) f ∧ ∀ n, sp_D R F T n f → sp_dpt R F T f ≤ n := by
  have e : sp_dpt R F T f = Classical.choose (pk_least _ h) := by
    unfold sp_dpt
    rw [dif_pos h]
  have hs := Classical.choose_spec (pk_least _ h)
  rw [← e] at hs
  exact ⟨hs.1, fun n hn => Nat.not_lt.mp (fun hlt => hs.2 n hlt hn)⟩
theorem sp_isd_dpt {R : List sp_C} {F T : List Nat} {dep : Nat → Nat} (hd : sp_isd R F T dep) (hF : sp_srt F) (h60 : F.length ≤ 60) {i f : Nat} (hi : F[i]? = some f) (hx : ∃ n, sp_D R F T n f) : dep i = sp_dpt R F T f := by
  obtain ⟨h1, h2⟩ := sp_dpt_spec hx
  obtain ⟨n, hn⟩ := hx
  have hs := sp_D_small hF (List.mem_of_getElem? hi) hn
  have a := (hd i f hi).2 _ h1
  have b := (hd i f hi).2 _ hs
  have c := h2 _ ((hd i f hi).1 (by omega))
  omega
