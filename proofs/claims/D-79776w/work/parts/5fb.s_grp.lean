/-! THE SYSTEM'S PLAIN LAW: the matches of a group are found from what its key tells -/
set_option maxRecDepth 100000
theorem sp_up_eq {v : sp_V} {x a : Nat} : sp_up v x a x = some a := if_pos rfl
theorem sp_up_ne {v : sp_V} {x a i : Nat} (h : i ≠ x) : sp_up v x a i = v i := if_neg h
theorem sp_val_none {v : sp_V} {t : Nat} (h : sp_val v t = none) : ¬ t < 100 ∧ v (t - 100) = none := by
  unfold sp_val at h
  split at h
  · cases h
  · rename_i q
    exact ⟨q, h⟩
theorem sp_val_ge {v : sp_V} {t : Nat} (h : ¬ t < 100) : sp_val v t = v (t - 100) := if_neg h
theorem sp_bind_none {v : sp_V} {t a : Nat} (h : sp_val v t = none) : sp_bind v t a = some (sp_up v (t - 100) a) := by unfold sp_bind; rw [h]
theorem sp_bind_some {v : sp_V} {t a b : Nat} (h : sp_val v t = some b) : sp_bind v t a = if b = a then some v else none := by unfold sp_bind; rw [h]
theorem sp_bind_dn {v v' u : sp_V} (hl : sp_le v' v) {t a : Nat} (h : sp_bind v t a = some u) : ∃ u', sp_bind v' t a = some u' ∧ sp_le u' u := by
  cases e' : sp_val v' t with
  | none =>
    obtain ⟨t1, t2⟩ := sp_val_none e'
    refine ⟨_, sp_bind_none e', fun i => ?_⟩
    by_cases hi : i = t - 100
    · subst hi
      rw [sp_up_eq]
      have := sp_bind_known h
      rw [sp_val_ge t1] at this
      exact Or.inr this.symm
    · rw [sp_up_ne hi]
      cases e : sp_val v t with
      | none =>
        rw [sp_bind_none e] at h
        cases h
        rw [sp_up_ne hi]
        exact hl i
      | some b =>
        rw [sp_bind_some e] at h
        split at h
        · cases h
          exact hl i
        · cases h
  | some b =>
    have e := sp_le_val hl e'
    rw [sp_bind_some e] at h
    split at h
    · rename_i q
      cases h
      exact ⟨v', by rw [sp_bind_some e', if_pos q], hl⟩
    · cases h
theorem sp_binds_dn {f : Nat} {ts : List Nat} : ∀ {v v' u : sp_V} {s : Nat}, sp_le v' v → sp_binds v f ts s = some u → ∃ u', sp_binds v' f ts s = some u' ∧ sp_le u' u := by
  induction ts with
  | nil =>
    intro v v' u s hl h
    cases h
    exact ⟨v', rfl, hl⟩
  | cons t ts ih =>
    intro v v' u s hl h
    have h' : (sp_bind v t (sp_slot f s)).bind (fun w => sp_binds w f ts (s + 1)) = some u := h
    obtain ⟨x, hx, h2⟩ := Option.bind_eq_some_iff.mp h'
    obtain ⟨x', hx', hle⟩ := sp_bind_dn hl hx
    obtain ⟨u', hu', hle2⟩ := ih hle h2
    exact ⟨u', Option.bind_eq_some_iff.mpr ⟨x', hx', hu'⟩, hle2⟩
theorem sp_bind_ge {v v' w u' : sp_V} (hl : sp_le v' v) (hw : sp_le v w) {t a : Nat} (h : sp_bind v' t a = some u') (hu : sp_le u' w) : ∃ u, sp_bind v t a = some u ∧ sp_le u' u ∧ sp_le u w := by
  have hwt := sp_le_val hu (sp_bind_known h)
  cases e : sp_val v t with
  | none =>
    obtain ⟨t1, t2⟩ := sp_val_none e
    have e' : sp_val v' t = none := by
      cases e' : sp_val v' t with
      | none => rfl
      | some b => rw [sp_le_val hl e'] at e; cases e
    rw [sp_bind_none e'] at h
    cases h
    refine ⟨_, sp_bind_none e, fun i => ?_, fun i => ?_⟩
    · by_cases hi : i = t - 100
      · subst hi
        rw [sp_up_eq, sp_up_eq]
        exact Or.inr rfl
      · rw [sp_up_ne hi, sp_up_ne hi]
        exact hl i
    · by_cases hi : i = t - 100
      · subst hi
        rw [sp_up_eq]
        rw [sp_val_ge t1] at hwt
        exact Or.inr hwt.symm
      · rw [sp_up_ne hi]
        exact hw i
  | some b =>
    have hb := sp_le_val hw e
    rw [hwt] at hb
    cases hb
    refine ⟨v, by rw [sp_bind_some e, if_pos rfl], fun i => ?_, hw⟩
    cases e' : sp_val v' t with
    | none =>
      obtain ⟨t1, -⟩ := sp_val_none e'
      rw [sp_bind_none e'] at h
      cases h
      by_cases hi : i = t - 100
      · subst hi
        rw [sp_up_eq]
        rw [sp_val_ge t1] at e
        exact Or.inr e.symm
      · rw [sp_up_ne hi]
        exact hl i
    | some c =>
      rw [sp_bind_some e'] at h
      split at h
      · cases h
        exact hl i
      · cases h
theorem sp_bind_inc {v u : sp_V} {t a : Nat} (h : sp_bind v t a = some u) : sp_le v u := fun i => by
  cases e : sp_val v t with
  | none =>
    obtain ⟨t1, t2⟩ := sp_val_none e
    rw [sp_bind_none e] at h
    cases h
    by_cases hi : i = t - 100
    · subst hi
      exact Or.inl t2
    · rw [sp_up_ne hi]
      exact Or.inr rfl
  | some b =>
    rw [sp_bind_some e] at h
    split at h
    · cases h
      exact Or.inr rfl
    · cases h
theorem sp_binds_inc {f : Nat} {ts : List Nat} : ∀ {v u : sp_V} {s : Nat}, sp_binds v f ts s = some u → sp_le v u := by
  induction ts with
  | nil => intro v u s h; cases h; exact .rf
  | cons t ts ih =>
    intro v u s h
    have h' : (sp_bind v t (sp_slot f s)).bind (fun w => sp_binds w f ts (s + 1)) = some u := h
    obtain ⟨x, hx, h2⟩ := Option.bind_eq_some_iff.mp h'
    exact (sp_bind_inc hx).tr (ih h2)
theorem sp_binds_ge {f : Nat} {ts : List Nat} : ∀ {v v' w u' : sp_V} {s : Nat}, sp_le v' v → sp_le v w → sp_binds v' f ts s = some u' → sp_le u' w → ∃ u, sp_binds v f ts s = some u ∧ sp_le u' u ∧ sp_le u w := by
  induction ts with
  | nil =>
    intro v v' w u' s hl hw h hu
    cases h
    exact ⟨v, rfl, hl, hw⟩
  | cons t ts ih =>
    intro v v' w u' s hl hw h hu
    have h' : (sp_bind v' t (sp_slot f s)).bind (fun w => sp_binds w f ts (s + 1)) = some u' := h
    obtain ⟨x, hx, h2⟩ := Option.bind_eq_some_iff.mp h'
    obtain ⟨y, hy, y1, y2⟩ := sp_bind_ge hl hw hx ((sp_binds_inc h2).tr hu)
    obtain ⟨u, hu1, hu2⟩ := ih y1 y2 h2 hu
    exact ⟨u, Option.bind_eq_some_iff.mpr ⟨y, hy, hu1⟩, hu2⟩
theorem sp_val_same {v v' : sp_V} (hl : sp_le v' v) {t : Nat} (h : (sp_val v' t).isSome = true) : sp_val v t = sp_val v' t := by
  obtain ⟨a, ha⟩ := Option.isSome_iff_exists.mp h
  rw [ha, sp_le_val hl ha]
theorem sp_sum_same {v v' : sp_V} {ts : List Nat} : ∀ {s : Nat}, (∀ t, t ∈ ts → sp_val v t = sp_val v' t) → sp_sum v ts s = sp_sum v' ts s := by
  induction ts with
  | nil => intro s _; rfl
  | cons t ts ih =>
    intro s h
    show sp_wt s * (sp_val v t).getD 0 + sp_sum v ts (s + 1) = sp_wt s * (sp_val v' t).getD 0 + sp_sum v' ts (s + 1)
    rw [h t List.mem_cons_self, ih (fun t ht => h t (List.mem_cons_of_mem _ ht))]
theorem sp_A_le {F : Nat → Prop} {it : sp_I} {v v' u : sp_V} (hl : sp_le v' v) (hok : it.1 ≠ 0 → sp_ok v' it) (hk : it.1 ≤ 3) (h : sp_A F it v u) : ∃ u', sp_A F it v' u' ∧ sp_le u' u := by
  unfold sp_A at h ⊢
  by_cases h0 : it.1 = 0
  · simp only [if_pos h0] at h ⊢
    obtain ⟨f, a1, a2, a3⟩ := h
    obtain ⟨u', b1, b2⟩ := sp_binds_dn hl a3
    exact ⟨u', ⟨f, a1, a2, b1⟩, b2⟩
  · simp only [if_neg h0] at h ⊢
    obtain ⟨o1, o2⟩ := hok h0
    by_cases h1 : it.1 = 1
    · simp only [if_pos h1] at h ⊢
      obtain ⟨a1, rfl⟩ := h
      refine ⟨v', ⟨?_, rfl⟩, hl⟩
      have e : sp_num v' it.2.1 it.2.2 = sp_num u it.2.1 it.2.2 := by
        unfold sp_num
        rw [sp_sum_same (fun t ht => (sp_val_same hl (o1 h1 t ht)).symm)]
      rw [e]
      exact a1
    · have hg : ∀ k, k < 2 → sp_get v' it.2.2 k = sp_get v it.2.2 k := fun k hk2 => by
        unfold sp_get
        rw [sp_val_same hl (o2 (by omega) k hk2)]
      simp only [if_neg h1, hg 0 (by decide), hg 1 (by decide)]
      simp only [if_neg h1] at h
      by_cases h2 : it.1 = 2
      · simp only [if_pos h2] at h ⊢
        obtain ⟨a1, rfl⟩ := h
        exact ⟨v', ⟨a1, rfl⟩, hl⟩
      · simp only [if_neg h2] at h ⊢
        obtain ⟨a1, a2⟩ := h
        obtain ⟨u', b1, b2⟩ := sp_bind_dn hl a2
        exact ⟨u', ⟨a1, b1⟩, b2⟩
theorem sp_A_ge {F : Nat → Prop} {it : sp_I} {v v' w u' : sp_V} (hl : sp_le v' v) (hw : sp_le v w) (hok : it.1 ≠ 0 → sp_ok v' it) (hk : it.1 ≤ 3) (h : sp_A F it v' u') (hu : sp_le u' w) : ∃ u, sp_A F it v u ∧ sp_le u' u ∧ sp_le u w := by
  unfold sp_A at h ⊢
  by_cases h0 : it.1 = 0
  · simp only [if_pos h0] at h ⊢
    obtain ⟨f, a1, a2, a3⟩ := h
    obtain ⟨u, b1, b2⟩ := sp_binds_ge hl hw a3 hu
    exact ⟨u, ⟨f, a1, a2, b1⟩, b2⟩
  · simp only [if_neg h0] at h ⊢
    obtain ⟨o1, o2⟩ := hok h0
    by_cases h1 : it.1 = 1
    · simp only [if_pos h1] at h ⊢
      obtain ⟨a1, rfl⟩ := h
      refine ⟨v, ⟨?_, rfl⟩, hl, hw⟩
      have e : sp_num v it.2.1 it.2.2 = sp_num u' it.2.1 it.2.2 := by
        unfold sp_num
        rw [sp_sum_same (fun t ht => (sp_val_same hl (o1 h1 t ht)))]
      rw [e]
      exact a1
    · have hg : ∀ k, k < 2 → sp_get v it.2.2 k = sp_get v' it.2.2 k := fun k hk2 => by
        unfold sp_get
        rw [sp_val_same hl (o2 (by omega) k hk2)]
      simp only [if_neg h1, hg 0 (by decide), hg 1 (by decide)]
      simp only [if_neg h1] at h
      by_cases h2 : it.1 = 2
      · simp only [if_pos h2] at h ⊢
        obtain ⟨a1, rfl⟩ := h
        exact ⟨v, ⟨a1, rfl⟩, hl, hw⟩
      · simp only [if_neg h2] at h ⊢
        obtain ⟨a1, a2⟩ := h
        obtain ⟨u, b1, b2⟩ := sp_bind_ge hl hw a2 hu
        exact ⟨u, ⟨a1, b1⟩, b2⟩
section MG
variable {S F : List Nat}
theorem sp_M_le {its : List sp_I} : ∀ {kn : Nat → Bool} {v v' w : sp_V}, (∀ it, it ∈ its → sp_wfI S it) → sp_le v' v → sp_has kn v' → sp_snd kn its = true → sp_M (fun f => f ∈ F) its v w → ∃ w', sp_M (fun f => f ∈ F) its v' w' ∧ sp_le w' w := by
  induction its with
  | nil =>
    intro kn v v' w _ hl _ _ h
    have h' : w = v := h
    subst h'
    exact ⟨v', rfl, hl⟩
  | cons it its ih =>
    intro kn v v' w hw hl hh hs h
    have hs' : (sp_okI kn it && sp_snd (sp_knI kn it) its) = true := hs
    rw [Bool.and_eq_true] at hs'
    have hwi := hw it List.mem_cons_self
    obtain ⟨u, a1, a2⟩ := h
    obtain ⟨u', b1, b2⟩ := sp_A_le hl (fun h0 => sp_okI.ok hh hwi hs'.1 h0) hwi.1 a1
    obtain ⟨k, hk⟩ := sp_alt_A.mpr b1
    obtain ⟨w', c1, c2⟩ := ih (fun i hi => hw i (List.mem_cons_of_mem _ hi)) b2 (hh.step hwi hk) hs'.2 a2
    exact ⟨w', ⟨u', b1, c1⟩, c2⟩
theorem sp_M_ge {its : List sp_I} : ∀ {kn : Nat → Bool} {v v' w : sp_V}, (∀ it, it ∈ its → sp_wfI S it) → sp_le v' v → sp_le v w → sp_has kn v' → sp_snd kn its = true → sp_M (fun f => f ∈ F) its v' w → sp_M (fun f => f ∈ F) its v w := by
  induction its with
  | nil =>
    intro kn v v' w _ hl hv _ _ h
    have h' : w = v' := h
    subst h'
    show w = v
    funext i
    rcases hl i with q | q
    · rcases hv i with q2 | q2
      · rw [q, q2]
      · exact q2.symm
    · exact q
  | cons it its ih =>
    intro kn v v' w hw hl hv hh hs h
    have hs' : (sp_okI kn it && sp_snd (sp_knI kn it) its) = true := hs
    rw [Bool.and_eq_true] at hs'
    have hwi := hw it List.mem_cons_self
    obtain ⟨u', a1, a2⟩ := h
    obtain ⟨k, hk⟩ := sp_alt_A.mpr a1
    have hh' := hh.step hwi hk
    have hw' := fun i hi => hw i (List.mem_cons_of_mem it hi)
    have hu : sp_le u' w := by
      obtain ⟨ks, hks⟩ := sp_m_M.mpr a2
      exact (sp_has.mat hw' hh' _ hks).2
    obtain ⟨u, b1, b2, b3⟩ := sp_A_ge hl hv (fun h0 => sp_okI.ok hh hwi hs'.1 h0) hwi.1 a1 hu
    exact ⟨u, b1, ih hw' b2 b3 hh' hs'.2 a2⟩
end MG
/-! heads laid -/
theorem sp_lay_inc {g : Nat → Option Nat} {ts : List Nat} : ∀ {s : Nat} {v u : sp_V}, sp_lay g ts s v = some u → sp_le v u ∧ ∀ (i t a : Nat), ts[i]? = some t → t < 200 → g (s + i) = some a → sp_val u t = some a := by
  induction ts with
  | nil =>
    intro s v u h
    cases h
    exact ⟨.rf, fun i t a e => (by simp at e)⟩
  | cons t ts ih =>
    intro s v u h
    have next : ∀ {x : sp_V}, sp_le v x → sp_lay g ts (s + 1) x = some u → (∀ a, t < 200 → g s = some a → sp_val x t = some a) → sp_le v u ∧ ∀ (i y a : Nat), (t :: ts)[i]? = some y → y < 200 → g (s + i) = some a → sp_val u y = some a := by
      intro x hx h2 h3
      obtain ⟨i1, i2⟩ := ih h2
      refine ⟨hx.tr i1, fun i y a e hy hga => ?_⟩
      cases i with
      | zero =>
        cases e
        exact sp_le_val i1 (h3 a hy hga)
      | succ i => exact i2 i y a e hy (by rw [show s + 1 + i = s + (i + 1) by omega]; exact hga)
    have h' : (match g s with
      | none => sp_lay g ts (s + 1) v
      | some a => if t < 200 then (sp_bind v t a).bind (sp_lay g ts (s + 1)) else sp_lay g ts (s + 1) v) = some u := h
    cases e : g s with
    | none =>
      rw [e] at h'
      exact next .rf h' (fun a _ q => by rw [e] at q; cases q)
    | some a =>
      rw [e] at h'
      have h'' : (if t < 200 then (sp_bind v t a).bind (sp_lay g ts (s + 1)) else sp_lay g ts (s + 1) v) = some u := h'
      split at h''
      · obtain ⟨x, hx, h2⟩ := Option.bind_eq_some_iff.mp h''
        exact next (sp_bind_inc hx) h2 (fun b _ q => by rw [e] at q; cases q; exact sp_bind_known hx)
      · rename_i ht
        exact next .rf h'' (fun b q => absurd q ht)
theorem sp_lay_of {g : Nat → Option Nat} {ts : List Nat} : ∀ {s : Nat} {v w : sp_V}, sp_le v w → (∀ (i t a : Nat), ts[i]? = some t → t < 200 → g (s + i) = some a → sp_val w t = some a) → ∃ u, sp_lay g ts s v = some u ∧ sp_le u w := by
  induction ts with
  | nil => intro s v w hv _; exact ⟨v, rfl, hv⟩
  | cons t ts ih =>
    intro s v w hv h
    have h2 : ∀ (i y a : Nat), ts[i]? = some y → y < 200 → g (s + 1 + i) = some a → sp_val w y = some a := fun i y a e hy hga => h (i + 1) y a e hy (by rw [show s + (i + 1) = s + 1 + i by omega]; exact hga)
    cases e : g s with
    | none =>
      obtain ⟨u, u1, u2⟩ := ih hv h2
      exact ⟨u, by show (match g s with | none => _ | some a => _) = _; rw [e]; exact u1, u2⟩
    | some a =>
      rw [sp_lay_cons e]
      by_cases ht : t < 200
      · rw [if_pos ht]
        have hwt := h 0 t a rfl ht e
        obtain ⟨x, hx, x1, x2⟩ : ∃ x, sp_bind v t a = some x ∧ sp_le v x ∧ sp_le x w := by
          cases ev : sp_val v t with
          | none =>
            obtain ⟨t1, t2⟩ := sp_val_none ev
            refine ⟨_, sp_bind_none ev, sp_bind_inc (sp_bind_none ev), fun i => ?_⟩
            by_cases hi : i = t - 100
            · subst hi
              rw [sp_up_eq]
              rw [sp_val_ge t1] at hwt
              exact Or.inr hwt.symm
            · rw [sp_up_ne hi]
              exact hv i
          | some b =>
            have := sp_le_val hv ev
            rw [hwt] at this
            cases this
            exact ⟨v, by rw [sp_bind_some ev, if_pos rfl], .rf, hv⟩
        obtain ⟨u, u1, u2⟩ := ih x2 h2
        exact ⟨u, by rw [hx]; exact u1, u2⟩
      · rw [if_neg ht]
        exact ih hv h2
theorem sp_hsum_same {v w : sp_V} {g : Nat} {ts : List Nat} : ∀ {s : Nat}, (∀ t, t ∈ ts → sp_hval v g t = sp_hval w g t) → sp_hsum v g ts s = sp_hsum w g ts s := by
  induction ts with
  | nil => intro s _; rfl
  | cons t ts ih =>
    intro s h
    show sp_wt s * sp_hval v g t + sp_hsum v g ts (s + 1) = sp_wt s * sp_hval w g t + sp_hsum w g ts (s + 1)
    rw [h t List.mem_cons_self, ih (fun t ht => h t (List.mem_cons_of_mem _ ht))]
/-- the group of a key, found from the key -/
theorem sp_grouped {S F : List Nat} (hS : ∀ n, n ∈ S → 1 ≤ n ∧ n ≤ 3) {C : sp_C} (hw : sp_wfC S C) (hr : C.rel < 8) {s : Nat} (hs : C.gath = some s) {key : Nat} (hkey : key ∈ sp_keys C (sp_m F C.its (fun _ => none))) : ∃ vk, sp_hbs C key (fun _ => none) = some vk ∧ (∃ q, q ∈ sp_m F C.its vk) ∧ ∀ a, (∃ q, q ∈ sp_m F C.its vk ∧ q.2 C.gx = some a) ↔ sp_hasv C.gx (sp_grp C (sp_m F C.its (fun _ => none)) key) a = true := by
  have hl := hw.ht3 hS
  obtain ⟨w0, hM0, hk0⟩ := sp_keys_M.mp hkey
  have known : ∀ {v : sp_V} {w : sp_V}, sp_M (fun f => f ∈ F) C.its v w → (∀ t, t ∈ C.hts → t < 200 → (sp_val w t).isSome = true) ∧ (w C.gx).isSome = true := fun {v w} hM => by
    obtain ⟨ks, hks⟩ := sp_m_M.mpr hM
    have := hw.known hks
    exact ⟨this.1, this.2 _ (List.mem_of_getElem? (sp_gt_at hs).1) (sp_gt_at hs).2⟩
  have bd : ∀ {w : sp_V}, sp_M (fun f => f ∈ F) C.its (fun _ => none) w → sp_bd w := fun {w} hM => by
    obtain ⟨ks, hks⟩ := sp_m_M.mpr hM
    exact sp_m_bd sp_none_bd (ks, w) hks
  have slots : ∀ {w : sp_V}, sp_M (fun f => f ∈ F) C.its (fun _ => none) w → sp_hfact C w 0 = key → ∀ (i t a : Nat), C.hts[i]? = some t → t < 200 → some (sp_slot key (0 + i)) = some a → sp_val w t = some a := fun {w} hM e i t a hi ht ha => by
    rw [Nat.zero_add, ← e, sp_hfact_slot (bd hM) (by decide) hl hi] at ha
    unfold sp_hval at ha
    rw [if_neg (by omega)] at ha
    obtain ⟨b, hb⟩ := Option.isSome_iff_exists.mp ((known hM).1 t (List.mem_of_getElem? hi) ht)
    rw [hb] at ha ⊢
    exact ha
  have hrel : key / 1000000 = C.rel := by rw [← hk0]; exact (sp_hfact_lt (bd hM0) (by decide) hl hr).2
  have lay : ∀ {w : sp_V}, sp_M (fun f => f ∈ F) C.its (fun _ => none) w → sp_hfact C w 0 = key → ∃ u, sp_hbs C key (fun _ => none) = some u ∧ sp_le u w := fun {w} hM e => by
    unfold sp_hbs
    rw [if_pos hrel]
    exact sp_lay_of (fun _ => Or.inl rfl) (slots hM e)
  obtain ⟨vk, hvk, hle⟩ := lay hM0 hk0
  have up : ∀ {w : sp_V}, sp_M (fun f => f ∈ F) C.its (fun _ => none) w → sp_hfact C w 0 = key → sp_M (fun f => f ∈ F) C.its vk w := fun {w} hM e => by
    obtain ⟨u, hu, hle⟩ := lay hM e
    rw [hvk] at hu
    cases hu
    exact sp_M_ge hw.its (fun _ => Or.inl rfl) hle (sp_has_none _) hw.snd hM
  refine ⟨vk, hvk, ?_, fun a => ?_⟩
  · obtain ⟨ks, hks⟩ := sp_m_M.mpr (up hM0 hk0)
    exact ⟨_, hks⟩
  · rw [sp_hasv_M]
    constructor
    · rintro ⟨q, hq, hqa⟩
      have hM : sp_M (fun f => f ∈ F) C.its vk q.2 := sp_m_M.mp ⟨q.1, hq⟩
      obtain ⟨w', hM', hle'⟩ := sp_M_le hw.its (fun _ => Or.inl rfl) (sp_has_none _) hw.snd hM
      obtain ⟨k1, k2⟩ := known hM'
      have hlq := (sp_has.mat hw.its (sp_has_none vk) q hq).2
      have hlay : sp_lay (fun s => some (sp_slot key s)) C.hts 0 (fun _ => none) = some vk := by
        unfold sp_hbs at hvk
        rw [if_pos hrel] at hvk
        exact hvk
      have hvs := (sp_lay_inc hlay).2
      refine ⟨w', hM', ?_, ?_⟩
      · rw [← hk0]
        unfold sp_hfact
        congr 1
        refine sp_hsum_same (fun t ht => ?_)
        unfold sp_hval
        by_cases h2 : 200 ≤ t
        · rw [if_pos h2, if_pos h2]
        · rw [if_neg h2, if_neg h2]
          obtain ⟨i, hi⟩ := List.getElem?_of_mem ht
          have e1 := hvs i t _ hi (by omega) rfl
          have e2 := sp_le_val hlq e1
          rw [sp_val_same hle' (k1 t ht (by omega))] at e2
          have e3 := slots hM0 hk0 i t _ hi (by omega) rfl
          rw [e2, e3]
      · obtain ⟨b, hb⟩ := Option.isSome_iff_exists.mp k2
        have := sp_le_some hle' hb
        rw [hqa] at this
        rw [hb, this]
    · rintro ⟨w, hM, e, ha⟩
      obtain ⟨ks, hks⟩ := sp_m_M.mpr (up hM e)
      exact ⟨_, hks, ha⟩
