/-! THE SYSTEM: facts added one after another; the taker of a deriver -/
set_option maxRecDepth 100000
def xIn.adds (q : Nat) : xIn → List Nat → Option xIn
  | s, [] => some s
  | s, f :: l => (s.add f q).bind (fun s' => xIn.adds q s' l)
theorem xIn.adds_app {q : Nat} : ∀ {A B : List Nat} {s : xIn}, s.adds q (A ++ B) = (s.adds q A).bind (fun s' => s'.adds q B) := by
  intro A
  induction A with
  | nil => intro B s; rfl
  | cons f A ih =>
    intro B s
    show (s.add f q).bind (fun s' => s'.adds q (A ++ B)) = ((s.add f q).bind (fun s' => s'.adds q A)).bind _
    cases h : s.add f q with
    | none => rfl
    | some s' => exact ih
theorem xIn.srt (s : xIn) : sp_srt s.F ∧ s.F.length ≤ 60 ∧ ∀ x, x ∈ s.F → x < 8000000 := by
  obtain ⟨r, hr⟩ := s.ok
  exact hr.1
theorem xIn.adds_some {q : Nat} : ∀ {l : List Nat} {s s' : xIn}, s.adds q l = some s' → (∀ x, x ∈ s'.F ↔ x ∈ s.F ∨ x ∈ l) ∧ ∀ r, s.rd r → ∃ r', s'.rd r' ∧ ∀ x, x ∈ s'.F → r' x = if x ∈ s.F then r x else q := by
  intro l
  induction l with
  | nil =>
    intro s s' h
    cases h
    exact ⟨fun x => ⟨Or.inl, fun q => q.elim id (fun q => (by cases q))⟩, fun r hr => ⟨r, hr, fun x hx => (if_pos hx).symm⟩⟩
  | cons f l ih =>
    intro s s' h
    have h' : (s.add f q).bind (fun s' => s'.adds q l) = some s' := h
    cases e : s.add f q with
    | none => rw [e] at h'; cases h'
    | some t =>
      rw [e] at h'
      obtain ⟨i1, i2⟩ := ih h'
      obtain ⟨t1, t2⟩ := xIn.add_spec e
      have hm : ∀ x, x ∈ t.F ↔ x = f ∨ x ∈ s.F := fun x => by rw [t1]; exact xadd_mem
      refine ⟨fun x => ?_, fun r hr => ?_⟩
      · rw [i1 x, hm x, List.mem_cons]
        constructor
        · rintro ((q | q) | q)
          · exact Or.inr (Or.inl q)
          · exact Or.inl q
          · exact Or.inr (Or.inr q)
        · rintro (q | q | q)
          · exact Or.inl (Or.inr q)
          · exact Or.inl (Or.inl q)
          · exact Or.inr q
      · obtain ⟨r', a1, a2⟩ := i2 _ (t2 r hr)
        refine ⟨r', a1, fun x hx => ?_⟩
        rw [a2 x hx]
        unfold xrad
        by_cases hxs : x ∈ s.F
        · rw [if_pos hxs, if_pos ((hm x).mpr (Or.inr hxs))]
          split
          · rfl
          · rename_i q1
            exact (show (if x = f then q else r x) = r x from if_neg (fun e : x = f => q1 (by rw [← e]; exact hxs)))
        · rw [if_neg hxs]
          by_cases hxf : x = f
          · rw [if_pos ((hm x).mpr (Or.inl hxf)), if_neg (by rw [← hxf]; exact hxs)]
            exact if_pos hxf
          · exact if_neg (fun e => ((hm x).mp e).elim hxf hxs)
theorem xIn.adds_full {q : Nat} : ∀ {l : List Nat} {s : xIn}, (∀ f, f ∈ l → f < 8000000) → s.adds q l = none → ∀ G : List Nat, (∀ x, x ∈ s.F → x ∈ G) → (∀ x, x ∈ l → x ∈ G) → 60 < G.length := by
  intro l
  induction l with
  | nil => intro s _ h; cases h
  | cons f l ih =>
    intro s hl h
    have h' : (s.add f q).bind (fun s' => s'.adds q l) = none := h
    intro G h1 h2
    cases e : s.add f q with
    | none =>
      obtain ⟨e1, e2⟩ := xIn.add_none (hl f List.mem_cons_self) e
      have hnd : (f :: s.F).Nodup := List.nodup_cons.mpr ⟨e1, sp_srt_nd s.srt.1⟩
      have := sp_nd_len hnd (G := G) (fun y hy => by
        rcases List.mem_cons.mp hy with rfl | hy
        · exact h2 y List.mem_cons_self
        · exact h1 y hy)
      rw [List.length_cons] at this
      omega
    | some t =>
      rw [e] at h'
      obtain ⟨t1, -⟩ := xIn.add_spec e
      refine ih (fun f hf => hl f (List.mem_cons_of_mem _ hf)) h' G (fun x hx => ?_) (fun x hx => h2 x (List.mem_cons_of_mem _ hx))
      rw [t1] at hx
      rcases xadd_mem.mp hx with rfl | hx
      · exact h2 x List.mem_cons_self
      · exact h1 x hx
theorem xIn.adds_none {q : Nat} {l : List Nat} {s : xIn} (hl : ∀ f, f ∈ l → f < 8000000) (h : s.adds q l = none) : sp_crowd s.F l := fun G _ h1 h2 => xIn.adds_full hl h G h1 h2
/-- nothing yet -/
def xIn.nil (nf rf : Nat → Int32) : xIn := ⟨([], nf, rf), fun _ => 0, ⟨⟨List.Pairwise.nil, Nat.zero_le _, fun x hx => (by cases hx)⟩, fun k x e => (by cases e)⟩⟩
theorem xIn.nil_F {nf rf : Nat → Int32} : (xIn.nil nf rf).F = [] := rfl
/-- a step of a deriver's taker -/
def xkp (C : sp_C) (s : xIn) (q : sp_Q) : Option (xIn × Bool) := (s.add (sp_key C q) 0).map (fun s' => (s', true))
theorem xfold_kp {C : sp_C} : ∀ {L : List sp_Q} {s : xIn}, xfold (xkp C) s L = (s.adds 0 (L.map (sp_key C))).map (fun s' => (s', true)) := by
  intro L
  induction L with
  | nil => intro s; rfl
  | cons q L ih =>
    intro s
    rw [xfold_cons]
    show _ = ((s.add (sp_key C q) 0).bind (fun s' => s'.adds 0 (L.map (sp_key C)))).map _
    unfold xkp
    cases e : s.add (sp_key C q) 0 with
    | none => rfl
    | some t => exact ih
theorem sp_hfact_lt {C : sp_C} {v : sp_V} {g : Nat} (hv : sp_bd v) (hg : g < 100) (hl : C.hts.length ≤ 3) (hr : C.rel < 8) : sp_hfact C v g < 8000000 ∧ sp_hfact C v g / 1000000 = C.rel := by
  have := sp_hsum_lt hv hg C.hts hl
  unfold sp_hfact
  omega
theorem x_derBody {G : rv_G} (hG : rv_GK G) {d D ca vr fr gs gn gr n m : Nat} (hd : 8 ≤ d) {a0 a1 a2 a4 a5 a6 : Value} {C : sp_C} {q : sp_Q} {s : xIn} {vf ff : Nat → Int32} {F : xF} {h : rv_H} (hC : xCl G false (xr G F) ca C) (hw : sp_wfH C.hts) (hl : C.hts.length ≤ 3) (hrel : C.rel < 8) (hD : xr G F D (cO 6 [a0, a1, a2, .ref gs, a4, a5, a6])) (hv : xva q.2 vf) (hk : ∀ t, t ∈ C.hts → t < 200 → (sp_val q.2 t).isSome = true) (hH : xH G F ((vr, cI 8 vf) :: (fr, cI 3 ff) :: s.M gs gn gr) (n + 1) (m + 6) h) : rv_Call G d yX7_lambda_new_0 wX7_lambda_new_0 [.ref D, .ref ca, .ref vr, .ref fr] h (xTkQ G F (fun s => s.M gs gn gr) (fun _ => 1) (fun _ => 6) vr fr vf ff n m h s (xkp C s q)) := by
  refine rv_start hG (by decide +kernel) (L := [some (.ref D), some (.ref ca), some (.ref vr), some (.ref fr)]) rfl (Nat.le_of_ble_eq_true rfl) (fun X hX1 hX hE => ?_)
  subst hX1
  have hS := hH.start
  obtain ⟨cd, cb, cgk, cmd, csal, ctl, hc1, hc2⟩ := id hC
  have hkey : sp_hfact C q.2 0 < 8000000 := (sp_hfact_lt hv.2 (by decide) hl hrel).1
  have hres : xkp C s q = (s.add (sp_hfact C q.2 0) 0).map (fun s' => (s', true)) := rfl
  refine rv_aload_n hX dX7_lambda_new_0_0 rfl ?_
  refine rv_getfR hX gX7_36_X7 (hS.f hD) rfl dX7_lambda_new_0_1 ?_
  refine rv_aload_n hX dX7_lambda_new_0_4 rfl ?_
  refine rv_aload_n hX dX7_lambda_new_0_5 rfl ?_
  refine nv_iconst hX (m := 0) (by decide) dX7_lambda_new_0_6 ?_
  refine rv_invVR hX iX7_107 mdX10_fact (hS.f hc1) ⟨TX10, 9, rv_c9⟩ (x_fact hG (d := d - 1) (by omega) (hC.mono (fun _ _ => hS.f)) hw hl (hS.mc (k := 0) rfl) hv hk) (by omega) rfl rfl (Nat.le_of_ble_eq_true rfl) dX7_lambda_new_0_7 (fun v h' hq => ?_) (fun E h' hq => by first | exact hq.elim | cases hq.2 | cases hq.1)
  obtain ⟨rfl, hq⟩ := hq
  cases hq
  refine nv_iconst hX (m := 0) (by decide) dX7_lambda_new_0_10 ?_
  refine rv_invVR hX iX7_97 mdX3_add (hS.mc (k := 2) rfl) ⟨TX3, 3, rv_c2⟩ (x_add hG (s := s) (d := d - 1) (by omega) hkey (by omega) (by omega) (hS.cpre0 [0,0] 1 rfl rfl rfl)) (by omega) rfl rfl (Nat.le_of_ble_eq_true rfl) dX7_lambda_new_0_11 (fun v h' hq => ?_) (fun E h' hq => by exact rv_out hX hE (fun x hx => by cases hx) ⟨hq.1, by rw [hres, hq.2.1]; rfl, (hS.exc0 [0, 0] 1 rfl rfl rfl hq.2.2).bud (by omega) (by omega)⟩)
  obtain ⟨s', hu, hadd, hQ⟩ := hq
  have hS := hS.cpost0 [0,0] 1 rfl rfl rfl hQ
  cases hu
  refine nv_iconst hX (m := 1) (by decide) dX7_lambda_new_0_14 ?_
  refine rv_ireturn hX hE rfl ?_ dX7_lambda_new_0_15
  exact ⟨s', true, by rw [hres, hadd]; rfl, rfl, hS⟩
theorem x_derTk {G : rv_G} (hG : rv_GK G) (hLK : rv_LK G) {D ca tk vr fr gs gn gr : Nat} {a0 a1 a2 a4 a5 a6 : Value} {C : sp_C} {Fs : List Nat} {its : List sp_I} {M0 : List sp_Q} {F : xF} (hC : xCl G false (xr G F) ca C) (hw : sp_wfH C.hts) (hl : C.hts.length ≤ 3) (hrel : C.rel < 8) (hD : xr G F D (cO 6 [a0, a1, a2, .ref gs, a4, a5, a6])) (htk : xr G F tk (.inr (24, [.ref D, .ref ca]))) (hk : ∀ q, q ∈ M0 → ∀ t, t ∈ C.hts → t < 200 → (sp_val q.2 t).isSome = true) : xTkr G F (fun s => xIn.M gs gn gr s) (fun _ => 1) (fun _ => 6) (xkp C) 10 tk vr fr Fs its M0 := by
  intro s q vf ff n m h hq hv hff hH X d L st hX1 hX hd hroom kv kx
  subst hX1
  refine rv_lamTkA (d2 := 8) (x := yX7_init) (y2 := yX7_lambda_new_0) (tys := #[.object "Rulehearth$Deriver", .object "Rulehearth$Clause"]) hX hLK.1 (by decide) (fun vm d c dk h1 h2 h3 h4 => lm1_made h1 h2 h3 h4) (by decide) (hH.f htk) mdX7_lambda_new_0 q1312 qs21 (hH.f hD) ⟨TX7, 7, rv_c6⟩ (x_derBody hG (by omega) hC hw hl hrel hD hv (hk q hq) hH) (by omega) (by decide) (fun v h' hQ => ?_) hroom kv kx
  obtain ⟨s', b, -, hu, -⟩ := hQ
  exact ⟨b, hu⟩
