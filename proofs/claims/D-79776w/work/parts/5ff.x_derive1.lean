/-! THE SYSTEM: what a deriver gives, a slot gathered -/
set_option maxRecDepth 100000
theorem sp_reslot_at {f s v : Nat} (hs : s < 3) (h0 : sp_slot f s = 0) (hv : v < 100) : sp_slot (f + sp_wt s * v) s = v ∧ sp_reslot f s v = f + sp_wt s * v ∧ sp_reslot (f + sp_wt s * v) s 0 = f := by
  unfold sp_reslot
  rcases (by omega : s = 0 ∨ s = 1 ∨ s = 2) with e | e | e
  · subst e
    have h0' : f / 10000 % 100 = 0 := h0
    show (f + 10000 * v) / 10000 % 100 = v ∧ f - f / 10000 % 100 * 10000 + v * 10000 = f + 10000 * v ∧ f + 10000 * v - (f + 10000 * v) / 10000 % 100 * 10000 + 0 * 10000 = f
    omega
  · subst e
    have h0' : f / 100 % 100 = 0 := h0
    show (f + 100 * v) / 100 % 100 = v ∧ f - f / 100 % 100 * 100 + v * 100 = f + 100 * v ∧ f + 100 * v - (f + 100 * v) / 100 % 100 * 100 + 0 * 100 = f
    omega
  · subst e
    have h0' : f % 100 = 0 := h0
    show (f + 1 * v) % 100 = v ∧ f - f % 100 * 1 + v * 1 = f + 1 * v ∧ f + 1 * v - (f + 1 * v) % 100 * 1 + 0 * 1 = f
    omega
theorem sp_key_slot {S F : List Nat} (hS : ∀ n, n ∈ S → 1 ≤ n ∧ n ≤ 3) {C : sp_C} (hw : sp_wfC S C) (hr : C.rel < 8) {s : Nat} (hs : C.gath = some s) {key : Nat} (hkey : key ∈ sp_keys C (sp_m F C.its (fun _ => none))) : s < 3 ∧ key < 8000000 ∧ sp_slot key s = 0 := by
  obtain ⟨w0, hM0, hk0⟩ := sp_keys_M.mp hkey
  obtain ⟨ks, hks⟩ := sp_m_M.mpr hM0
  have hbd := sp_m_bd sp_none_bd (ks, w0) hks
  have hl := hw.ht3 hS
  obtain ⟨t1, t2⟩ := sp_gt_at hs
  have := (List.getElem?_eq_some_iff.mp t1).1
  refine ⟨by omega, by rw [← hk0]; exact (sp_hfact_lt hbd (by decide) hl hr).1, ?_⟩
  rw [← hk0, sp_hfact_slot hbd (by decide) hl t1]
  unfold sp_hval
  rw [if_pos t2]
section DV
variable {G : rv_G} {F : xF} {S Fs : List Nat} {r : Nat → Nat} {C : sp_C} {ca st : Nat}
theorem x_deriveAll1 (hG : rv_GK G) (hLK : rv_LK G) (hK : xDK G F S Fs r C ca st) {d D L ms mn mr V gs gn gr Go Ha Mo fr Mo2 fr2 bo n m s0 : Nat} (hd : 29 ≤ d) {N : xM} {s : xIn} {h : rv_H} (hs : C.gath = some s0) (hD : xDf1 G (xr G F) D L ca ms V gs Go Mo Mo2 bo C) (hN : xDc1 L V gs gn gr Go Ha Mo fr Mo2 fr2 bo st ca C.its.length N) (hH : xH G F (N ++ s.M ms mn mr) (n + 1) (m + 6) h) : rv_Call G d yX7_deriveAll wX7_deriveAll [.ref D] h (xT (fun u h' => ∃ (N' : xM) (s' : xIn), u = none ∧ (∀ x, x ∈ s'.F ↔ x ∈ s.F ∨ x ∈ sp_give Fs C) ∧ (xDc1 L V gs gn gr Go Ha Mo fr Mo2 fr2 bo st ca C.its.length N' ∧ xad N' = xad N) ∧ xS G F h (xad N ++ [ms, mn, mr]) (N' ++ s'.M ms mn mr) (n + 1) (m + 6) h') (fun E h' => E = RX6 ∧ sp_crowd s.F (sp_give Fs C) ∧ xS G F h (xad N ++ [ms, mn, mr]) [] n m h')) := by
  obtain ⟨ro, ro2, ov, ov2, rch, rch2, c0, vf, ff, ff2, bf, g, hvf, hrch, hrch2, rfl⟩ := hN
  refine rv_start hG (by decide +kernel) (L := [some (.ref D), none]) rfl (Nat.le_of_ble_eq_true rfl) (fun X hX1 hX hE => ?_)
  subst hX1
  obtain ⟨hC, hw, ⟨hS3, hS8⟩, hst, hr⟩ := id hK
  obtain ⟨hD1, hL, hbo⟩ := hD
  obtain ⟨cd, cb, cgk, cmd, csal, ctl, hc1, hc2⟩ := id hC
  have hb6 := hw.len.2
  have hl3 := hw.ht3 hS3
  have hrel := hK.rel
  let A : List Nat := [Mo, Mo2, V, fr, fr2, gs, gn, gr, Go, Ha, ms, mn, mr]
  let MM : Int32 → Int32 → Bool → Bool → Nat → Nat → Nat → (Nat → Int32) → (Nat → Int32) → (Nat → Int32) → (Nat → Int32) → xIn → xIn → xM := fun ro ro2 ov ov2 rch rch2 c0 vf ff ff2 bf g t => [(Mo, mX bo C.its.length st L V fr (-1) ro ov rch), (Mo2, mX bo C.its.length st Go V fr2 (-1) ro2 ov2 rch2), (V, cI 8 vf), (fr, cI 3 ff), (fr2, cI 3 ff2), (gs, cO 2 [.ref gn, .ref gr, .int (nI g.1.1.length)]), (gn, cI 60 g.1.2.1), (gr, cI 60 g.1.2.2), (Go, cO 7 [.ref ca, .ref Ha, .int (nI c0)]), (Ha, cZ 100 bf), (ms, cO 2 [.ref mn, .ref mr, .int (nI t.1.1.length)]), (mn, cI 60 t.1.2.1), (mr, cI 60 t.1.2.2)]
  have hS : xS X.1 F h A (MM ro ro2 ov ov2 rch rch2 c0 vf ff ff2 bf g s) (n + 1) (m + 6) h := hH.start
  have hgo := fun ro => xDgo hG hLK (nw := none) (ro := ro) (fr := fr) (vr := V) (tk := L) (gn := gn) (gr := gr) hC hw hS3 hS8 hD1 hL hbo hst hr (fun p e => by cases e)
  have hgo2 := fun ro v => xDgo2 hG (ro := ro) (v := v) (Go := Go) (Ha := Ha) (vr := V) (fr := fr2) hC hw hS3 hS8 hs hbo hst hr
  let M0 : List sp_Q := sp_m Fs C.its (fun _ => none)
  have hgive : sp_give Fs C = (sp_keys C M0).map (sp_gfact C M0) := by
    unfold sp_give
    rw [if_neg (by rw [hs]; intro e; cases e)]
  have hkq : ∀ x, x ∈ M0.map (sp_key C) ↔ x ∈ sp_keys C M0 := fun x => (sp_dd_mem (l := M0.map (sp_key C))).symm
  have hks : ∀ key, key ∈ sp_keys C M0 → s0 < 3 ∧ key < 8000000 ∧ sp_slot key s0 = 0 := fun key hk => sp_key_slot hS3 hw hrel hs hk
  have hgf : ∀ key, key ∈ sp_keys C M0 → sp_gfact C M0 key = key + sp_wt s0 * sp_min99 (sp_agg ((C.gt - 200) / 8) (sp_hasv C.gx (sp_grp C M0 key))) := fun key hk => by
    unfold sp_gfact
    rw [hs]
    rfl
  have hlt : ∀ f, f ∈ sp_give Fs C → f < 8000000 := fun f hf => (sp_give_rel hl3 hf).2 hrel
  have hcrowd1 : ∀ {nf rf : Nat → Int32}, (xIn.nil nf rf).adds 0 (M0.map (sp_key C)) = none → sp_crowd s.F (sp_give Fs C) := fun hn G' _ _ g3 => by
    have := xIn.adds_full (fun f hf => (hks f ((hkq f).mp hf)).2.1) hn (G'.map (fun f => sp_reslot f s0 0)) (fun x hx => by cases hx) (fun x hx => by
      have hx' := (hkq x).mp hx
      refine List.mem_map.mpr ⟨sp_gfact C M0 x, g3 _ (by rw [hgive]; exact List.mem_map.mpr ⟨x, hx', rfl⟩), ?_⟩
      rw [hgf x hx']
      exact (sp_reslot_at (hks x hx').1 (hks x hx').2.2 (sp_min99_lt _)).2.2)
    rw [List.length_map] at this
    exact this
  have loop : ∀ (g : xIn), (∀ x, x ∈ g.F ↔ x ∈ sp_keys C M0) → ∀ (z k : Nat) (ro ro2 : Int32) (ov ov2 : Bool) (rch rch2 c0 : Nat) (vf ff ff2 bf : Nat → Int32) (t : xIn) (h1 : rv_H), g.F.length - k < z → k ≤ g.F.length → xva (fun _ => none) vf → rch ≤ 6 → rch2 ≤ 6 → s.adds 0 ((g.F.take k).map (sp_gfact C M0)) = some t → xS X.1 F h A (MM ro ro2 ov ov2 rch rch2 c0 vf ff ff2 bf g t) (n + 1) (m + 6) h1 → rv_V X h1 34 [some (.ref D), some (.int (nI k))] [] := by
    intro g hgF z
    have hg60 := g.srt
    obtain ⟨gr0, hgr0⟩ := g.ok
    induction z with
    | zero => intro k ro ro2 ov ov2 rch rch2 c0 vf ff ff2 bf t h1 g1; omega
    | succ z ih =>
      intro k ro ro2 ov ov2 rch rch2 c0 vf ff ff2 bf t h1 g1 g2 hvf hrch hrch2 ht hS
      have hgl : g.1.1.length = g.F.length := rfl
      by_cases hk : k = g.F.length
      · skip
        refine rv_iload_n hX dX7_deriveAll_34 rfl ?_
        refine rv_aload_n hX dX7_deriveAll_35 rfl ?_
        refine rv_getfR hX gX7_36_X7 (hS.f hD1) rfl dX7_deriveAll_36 ?_
        refine rv_getfR hX gX7_78_X3 (hS.mc (k := 5) rfl) rfl dX7_deriveAll_39 ?_
        rw [hgl]
        refine nv_icmp_ge hX 117 (by omega) (by omega) dX7_deriveAll_42 (by decide) (fun c_42 => ?_) (fun q => absurd q (by omega))
        refine rv_return hX hE ?_ dX7_deriveAll_117
        refine ⟨_, t, rfl, fun x => ?_, ⟨⟨ro, ro2, ov, ov2, rch, rch2, c0, vf, ff, ff2, bf, g, hvf, hrch, hrch2, rfl⟩, rfl⟩, hS⟩
        rw [hk, List.take_length] at ht
        rw [(xIn.adds_some ht).1 x, hgive]
        have : x ∈ g.F.map (sp_gfact C M0) ↔ x ∈ (sp_keys C M0).map (sp_gfact C M0) := by
          rw [List.mem_map, List.mem_map]
          exact ⟨fun ⟨y, y1, y2⟩ => ⟨y, (hgF y).mp y1, y2⟩, fun ⟨y, y1, y2⟩ => ⟨y, (hgF y).mpr y1, y2⟩⟩
        rw [this]
      · obtain ⟨key, hkey⟩ : ∃ key, g.F[k]? = some key := ⟨g.F[k], List.getElem?_eq_getElem (by omega)⟩
        have hkm := (hgF key).mp (List.mem_of_getElem? hkey)
        obtain ⟨hs3, hk8, hsl0⟩ := hks key hkm
        have hnum : g.1.2.1 k = nI key := (hgr0.2 k key hkey).1
        obtain ⟨vk, hvk, ⟨q0, hq0⟩, hag⟩ := sp_grouped (F := Fs) hS3 hw hrel hs hkm
        have hisk : ∀ q, q ∈ sp_m Fs C.its vk → (q.2 C.gx).isSome = true := fun q hq => (hw.known hq).2 _ (List.mem_of_getElem? (sp_gt_at hs).1) (sp_gt_at hs).2
        have hhas : sp_hasv C.gx (sp_m Fs C.its vk) = sp_hasv C.gx (sp_grp C M0 key) := by
          funext a
          apply Bool.eq_iff_iff.mpr
          rw [← hag a]
          unfold sp_hasv
          rw [List.any_eq_true]
          exact ⟨fun ⟨q, q1, q2⟩ => ⟨q, q1, by simpa using q2⟩, fun ⟨q, q1, q2⟩ => ⟨q, q1, by simpa using q2⟩⟩
        have htake : (g.F.take (k + 1)).map (sp_gfact C M0) = (g.F.take k).map (sp_gfact C M0) ++ [sp_gfact C M0 key] := by
          rw [sp_take_get hkey, List.map_append]
          rfl
        have hadds : ∀ o, t.add (sp_gfact C M0 key) 0 = o → s.adds 0 ((g.F.take (k + 1)).map (sp_gfact C M0)) = o := fun o e => by
          rw [htake, xIn.adds_app, ht]
          show (t.add (sp_gfact C M0 key) 0).bind _ = o
          rw [e]
          cases o <;> rfl
        have hgin : ∀ j, j ≤ g.F.length → ∀ f, f ∈ (g.F.take j).map (sp_gfact C M0) → f ∈ sp_give Fs C := fun j hj f hf => by
          obtain ⟨y, y1, rfl⟩ := List.mem_map.mp hf
          rw [hgive]
          exact List.mem_map.mpr ⟨y, (hgF y).mp (List.mem_of_mem_take y1), rfl⟩
        have hg8 : sp_gfact C M0 key < 8000000 := hlt _ (by rw [hgive]; exact List.mem_map.mpr ⟨key, hkm, rfl⟩)
        have hrs : ∀ has, has = sp_hasv C.gx (sp_m Fs C.its vk) → sp_reslot key s0 (sp_min99 (sp_agg ((C.gt - 200) / 8) has)) = sp_gfact C M0 key := fun has e => by
          rw [e, hhas, hgf key hkm]
          exact (sp_reslot_at hs3 hsl0 (sp_min99_lt _)).2.1
        have hne : ∃ a, a < 100 ∧ sp_hasv C.gx (sp_m Fs C.its vk) a = true := by
          obtain ⟨a, ha⟩ := Option.isSome_iff_exists.mp (hisk q0 hq0)
          have h1 : sp_hasv C.gx (sp_m Fs C.its vk) a = true := by
            unfold sp_hasv
            rw [List.any_eq_true]
            exact ⟨q0, hq0, by simp [ha]⟩
          refine ⟨a, ?_, h1⟩
          rw [hhas] at h1
          obtain ⟨w, hM, -, hwa⟩ := sp_hasv_M.mp h1
          obtain ⟨ks, hks⟩ := sp_m_M.mpr hM
          exact sp_m_bd sp_none_bd (ks, w) hks _ _ hwa
        have hfold : ∀ bf', xfold (xgp C.gx) (0, bf') (xMs Fs r none 0 [] C.its vk) = some ((0 + (sp_m Fs C.its vk).length, xgf C.gx bf' (sp_m Fs C.its vk)), true) := fun bf' => by
          rw [xMs_2]
          exact xfold_gp
        refine rv_iload_n hX dX7_deriveAll_34 rfl ?_
        refine rv_aload_n hX dX7_deriveAll_35 rfl ?_
        refine rv_getfR hX gX7_36_X7 (hS.f hD1) rfl dX7_deriveAll_36 ?_
        refine rv_getfR hX gX7_78_X3 (hS.mc (k := 5) rfl) rfl dX7_deriveAll_39 ?_
        rw [hgl]
        refine nv_icmp_ge hX 117 (by omega) (by omega) dX7_deriveAll_42 (by decide) (fun q => absurd q (by omega)) (fun c_42 => ?_)
        refine rv_aload_n hX dX7_deriveAll_45 rfl ?_
        refine rv_getfR hX gX7_44_X7 (hS.f hD1) rfl dX7_deriveAll_46 ?_
        refine rv_invVR hX iX7_83 mdX8_clear (hS.mc (k := 8) rfl) ⟨TX8, 3, rv_c7⟩ (x_groupClear hG (d := d - 1) (hS.cpre0 [0,0,0,0,0,0,0,0,1,1] 0 rfl rfl rfl)) (by omega) rfl rfl (Nat.le_of_ble_eq_true rfl) dX7_deriveAll_49 (fun v h' hq => ?_) (fun E h' hq => by first | exact hq.elim | cases hq.2 | cases hq.1)
        obtain ⟨bf2, hu, hbf2, hQ⟩ := hq
        have hS := hS.cpost0 [0,0,0,0,0,0,0,0,1,1] 0 rfl rfl rfl hQ
        cases hu
        refine rv_aload_n hX dX7_deriveAll_52 rfl ?_
        refine rv_getfR hX gX7_25_X7 (hS.f hD1) rfl dX7_deriveAll_53 ?_
        refine rv_aload_n hX dX7_deriveAll_56 rfl ?_
        refine rv_getfR hX gX7_36_X7 (hS.f hD1) rfl dX7_deriveAll_57 ?_
        refine rv_getfR hX gX7_86_X3 (hS.mc (k := 5) rfl) rfl dX7_deriveAll_60 ?_
        refine rv_iload_n hX dX7_deriveAll_63 rfl ?_
        refine xv_iald hX (hS.mc (k := 6) rfl) (by omega) (by omega) dX7_deriveAll_64 ?_
        rw [hnum]
        refine rv_aload_n hX dX7_deriveAll_65 rfl ?_
        refine rv_getfR hX gX7_13_X7 (hS.f hD1) rfl dX7_deriveAll_66 ?_
        refine rv_invVR hX iX7_89 mdX10_binds (hS.f hc1) ⟨TX10, 9, rv_c9⟩ (x_binds hG (d := d - 1) (by omega) hC hw.hts hl3 hrel hvf (by omega) (hS.cpre0 [0,0,1] 0 rfl rfl rfl)) (by omega) rfl rfl (Nat.le_of_ble_eq_true rfl) dX7_deriveAll_69 (fun v h' hq => ?_) (fun E h' hq => by first | exact hq.elim | cases hq.2 | cases hq.1)
        obtain ⟨w2, vf2, hu, hw2, hv2, hQ⟩ := hq
        have hS := hS.cpost0 [0,0,1] 0 rfl rfl rfl hQ
        cases hu
        have hw2 := hw2 vk hvk
        subst hw2
        refine rv_pop hX dX7_deriveAll_72 rfl ?_
        refine rv_aload_n hX dX7_deriveAll_73 rfl ?_
        refine rv_getfR hX gX7_71_X7 (hS.f hD1) rfl dX7_deriveAll_74 ?_
        refine rv_invVR hX iX7_81 mdX9_run (hS.mc (k := 1) rfl) ⟨TX9, 10, rv_c8⟩ (x_run (hgo2 ro2 w2) (s := (0, bf2)) (d := d - 1) (by omega) hv2 hK.okA (fun q hq => hq) hrch2 (hS.cpre0 [0, 1, 1, 0, 1, 0, 0, 0, 1, 1] 0 rfl rfl rfl)) (by omega) rfl rfl (Nat.le_of_ble_eq_true rfl) dX7_deriveAll_77 (fun v h' hq => ?_) (fun E h' hq => by exact absurd hq.2.1 (by rw [hfold]; intro e; cases e))
        obtain ⟨s2, b2, vf4, ff4, rch4, hR2, hu, hv4, hff4, ⟨hr4, hTG4⟩, hQ⟩ := hq
        have hS := hS.cpost0 [0,1,1,0,1,0,0,0,1,1] 0 rfl rfl rfl hQ
        cases hu
        rw [hfold] at hR2
        cases hR2
        have hb0 : xhas (sp_hasv C.gx (sp_m Fs C.its w2)) (xgf C.gx bf2 (sp_m Fs C.its w2)) := by
          have := xgf_has (x := C.gx) (L := sp_m Fs C.its w2) (bf := bf2) (P := fun _ => false) hisk (fun a ha => hbf2 a ha)
          intro a ha
          exact this a ha
        refine rv_aload_n hX dX7_deriveAll_80 rfl ?_
        refine rv_getfR hX gX7_29_X7 (hS.f hD1) rfl dX7_deriveAll_81 ?_
        refine rv_aload_n hX dX7_deriveAll_84 rfl ?_
        refine rv_getfR hX gX7_44_X7 (hS.f hD1) rfl dX7_deriveAll_85 ?_
        refine rv_aload_n hX dX7_deriveAll_88 rfl ?_
        refine rv_getfR hX gX7_36_X7 (hS.f hD1) rfl dX7_deriveAll_89 ?_
        refine rv_getfR hX gX7_86_X3 (hS.mc (k := 5) rfl) rfl dX7_deriveAll_92 ?_
        refine rv_iload_n hX dX7_deriveAll_95 rfl ?_
        refine xv_iald hX (hS.mc (k := 6) rfl) (by omega) (by omega) dX7_deriveAll_96 ?_
        rw [hnum]
        refine rv_invVR hX iX7_93 mdX8_fact (hS.mc (k := 8) rfl) ⟨TX8, 3, rv_c7⟩ (x_groupFact hG (d := d - 1) (by omega) (hC.mono (fun _ _ => hS.f)) hw.hts hl3 hs (hS.mc (k := 8) rfl) (hS.mc (k := 9) rfl) hb0 hne (by omega)) (by omega) rfl rfl (Nat.le_of_ble_eq_true rfl) dX7_deriveAll_97 (fun v h' hq => ?_) (fun E h' hq => by first | exact hq.elim | cases hq.2 | cases hq.1)
        obtain ⟨rfl, hq⟩ := hq
        cases hq
        rw [hrs _ rfl]
        refine nv_iconst hX (m := 0) (by decide) dX7_deriveAll_100 ?_
        refine rv_invVR hX iX7_97 mdX3_add (hS.mc (k := 10) rfl) ⟨TX3, 3, rv_c2⟩ (x_add hG (s := t) (d := d - 1) (by omega) hg8 (by omega) (by omega) (hS.cpre0 [0,0,0,0,0,0,0,0,0,0] 1 rfl rfl rfl)) (by omega) rfl rfl (Nat.le_of_ble_eq_true rfl) dX7_deriveAll_101 (fun v h' hq => ?_) (fun E h' hq => by exact rv_out hX hE (fun x hx => by cases hx) ⟨hq.1, (fun G' g1 g2 g3 => xIn.adds_none (fun f hf => hlt f (hgin (k + 1) (by omega) f hf)) (hadds _ hq.2.1) G' g1 g2 (fun f hf => g3 f (hgin (k + 1) (by omega) f hf))), (hS.exc0 [0, 0, 0, 0, 0, 0, 0, 0, 0, 0] 1 rfl rfl rfl hq.2.2).bud (by omega) (by omega)⟩)
        obtain ⟨t2, hu, hadd, hQ⟩ := hq
        have hS := hS.cpost0 [0,0,0,0,0,0,0,0,0,0] 1 rfl rfl rfl hQ
        cases hu
        refine rv_aload_n hX dX7_deriveAll_104 rfl ?_
        refine rv_getfR hX gX7_13_X7 (hS.f hD1) rfl dX7_deriveAll_105 ?_
        refine rv_invS hX iX7_100 mdX1_forget (x_forget hG (d := d - 1) (hS.cpre0 [0,0,1] 0 rfl rfl rfl)) (by omega) rfl rfl (Nat.le_of_ble_eq_true rfl) dX7_deriveAll_108 (fun v h' hq => ?_) (fun E h' hq => by first | exact hq.elim | cases hq.2 | cases hq.1)
        obtain ⟨vf5, hu, hv5, hQ⟩ := hq
        have hS := hS.cpost0 [0,0,1] 0 rfl rfl rfl hQ
        cases hu
        first | refine nv_iinc hX (m := 1) dX7_deriveAll_111 rfl (by decide) (rv_st_1 rfl) ?_ | refine rv_iinc hX dX7_deriveAll_111 rfl rfl (rv_st_1 rfl) ?_
        refine rv_goto hX 34 dX7_deriveAll_114 (by decide) ?_
        exact ih (k + 1) ro ro2 ov _ rch rch4 _ vf5 ff ff4 _ t2 _ (by omega) (by omega) hv5 hrch hr4 (hadds _ hadd) hS
  refine rv_aload_n hX dX7_deriveAll_0 rfl ?_
  refine rv_getfR hX gX7_44_X7 (hS.f hD1) rfl dX7_deriveAll_1 ?_
  refine rv_ifnonnull hX 17 dX7_deriveAll_4 (by decide) ?_
  refine rv_aload_n hX dX7_deriveAll_17 rfl ?_
  refine rv_getfR hX gX7_36_X7 (hS.f hD1) rfl dX7_deriveAll_18 ?_
  refine nv_iconst hX (m := 0) (by decide) dX7_deriveAll_21 ?_
  refine xv_putf hX hS (k := 5) rfl pX7_78_X3 (fun q => by cases q) rfl rfl rfl dX7_deriveAll_22 (fun h_22 hS => ?_)
  refine rv_aload_n hX dX7_deriveAll_25 rfl ?_
  refine rv_getfR hX gX7_67_X7 (hS.f hD1) rfl dX7_deriveAll_26 ?_
  refine rv_invVR hX iX7_81 mdX9_run (hS.mc (k := 0) rfl) ⟨TX9, 10, rv_c8⟩ (x_run (hgo ro) (s := xIn.nil g.1.2.1 g.1.2.2) (d := d - 1) (by omega) hvf hK.okA (fun q hq => hq) hrch (hS.cpre0 [1, 0, 1, 1, 0, 1, 1, 1] 0 rfl rfl rfl)) (by omega) rfl rfl (Nat.le_of_ble_eq_true rfl) dX7_deriveAll_29 (fun v h' hq => ?_) (fun E h' hq => by exact rv_out hX hE (fun x hx => by cases hx) ⟨hq.1, (by have hR := hq.2.1; rw [xfold_kp, Option.map_eq_none_iff, xMs_2] at hR; exact hcrowd1 hR), hS.exc0 [1, 0, 1, 1, 0, 1, 1, 1] 0 rfl rfl rfl hq.2.2⟩)
  obtain ⟨s2, b2, vf4, ff4, rch4, hR2, hu, hv4, hff4, ⟨hr4, hTG4⟩, hQ⟩ := hq
  have hS := hS.cpost0 [1,0,1,1,0,1,1,1] 0 rfl rfl rfl hQ
  cases hu
  rw [xfold_kp, Option.map_eq_some_iff, xMs_2] at hR2
  obtain ⟨s3, hs3, e3⟩ := hR2
  cases e3
  refine nv_iconst hX (m := 0) (by decide) dX7_deriveAll_32 ?_
  refine rv_istore_n hX dX7_deriveAll_33 (rv_st_1 rfl) ?_
  refine loop s2 (fun x => ?_) _ 0 ro ro2 _ ov2 rch4 rch2 c0 vf4 ff4 ff2 bf s _ (Nat.lt_succ_self _) (Nat.zero_le _) hv4 hr4 hrch2 rfl hS
  rw [(xIn.adds_some hs3).1 x, ← hkq x]
  exact ⟨fun q => q.elim (fun q => (by cases q)) id, Or.inr⟩
end DV
