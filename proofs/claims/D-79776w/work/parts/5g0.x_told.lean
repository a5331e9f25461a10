/-! THE SYSTEM: a world's cell; facts told; merging -/
set_option maxRecDepth 100000
abbrev cW (rel ta st tg : Nat) (tgd : Int32) (ru de : Nat) (rn dn : Int32) (fi sk : Nat) (now : Int32) : rv_C := cO 1 [.ref rel, .ref ta, .ref st, .ref tg, .int tgd, .ref ru, .ref de, .int rn, .int dn, .ref fi, .ref sk, .int now]
theorem rv_castAN {X : rv_X} {y : MethodName} {cc : ByteArray} {d ix : Nat} {h : rv_H} {pc : Nat} {L : List (Option Value)} {st : List Value} (hX : rv_K X y cc d) {a k : Nat} {x : vp_A} {nm : String} (hk : k < 6) (hnm : nm = "[" ++ (rv_aty k).toString) (hg : rv_rd X.1 h a (.inl (k, x))) (hb : rv_b X.1 ≤ a) (hl : (Cond.classLink y.cls ix nm) ∈ lw_all) (dg : decode cc pc = .ok (.checkcast ix, 3)) (kk : rv_V X h (pc + 3) L (.ref a :: st)) : rv_V X h pc L (.ref a :: st) := hg.elim (fun q => rv_castA hX hk hnm q.2 hl dg kk) (fun q => absurd q.1 (Nat.not_lt.mpr hb))
/-- a told fact and its end -/
def xTd (G : rv_G) (rd : Nat → rv_C → Prop) (a : Nat) (p : Nat × Nat) : Prop := ∃ f, rd a (cI 2 f) ∧ rv_b G ≤ a ∧ f 0 = nI p.1 ∧ f 1 = nI p.2
theorem xTd.mono {G : rv_G} {rd rd2 : Nat → rv_C → Prop} {a : Nat} {p : Nat × Nat} (h : xTd G rd a p) (hm : ∀ a c, rd a c → rd2 a c) : xTd G rd2 a p := by
  obtain ⟨f, h1, h2⟩ := h
  exact ⟨f, hm _ _ h1, h2⟩
theorem x_toldFacts {G : rv_G} (hG : rv_GK G) {d wd n m : Nat} (hd : 9 ≤ d) {rel ta st tg ru de fi sk : Nat} {tgd rn dn now : Int32} {T : List (Nat × Nat)} {F : xF} {h : rv_H} (hW : xr G F wd (cW rel ta st tg tgd ru de rn dn fi sk now)) (hT : xLp G (xr G F) (xTd G) ta T) (hTl : T.length ≤ 61) (hT8 : ∀ p, p ∈ T → p.1 < 8000000) (hn : 4 ≤ n) (hm : 130 ≤ m) (hH : xH G F [] n m h) : rv_Call G d yX2_toldFacts wX2_toldFacts [.ref wd] h (xT (fun u h' => ∃ (a an ar : Nat) (s : xIn), u = some (.ref a) ∧ (∀ x, x ∈ s.F ↔ x ∈ T.map (fun p => p.1)) ∧ (∃ r, s.rd r ∧ ∀ x, x ∈ s.F → r x = 0) ∧ xS G F h [] (xIn.M a an ar s) (n - 3) (m - 123) h') (fun E h' => E = RX6 ∧ sp_crowd [] (T.map (fun p => p.1)) ∧ xS G F h [] [] (n - 4) (m - 129) h')) := by
  refine rv_start hG (by decide +kernel) (L := [some (.ref wd), none, none]) rfl (Nat.le_of_ble_eq_true rfl) (fun X hX1 hX hE => ?_)
  subst hX1
  have hS := hH.start
  obtain ⟨es, hL, hes, hxs⟩ := id hT
  obtain ⟨lm, led, lcap, lf, l1, l2⟩ := id hL
  have loop : ∀ (a an ar z k : Nat) (s : xIn) (h1 : rv_H), T.length - k < z → k ≤ T.length → (xIn.nil (fun _ => 0) (fun _ => 0)).adds 0 ((T.take k).map (fun p => p.1)) = some s → xS X.1 F h [] [(a, cO 2 [.ref an, .ref ar, .int (nI s.1.1.length)]), (an, cI 60 s.1.2.1), (ar, cI 60 s.1.2.2)] (n - 3) (m - 123) h1 → rv_V X h1 10 [some (.ref wd), some (.ref a), some (.int (nI k))] [] := by
    intro a an ar z
    induction z with
    | zero => intro k s h1 g1; omega
    | succ z ih =>
      intro k s h1 g1 g2 g3 hS
      by_cases hk : k = T.length
      · subst hk
        rw [List.take_length] at g3
        refine rv_iload_n hX dX2_toldFacts_10 rfl ?_
        refine rv_aload_n hX dX2_toldFacts_11 rfl ?_
        refine rv_getfR hX gX2_20_X2 (hS.f hW) rfl dX2_toldFacts_12 ?_
        refine rv_invVR hX iX2_65 mdJ2_size (hS.f l1) ⟨TJ2, 3, rv_c17⟩ (j_size hG (d := d - 1) (hL.mono (fun _ _ => hS.f)).L) (by omega) rfl rfl (Nat.le_of_ble_eq_true rfl) dX2_toldFacts_15 (fun v h' hq => ?_) (fun E h' hq => by first | exact hq.elim | cases hq.2 | cases hq.1)
        obtain ⟨rfl, hq⟩ := hq
        cases hq
        rw [hes]
        refine nv_icmp_ge hX 45 (by omega) (by omega) dX2_toldFacts_18 (by decide) (fun c_18 => ?_) (fun q => absurd q (by omega))
        refine rv_aload_n hX dX2_toldFacts_45 rfl ?_
        refine rv_areturn hX hE (Or.inl ⟨_, rfl⟩) (Or.inr ⟨_, rfl⟩) ?_ dX2_toldFacts_46
        obtain ⟨a1, a2⟩ := xIn.adds_some g3
        obtain ⟨r, r1, r2⟩ := a2 (fun _ => 0) ⟨⟨List.Pairwise.nil, Nat.zero_le _, fun x hx => (by cases hx)⟩, fun k x e => (by cases e)⟩
        refine ⟨a, an, ar, s, rfl, fun x => ?_, ⟨r, r1, fun x hx => ?_⟩, hS⟩
        · rw [a1 x]
          exact ⟨fun q => q.elim (fun q => (by cases q)) id, Or.inr⟩
        · rw [r2 x hx]
          split <;> rfl
      · obtain ⟨p, hp⟩ : ∃ p, T[k]? = some p := ⟨T[k], List.getElem?_eq_getElem (by omega)⟩
        obtain ⟨te, hte, tf, t1, t1b, t2, t3⟩ := xLp.get hes hxs hp
        have hp8 := hT8 p (List.mem_of_getElem? hp)
        have htk : (T.take (k + 1)).map (fun p => p.1) = (T.take k).map (fun p => p.1) ++ [p.1] := by
          rw [sp_take_get hp, List.map_append]
          rfl
        have hadds : ∀ o, s.add p.1 0 = o → (xIn.nil (fun _ => 0) (fun _ => 0)).adds 0 ((T.take (k + 1)).map (fun p => p.1)) = o := fun o e => by
          rw [htk, xIn.adds_app, g3]
          show (s.add p.1 0).bind _ = o
          rw [e]
          cases o <;> rfl
        have hin : ∀ x, x ∈ (T.take (k + 1)).map (fun p => p.1) → x ∈ T.map (fun p => p.1) := fun x hx => by
          obtain ⟨y, y1, y2⟩ := List.mem_map.mp hx
          exact List.mem_map.mpr ⟨y, List.mem_of_mem_take y1, y2⟩
        have hc : s.add p.1 0 = none → sp_crowd [] (T.map (fun p => p.1)) := fun e G' g1 g2 g3 => xIn.adds_none (fun f hf => by
          obtain ⟨y, y1, rfl⟩ := List.mem_map.mp (hin f hf)
          exact hT8 y y1) (hadds _ e) G' g1 g2 (fun x hx => g3 x (hin x hx))
        refine rv_iload_n hX dX2_toldFacts_10 rfl ?_
        refine rv_aload_n hX dX2_toldFacts_11 rfl ?_
        refine rv_getfR hX gX2_20_X2 (hS.f hW) rfl dX2_toldFacts_12 ?_
        refine rv_invVR hX iX2_65 mdJ2_size (hS.f l1) ⟨TJ2, 3, rv_c17⟩ (j_size hG (d := d - 1) (hL.mono (fun _ _ => hS.f)).L) (by omega) rfl rfl (Nat.le_of_ble_eq_true rfl) dX2_toldFacts_15 (fun v h' hq => ?_) (fun E h' hq => by first | exact hq.elim | cases hq.2 | cases hq.1)
        obtain ⟨rfl, hq⟩ := hq
        cases hq
        rw [hes]
        refine nv_icmp_ge hX 45 (by omega) (by omega) dX2_toldFacts_18 (by decide) (fun q => absurd q (by omega)) (fun c_18 => ?_)
        refine rv_aload_n hX dX2_toldFacts_21 rfl ?_
        refine rv_aload_n hX dX2_toldFacts_22 rfl ?_
        refine rv_getfR hX gX2_20_X2 (hS.f hW) rfl dX2_toldFacts_23 ?_
        refine rv_iload_n hX dX2_toldFacts_26 rfl ?_
        refine rv_invVR hX iX2_69 mdJ2_get (hS.f l1) ⟨TJ2, 3, rv_c17⟩ (j_get hG (d := d - 1) (by omega) (hL.mono (fun _ _ => hS.f)).L hte) (by omega) rfl rfl (Nat.le_of_ble_eq_true rfl) dX2_toldFacts_27 (fun v h' hq => ?_) (fun E h' hq => by first | exact hq.elim | cases hq.2 | cases hq.1)
        obtain ⟨rfl, hq⟩ := hq
        cases hq
        refine rv_castAN hX (k := 0) (by decide) (by decide) (hS.f t1) t1b q956 dX2_toldFacts_30 ?_
        refine nv_iconst hX (m := 0) (by decide) dX2_toldFacts_33 ?_
        refine xv_iald hX (hS.f t1) (by omega) (by omega) dX2_toldFacts_34 ?_
        rw [t2]
        refine nv_iconst hX (m := 0) (by decide) dX2_toldFacts_35 ?_
        refine rv_invVR hX iX2_119 mdX3_add (hS.mc (k := 0) rfl) ⟨TX3, 3, rv_c2⟩ (x_add hG (s := s) (d := d - 1) (by omega) hp8 (by omega) (by omega) (hS.cpre0 [] 1 rfl rfl rfl)) (by omega) rfl rfl (Nat.le_of_ble_eq_true rfl) dX2_toldFacts_36 (fun v h' hq => ?_) (fun E h' hq => by exact rv_out hX hE (fun x hx => by cases hx) ⟨hq.1, hc hq.2.1, (hS.exc0 [] 1 rfl rfl rfl hq.2.2).bud (by omega) (by omega)⟩)
        obtain ⟨s', hu, hadd, hQ⟩ := hq
        have hS := hS.cpost0 [] 1 rfl rfl rfl hQ
        cases hu
        first | refine nv_iinc hX (m := 1) dX2_toldFacts_39 rfl (by decide) (rv_st_2 rfl) ?_ | refine rv_iinc hX dX2_toldFacts_39 rfl rfl (rv_st_2 rfl) ?_
        refine rv_goto hX 10 dX2_toldFacts_42 (by decide) ?_
        exact ih (k + 1) s' _ (by omega) (by omega) (hadds _ hadd) hS
  refine xv_new hX hS nX2_23 (by omega) (show 3 ≤ _ by omega) dX2_toldFacts_0 (fun a_0 h_0 hS => ?_)
  have hS := hS.bud (Nat.le_refl _) (show _ - 3 ≤ _ from Nat.le_refl _)
  refine rv_dup hX dX2_toldFacts_3 rfl ?_
  refine rv_invI hX iX2_25 mdX3_init rfl (x_factsNew hG (d := d - 1) (by omega) (by omega) (by omega) (hS.cpre0 [] 1 rfl rfl rfl)) (by omega) rfl rfl (Nat.le_of_ble_eq_true rfl) dX2_toldFacts_4 (fun v h' hq => ?_) (fun E h' hq => by first | exact hq.elim | cases hq.2 | cases hq.1)
  obtain ⟨an, ar, hu, hQ⟩ := hq
  have hS := hS.cpost0 [] 1 rfl rfl rfl hQ
  cases hu
  refine rv_astore_n hX dX2_toldFacts_7 (rv_st_1 rfl) ?_
  refine nv_iconst hX (m := 0) (by decide) dX2_toldFacts_8 ?_
  refine rv_istore_n hX dX2_toldFacts_9 (rv_st_2 rfl) ?_
  exact loop _ an ar _ 0 (xIn.nil (fun _ => 0) (fun _ => 0)) _ (Nat.lt_succ_self _) (Nat.zero_le _) rfl (hS.bud (by omega) (by omega))
theorem x_merge {G : rv_G} (hG : rv_GK G) {d ms mn mr fo fn fr rd n m : Nat} (hd : 8 ≤ d) {W : List Nat} {nf rf : Nat → Int32} {rW : Nat → Nat} {s : xIn} {F : xF} {h : rv_H} (hW1 : xr G F ms (cO 2 [.ref mn, .ref mr, .int (nI W.length)])) (hW2 : xr G F mn (cI 60 nf)) (hW : fcp W rW nf rf) (hH : xH G F (s.M fo fn fr) (n + 1) (m + 6) h) : rv_Call G d yX2_merge wX2_merge [.ref ms, .ref fo, .int (nI rd)] h (xT (fun u h' => ∃ s' : xIn, u = some (.int (rv_z (decide (s.F.length < s'.F.length)))) ∧ s.adds rd W = some s' ∧ xS G F h [fo, fn, fr] (s'.M fo fn fr) (n + 1) (m + 6) h') (fun E h' => E = RX6 ∧ sp_crowd s.F W ∧ xS G F h [fo, fn, fr] [] n m h')) := by
  refine rv_start hG (by decide +kernel) (L := [some (.ref ms), some (.ref fo), some (.int (nI rd)), none, none]) rfl (Nat.le_of_ble_eq_true rfl) (fun X hX1 hX hE => ?_)
  subst hX1
  have hS : xS X.1 F h [fo, fn, fr] [(fo, cO 2 [.ref fn, .ref fr, .int (nI s.F.length)]), (fn, cI 60 s.1.2.1), (fr, cI 60 s.1.2.2)] (n + 1) (m + 6) h := hH.start
  have hs60 := s.srt.2.1
  have loop : ∀ (z k : Nat) (t : xIn) (h1 : rv_H), W.length - k < z → k ≤ W.length → s.adds rd (W.take k) = some t → xS X.1 F h [fo, fn, fr] [(fo, cO 2 [.ref fn, .ref fr, .int (nI t.F.length)]), (fn, cI 60 t.1.2.1), (fr, cI 60 t.1.2.2)] (n + 1) (m + 6) h1 → rv_V X h1 8 [some (.ref ms), some (.ref fo), some (.int (nI rd)), some (.int (nI s.F.length)), some (.int (nI k))] [] := by
    intro z
    induction z with
    | zero => intro k t h1 g1; omega
    | succ z ih =>
      intro k t h1 g1 g2 g3 hS
      have ht60 := t.srt.2.1
      have hW60 := hW.1.2.1
      by_cases hk : k = W.length
      · subst hk
        rw [List.take_length] at g3
        refine rv_iload hX dX2_merge_8 rfl ?_
        refine rv_aload_n hX dX2_merge_10 rfl ?_
        refine rv_getfR hX gX2_135_X3 (hS.f hW1) rfl dX2_merge_11 ?_
        refine nv_icmp_ge hX 35 (by omega) (by omega) dX2_merge_14 (by decide) (fun c_14 => ?_) (fun q => absurd q (by omega))
        refine rv_aload_n hX dX2_merge_35 rfl ?_
        refine rv_getfR hX gX2_135_X3 (hS.mc (k := 0) rfl) rfl dX2_merge_36 ?_
        refine rv_iload_n hX dX2_merge_39 rfl ?_
        first | refine nv_icmp_le hX 47 (by omega) (by omega) dX2_merge_40 (by decide) (fun c_40 => ?_) (fun c_40 => ?_) | refine rv_icmp_le hX 47 dX2_merge_40 (by decide) (fun c_40 => ?_) (fun c_40 => ?_)
        · skip
          have e : decide (s.F.length < t.F.length) = false := decide_eq_false (by omega)
          refine nv_iconst hX (m := 0) (by decide) dX2_merge_47 ?_
          refine rv_ireturn hX hE rfl ?_ dX2_merge_48
          exact ⟨t, by rw [e]; rfl, g3, hS⟩
        · skip
          have e : decide (s.F.length < t.F.length) = true := decide_eq_true (by omega)
          refine nv_iconst hX (m := 1) (by decide) dX2_merge_43 ?_
          refine rv_goto hX 48 dX2_merge_44 (by decide) ?_
          refine rv_ireturn hX hE rfl ?_ dX2_merge_48
          exact ⟨t, by rw [e]; rfl, g3, hS⟩
      · obtain ⟨x, hx⟩ : ∃ x, W[k]? = some x := ⟨W[k], List.getElem?_eq_getElem (by omega)⟩
        have hx8 := hW.1.2.2 x (List.mem_of_getElem? hx)
        have hnx := (hW.2 k x hx).1
        have hadds : ∀ o, t.add x rd = o → s.adds rd (W.take (k + 1)) = o := fun o e => by
          rw [sp_take_get hx, xIn.adds_app, g3]
          show (t.add x rd).bind _ = o
          rw [e]
          cases o <;> rfl
        have hc : t.add x rd = none → sp_crowd s.F W := fun e G' g1 g2 g3 => xIn.adds_none (fun f hf => hW.1.2.2 f (List.mem_of_mem_take hf)) (hadds _ e) G' g1 g2 (fun x hx => g3 x (List.mem_of_mem_take hx))
        refine rv_iload hX dX2_merge_8 rfl ?_
        refine rv_aload_n hX dX2_merge_10 rfl ?_
        refine rv_getfR hX gX2_135_X3 (hS.f hW1) rfl dX2_merge_11 ?_
        refine nv_icmp_ge hX 35 (by omega) (by omega) dX2_merge_14 (by decide) (fun q => absurd q (by omega)) (fun c_14 => ?_)
        refine rv_aload_n hX dX2_merge_17 rfl ?_
        refine rv_aload_n hX dX2_merge_18 rfl ?_
        refine rv_getfR hX gX2_148_X3 (hS.f hW1) rfl dX2_merge_19 ?_
        refine rv_iload hX dX2_merge_22 rfl ?_
        refine xv_iald hX (hS.f hW2) (by omega) (by omega) dX2_merge_24 ?_
        rw [hnx]
        refine rv_iload_n hX dX2_merge_25 rfl ?_
        refine rv_invVR hX iX2_119 mdX3_add (hS.mc (k := 0) rfl) ⟨TX3, 3, rv_c2⟩ (x_add hG (s := t) (d := d - 1) (by omega) hx8 (by omega) (by omega) (hS.cpre0 [] 1 rfl rfl rfl)) (by omega) rfl rfl (Nat.le_of_ble_eq_true rfl) dX2_merge_26 (fun v h' hq => ?_) (fun E h' hq => by exact rv_out hX hE (fun x hx => by cases hx) ⟨hq.1, hc hq.2.1, (hS.exc0 [] 1 rfl rfl rfl hq.2.2).bud (by omega) (by omega)⟩)
        obtain ⟨s', hu, hadd, hQ⟩ := hq
        have hS := hS.cpost0 [] 1 rfl rfl rfl hQ
        cases hu
        first | refine nv_iinc hX (m := 1) dX2_merge_29 rfl (by decide) (rv_st_4 rfl) ?_ | refine rv_iinc hX dX2_merge_29 rfl rfl (rv_st_4 rfl) ?_
        refine rv_goto hX 8 dX2_merge_32 (by decide) ?_
        exact ih (k + 1) s' _ (by omega) (by omega) (hadds _ hadd) hS
  refine rv_aload_n hX dX2_merge_0 rfl ?_
  refine rv_getfR hX gX2_135_X3 (hS.mc (k := 0) rfl) rfl dX2_merge_1 ?_
  refine rv_istore_n hX dX2_merge_4 (rv_st_3 rfl) ?_
  refine nv_iconst hX (m := 0) (by decide) dX2_merge_5 ?_
  refine rv_istore hX dX2_merge_6 (rv_st_4 rfl) ?_
  exact loop _ 0 s _ (Nat.lt_succ_self _) (Nat.zero_le _) rfl hS
