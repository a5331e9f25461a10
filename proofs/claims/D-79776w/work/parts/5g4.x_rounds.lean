/-! THE SYSTEM: what stands, by rounds with all that stands so far -/
set_option maxRecDepth 100000
theorem x_foundByRounds {G : rv_G} (hG : rv_GK G) (hLK : rv_LK G) {d wd sta n m : Nat} (hd : 64 ≤ d) {rel ta st0 tg ru de fi sk : Nat} {tgd rn dn now : Int32} {S : List Nat} {R : List sp_C} {T : List (Nat × Nat)} {st : Nat → Nat} {sf : Nat → Int32} {F : xF} {h : rv_H} (hW : xr G F wd (cW rel ta st0 tg tgd ru de rn dn fi sk now)) (hR : xLp G (xr G F) (xCl G false) ru R) (hT : xLp G (xr G F) (xTd G) ta T) (hR10 : R.length ≤ 10) (hw : ∀ C, C ∈ R → sp_wfC S C) (hS3 : ∀ n, n ∈ S → 1 ≤ n ∧ n ≤ 3) (hS8 : S.length ≤ 8) (hst : sp_strata R = some st) (hsf : ∀ i, i < 8 → sf i = nI (st i)) (hsta : xr G F sta (cI 8 sf)) (hTl : T.length ≤ 61) (hT8 : ∀ p, p ∈ T → p.1 < 8000000) (hn : 130 ≤ n) (hm : 3000 ≤ m) (hH : xH G F [] n m h) : rv_Call G d yX2_foundByRounds wX2_foundByRounds [.ref wd, .ref sta] h (xT (fun u h' => ∃ (a an ar : Nat) (s : xIn), u = some (.ref a) ∧ sp_stl R st (T.map (fun p => p.1)) s.F ∧ xS G F h [] (s.M a an ar) (n - 130) (m - 3000) h') (fun E h' => E = RX6 ∧ (¬ ∃ G', sp_stl R st (T.map (fun p => p.1)) G') ∧ xS G F h [] [] (n - 130) (m - 3000) h')) := by
  refine rv_start hG (by decide +kernel) (L := [some (.ref wd), some (.ref sta), none, none, none, none, none, none]) rfl (Nat.le_of_ble_eq_true rfl) (fun X hX1 hX hE => ?_)
  subst hX1
  have hS := hH.start
  have hfit := sp_strata_fit hst
  have hst8 := sp_strata_8 hst
  have main : ∀ (fo fn fr ms mn mr la : Nat) (F1 : xF) (es F0 : List Nat), (sp_srt F0 ∧ F0.length ≤ 60 ∧ ∀ x, x ∈ F0 ↔ x ∈ T.map (fun p => p.1)) → xle F F1 h [] → xLs X.1 (xr X.1 F1) la es → ∀ (z k : Nat) (s t : xIn) (r : Nat → Nat) (Ns : List xM) (L7 L8 : Option Value) (h1 : rv_H), 8 - k < z → k ≤ 8 → s.rd r → (∀ x, x ∈ s.F → r x ≤ 0) → sp_chain R st k F0 s.F → xDs X.1 (xr X.1 F1) ms fo R es Ns → xS X.1 F1 h [] (s.M fo fn fr ++ t.M ms mn mr ++ Ns.flatten) (n - 130 + 1) (m - 3000 + 6) h1 → rv_V X h1 24 [some (.ref wd), some (.ref sta), some (.ref fo), some (.ref ms), some (.ref la), some (.int (nI k)), L7, L8] [] := by
    intro fo fn fr ms mn mr la F1 es F0 hF0 hle hL z
    have hmn := fun a c (q : xr X.1 F a c) => hle.xr q
    have hW := hmn _ _ hW
    have hsta := hmn _ _ hsta
    obtain ⟨rs, hRl, hrs, hxs⟩ := id (hR.mono hmn (fun _ _ q => q.mono hmn))
    obtain ⟨um, ued, ucap, uf, u1, u2⟩ := id hRl
    obtain ⟨lm, led, lcap, lf, l1, l2⟩ := id hL
    induction z with
    | zero => intro k s t r Ns L7 L8 h1 g1; omega
    | succ z ih =>
      intro k s t r Ns L7 L8 h1 g1 g2 hr hrb hch hDs hS0
      have hs60 := s.srt
      by_cases hk8 : k = 8
      · subst hk8
        refine rv_iload hX dX2_foundByRounds_24 rfl ?_
        refine nv_bipush hX (m := 8) (by decide) dX2_foundByRounds_26 ?_
        refine nv_icmp_ge hX 118 (by omega) (by omega) dX2_foundByRounds_28 (by decide) (fun c_28 => ?_) (fun q => absurd q (by omega))
        refine rv_aload_n hX dX2_foundByRounds_118 rfl ?_
        refine rv_areturn hX hE (Or.inl ⟨_, rfl⟩) (Or.inr ⟨_, rfl⟩) ?_ dX2_foundByRounds_119
        refine ⟨fo, fn, fr, s, rfl, ⟨F0, hF0.1, hF0.2.1, hF0.2.2, hch⟩, ?_⟩
        refine (((hS0.drop (W := s.M fo fn fr) ?_).wk hle)).bud (by omega) (by omega)
        rw [List.append_assoc]
        exact List.sublist_append_left _ _
      · have inner : ∀ (y : Nat) (s' t : xIn) (r : Nat → Nat) (new : Bool) (Ns : List xM) (L9 : Option Value) (h1 : rv_H), 2 * (60 - s'.F.length) + (if new = true then 1 else 0) < y → s'.rd r → (∀ x, x ∈ s'.F → r x ≤ 0) → sp_way R st k s.F s'.F → (new = false → sp_cls R st k s'.F) → xDs X.1 (xr X.1 F1) ms fo R es Ns → xS X.1 F1 h [] (s'.M fo fn fr ++ t.M ms mn mr ++ Ns.flatten) (n - 130 + 1) (m - 3000 + 6) h1 → rv_V X h1 34 [some (.ref wd), some (.ref sta), some (.ref fo), some (.ref ms), some (.ref la), some (.int (nI k)), some (.int (rv_z new)), L9] [] := by
          intro y
          induction y with
          | zero => intro s' t r new Ns L9 h1 g1; omega
          | succ y ihy =>
            intro s' t r new Ns L9 h1 y1 hr hrb hway hcls hDs hS0
            have hs60 := s'.srt
            cases new with
            | false =>
              refine rv_iload hX dX2_foundByRounds_34 rfl ?_
              refine rv_if_eq hX 112 dX2_foundByRounds_36 (by decide) (fun c_36 => ?_) (fun q => absurd rfl q)
              first | refine nv_iinc hX (m := 1) dX2_foundByRounds_112 rfl (by decide) (rv_st_5 rfl) ?_ | refine rv_iinc hX dX2_foundByRounds_112 rfl rfl (rv_st_5 rfl) ?_
              refine rv_goto hX 24 dX2_foundByRounds_115 (by decide) ?_
              exact ih (k + 1) s' t r Ns _ _ _ (by omega) (by omega) hr hrb ⟨s.F, hch, hway.1, hs60.2.1, hcls rfl, hway.2⟩ hDs hS0
            | true =>
              rw [if_pos rfl] at y1
              let GV : sp_C → List Nat := fun C => sp_give s'.F C
              have hclos : ∀ (W : List Nat), (∀ x, x ∈ W → ∃ C, C ∈ R ∧ st C.rel = k ∧ x ∈ GV C) → ∀ G', sp_up1 st k s.F G' → sp_cls R st k G' → ∀ f, f ∈ W → f ∈ G' := fun W hW G' hG' hcl f hf => by
                obtain ⟨C, hC, hs, hx⟩ := hW f hf
                exact hway.give hS3 hC (hw C hC) (hfit C hC) hs G' hG' hcl f hx
              have hno : ∀ (W V : List Nat), (∀ x, x ∈ W → ∃ C, C ∈ R ∧ st C.rel = k ∧ x ∈ GV C) → (∀ x, x ∈ V → ∃ C, C ∈ R ∧ st C.rel = k ∧ x ∈ GV C) → sp_crowd W V → ¬ ∃ G', sp_stl R st (T.map (fun p => p.1)) G' := fun W V hW hV hc => sp_no hF0 hch (by omega) (hclos W hW) (hclos V hV) hc
              have hrb' : ∀ x, x ∈ s'.F → r x < 1000000 := fun x hx => by
                have := hrb x hx
                omega
              have forL : ∀ (w j : Nat) (t : xIn) (Ns : List xM) (h1 : rv_H), R.length - j < w → j ≤ R.length → (∀ x, x ∈ t.F ↔ ∃ i C, i < j ∧ R[i]? = some C ∧ st C.rel = k ∧ x ∈ GV C) → xDs X.1 (xr X.1 F1) ms fo R es Ns → xS X.1 F1 h [] (s'.M fo fn fr ++ t.M ms mn mr ++ Ns.flatten) (n - 130 + 1) (m - 3000 + 6) h1 → rv_V X h1 47 [some (.ref wd), some (.ref sta), some (.ref fo), some (.ref ms), some (.ref la), some (.int (nI k)), some (.int (rv_z true)), some (.int (nI j))] [] := by
                intro w
                induction w with
                | zero => intro j t Ns h1 g1; omega
                | succ w ihw =>
                  intro j t Ns h1 w1 w2 ht hDs hS0
                  have htR : ∀ x, x ∈ t.F → ∃ C, C ∈ R ∧ st C.rel = k ∧ x ∈ GV C := fun x hx => by
                    obtain ⟨i, C, -, q1, q2, q3⟩ := (ht x).mp hx
                    exact ⟨C, List.mem_of_getElem? q1, q2, q3⟩
                  have hS : xS X.1 F1 h1 [fo, fn, fr, ms, mn, mr] [(fo, cO 2 [.ref fn, .ref fr, .int (nI s'.1.1.length)]), (fn, cI 60 s'.1.2.1), (fr, cI 60 s'.1.2.2), (ms, cO 2 [.ref mn, .ref mr, .int (nI t.1.1.length)]), (mn, cI 60 t.1.2.1), (mr, cI 60 t.1.2.2)] (n - 130 + 1) (m - 3000 + 6) h1 := hS0.foc
                  by_cases hj : j = R.length
                  · obtain ⟨tr, htr⟩ := t.ok
                    have hp := xP_perm (d := 0) (by decide) (cs := [1, 1, 1, 2, 2, 2]) (M := [(fo, cO 2 [.ref fn, .ref fr, .int (nI s'.1.1.length)]), (fn, cI 60 s'.1.2.1), (fr, cI 60 s'.1.2.2), (ms, cO 2 [.ref mn, .ref mr, .int (nI t.1.1.length)]), (mn, cI 60 t.1.2.1), (mr, cI 60 t.1.2.2)]) (by decide)
                    refine rv_iload hX dX2_foundByRounds_47 rfl ?_
                    refine rv_aload hX dX2_foundByRounds_49 rfl ?_
                    refine rv_invVR hX iX2_65 mdJ2_size (hS.f l1) ⟨TJ2, 3, rv_c17⟩ (j_size hG (d := d - 1) (hL.mono (fun _ _ => hS.f)).L) (by omega) rfl rfl (Nat.le_of_ble_eq_true rfl) dX2_foundByRounds_51 (fun v h' hq => ?_) (fun E h' hq => by first | exact hq.elim | cases hq.2 | cases hq.1)
                    obtain ⟨rfl, hq⟩ := hq
                    cases hq
                    rw [hDs.1]
                    refine nv_icmp_ge hX 101 (by omega) (by omega) dX2_foundByRounds_54 (by decide) (fun c_54 => ?_) (fun q => absurd q (by omega))
                    refine rv_aload_n hX dX2_foundByRounds_101 rfl ?_
                    refine rv_aload_n hX dX2_foundByRounds_102 rfl ?_
                    refine nv_iconst hX (m := 0) (by decide) dX2_foundByRounds_103 ?_
                    refine rv_invS hX iX2_144 mdX2_merge (x_merge hG (mn := mn) (mr := mr) (s := s') (W := t.F) (rd := 0) (d := d - 1) (by omega) (hS.frzr hp (a := ms) (by simp [xP, xPa]; rfl)) (hS.frzr hp (a := mn) (by simp [xP, xPa])) htr (hS.cpre [1,1,1,2,2,2] 0 rfl rfl rfl)) (by omega) rfl rfl (Nat.le_of_ble_eq_true rfl) dX2_foundByRounds_104 (fun v h' hq => ?_) (fun E h' hq => by exact rv_out hX hE (fun x hx => by cases hx) ⟨hq.1, sp_no hF0 hch (by omega) hway.2 (hclos t.F htR) hq.2.1, ((hS0.unf0 (hS.exc [1, 1, 1, 2, 2, 2] 0 rfl rfl rfl hq.2.2)).drop (List.nil_sublist _)).wk hle⟩)
                    obtain ⟨s2, hu, hadds, hQ⟩ := hq
                    have hS := hS.cpost [1,1,1,2,2,2] 0 rfl rfl rfl hQ
                    cases hu
                    refine rv_istore hX dX2_foundByRounds_107 (rv_st_6 rfl) ?_
                    refine rv_goto hX 34 dX2_foundByRounds_109 (by decide) ?_
                    obtain ⟨a1, a2⟩ := xIn.adds_some hadds
                    obtain ⟨r2, b1, b2⟩ := a2 r hr
                    have htW : ∀ x, (∃ C, C ∈ R ∧ st C.rel = k ∧ x ∈ GV C) → x ∈ t.F := fun x => by
                      rintro ⟨C, q1, q2, q3⟩
                      obtain ⟨i, hi⟩ := List.getElem?_of_mem q1
                      exact (ht x).mpr ⟨i, C, by have := (List.getElem?_eq_some_iff.mp hi).1; omega, hi, q2, q3⟩
                    have hway2 := sp_way.more hS3 hw hfit hway htR s2.srt.1 a1
                    have hlen : s'.F.length ≤ s2.F.length := sp_nd_len (sp_srt_nd hs60.1) (fun x hx => (a1 x).mpr (Or.inl hx))
                    have h2 := s2.srt.2.1
                    refine ihy s2 t r2 _ Ns _ _ ?_ b1 (fun x hx => ?_) hway2 (fun e => ?_) hDs (hS0.unf0 hS)
                    · by_cases hgr : s'.F.length < s2.F.length
                      · rw [decide_eq_true hgr, if_pos rfl]
                        omega
                      · rw [decide_eq_false hgr, if_neg (by decide)]
                        omega
                    · rw [b2 x hx]
                      split
                      · rename_i q
                        exact hrb x q
                      · exact Nat.le_refl _
                    · have e' : ¬ s'.F.length < s2.F.length := of_decide_eq_false e
                      have hsame : s2.F = s'.F := sp_srt_uniq s2.srt.1 hs60.1 (fun x => ⟨fun hx => by
                        apply Classical.byContradiction
                        intro hn
                        have hnd : (x :: s'.F).Nodup := List.nodup_cons.mpr ⟨hn, sp_srt_nd hs60.1⟩
                        have := sp_nd_len hnd (G := s2.F) (fun y hy => by
                          rcases List.mem_cons.mp hy with rfl | hy
                          · exact hx
                          · exact (a1 y).mpr (Or.inl hy))
                        rw [List.length_cons] at this
                        omega, fun hx => (a1 x).mpr (Or.inl hx)⟩)
                      intro C hC hs f hf
                      rw [hsame] at hf
                      exact (a1 f).mpr (Or.inr (htW f ⟨C, hC, hs, hf⟩))
                  · obtain ⟨C, hC⟩ : ∃ C, R[j]? = some C := ⟨R[j], List.getElem?_eq_getElem (by omega)⟩
                    have hCR := List.mem_of_getElem? hC
                    have hwC := hw C hCR
                    obtain ⟨ca, hca, hCl⟩ := xLp.get hrs hxs hC
                    obtain ⟨D, hD⟩ : ∃ D, es[j]? = some D := ⟨es[j]'(by rw [hDs.1]; omega), List.getElem?_eq_getElem _⟩
                    obtain ⟨N, hN⟩ : ∃ N, Ns[j]? = some N := ⟨Ns[j]'(by rw [hDs.2.1]; omega), List.getElem?_eq_getElem _⟩
                    obtain ⟨ca2, hCl2, hDv⟩ := hDs.2.2 j C D N hC hD hN
                    obtain ⟨dfs, hDc⟩ := hDv.cell
                    obtain ⟨z1, z2, z3, z4, z5⟩ := xfd hS0 hN
                    have hK : xDK X.1 (xfz F1 (s'.M fo fn fr)) S s'.F r C ca2 fo := ⟨hCl2.mono z2, hwC, ⟨hS3, hS8⟩, xIn.Fd hr _ z1, hrb'⟩
                    have hrel := hK.rel
                    obtain ⟨hd1, cb, cgk, cmd, csal, ctl, hc1, ⟨ctm, ctf, hc3, hc4⟩, hc5⟩ := id hCl
                    have hc3 : xr X.1 F1 hd1 (cO 10 [.int (nI 0), .int (nI C.rel), .ref ctm, .int (nI (C.hts.map xtm).length)]) := hc3
                    have hnext : st C.rel = k → ∀ t' : xIn, (∀ x, x ∈ t'.F ↔ x ∈ t.F ∨ x ∈ GV C) → ∀ x, x ∈ t'.F ↔ ∃ i C, i < j + 1 ∧ R[i]? = some C ∧ st C.rel = k ∧ x ∈ GV C := fun hsk t' ht' x => by
                      rw [ht' x, ht x]
                      constructor
                      · rintro (⟨i, C', q0, q1, q2, q3⟩ | q)
                        · exact ⟨i, C', by omega, q1, q2, q3⟩
                        · exact ⟨j, C, by omega, hC, hsk, q⟩
                      · rintro ⟨i, C', q0, q1, q2, q3⟩
                        by_cases hij : i = j
                        · subst hij
                          rw [hC] at q1
                          cases q1
                          exact Or.inr q3
                        · exact Or.inl ⟨i, C', by omega, q1, q2, q3⟩
                    have hskip : st C.rel ≠ k → ∀ x, x ∈ t.F ↔ ∃ i C, i < j + 1 ∧ R[i]? = some C ∧ st C.rel = k ∧ x ∈ GV C := fun hsk x => by
                      rw [ht x]
                      constructor
                      · rintro ⟨i, C', q0, q1, q2, q3⟩
                        exact ⟨i, C', by omega, q1, q2, q3⟩
                      · rintro ⟨i, C', q0, q1, q2, q3⟩
                        by_cases hij : i = j
                        · subst hij
                          rw [hC] at q1
                          cases q1
                          exact absurd q2 hsk
                        · exact ⟨i, C', by omega, q1, q2, q3⟩
                    have hcr : st C.rel = k → sp_crowd t.F (GV C) → ¬ ∃ G', sp_stl R st (T.map (fun p => p.1)) G' := fun hsk hc => hno t.F (GV C) htR (fun x hx => ⟨C, hCR, hsk, hx⟩) hc
                    have hsfC := hsf C.rel hrel
                    by_cases hsk : st C.rel = k
                    · skip
                      refine rv_iload hX dX2_foundByRounds_47 rfl ?_
                      refine rv_aload hX dX2_foundByRounds_49 rfl ?_
                      refine rv_invVR hX iX2_65 mdJ2_size (hS.f l1) ⟨TJ2, 3, rv_c17⟩ (j_size hG (d := d - 1) (hL.mono (fun _ _ => hS.f)).L) (by omega) rfl rfl (Nat.le_of_ble_eq_true rfl) dX2_foundByRounds_51 (fun v h' hq => ?_) (fun E h' hq => by first | exact hq.elim | cases hq.2 | cases hq.1)
                      obtain ⟨rfl, hq⟩ := hq
                      cases hq
                      rw [hDs.1]
                      refine nv_icmp_ge hX 101 (by omega) (by omega) dX2_foundByRounds_54 (by decide) (fun q => absurd q (by omega)) (fun c_54 => ?_)
                      refine rv_aload_n hX dX2_foundByRounds_57 rfl ?_
                      refine rv_aload_n hX dX2_foundByRounds_58 rfl ?_
                      refine rv_getfR hX gX2_34_X2 (hS.f hW) rfl dX2_foundByRounds_59 ?_
                      refine rv_iload hX dX2_foundByRounds_62 rfl ?_
                      refine rv_invVR hX iX2_69 mdJ2_get (hS.f u1) ⟨TJ2, 3, rv_c17⟩ (j_get hG (d := d - 1) (by omega) (hRl.mono (fun _ _ => hS.f)).L hca) (by omega) rfl rfl (Nat.le_of_ble_eq_true rfl) dX2_foundByRounds_64 (fun v h' hq => ?_) (fun E h' hq => by first | exact hq.elim | cases hq.2 | cases hq.1)
                      obtain ⟨rfl, hq⟩ := hq
                      cases hq
                      refine rv_castOR hX (hS.f hc1) rv_c9 q1236 dX2_foundByRounds_67 ?_
                      refine rv_getfR hX gX2_108_X10 (hS.f hc1) rfl dX2_foundByRounds_70 ?_
                      refine rv_getfR hX gX2_105_X11 (hS.f hc3) rfl dX2_foundByRounds_73 ?_
                      refine xv_iald hX (hS.f hsta) (by omega) (by omega) dX2_foundByRounds_76 ?_
                      rw [hsfC]
                      refine rv_iload hX dX2_foundByRounds_77 rfl ?_
                      refine nv_icmp_ne hX 95 (by omega) (by omega) dX2_foundByRounds_79 (by decide) (fun q => absurd hsk q) (fun c_79 => ?_)
                      refine rv_aload hX dX2_foundByRounds_82 rfl ?_
                      refine rv_iload hX dX2_foundByRounds_84 rfl ?_
                      refine rv_invVR hX iX2_69 mdJ2_get (hS.f l1) ⟨TJ2, 3, rv_c17⟩ (j_get hG (d := d - 1) (by omega) (hL.mono (fun _ _ => hS.f)).L hD) (by omega) rfl rfl (Nat.le_of_ble_eq_true rfl) dX2_foundByRounds_86 (fun v h' hq => ?_) (fun E h' hq => by first | exact hq.elim | cases hq.2 | cases hq.1)
                      obtain ⟨rfl, hq⟩ := hq
                      cases hq
                      refine rv_castOR hX (hS.f hDc) rv_c6 q1285 dX2_foundByRounds_89 ?_
                      refine rv_invVR hX iX2_138 mdX7_deriveAll (hS.f hDc) ⟨TX7, 7, rv_c6⟩ (x_deriveAll hG hLK hK (d := d - 1) (by omega) z2 hDv z3) (by omega) rfl rfl (Nat.le_of_ble_eq_true rfl) dX2_foundByRounds_92 (fun v h' hq => ?_) (fun E h' hq => by exact rv_out hX hE (fun x hx => by cases hx) ⟨hq.1, hcr hsk hq.2.1, (z5 _ _ _ hq.2.2).wk hle⟩)
                      obtain ⟨N', t', hu, ht', ⟨hDv', -⟩, hQ⟩ := hq
                      cases hu
                      first | refine nv_iinc hX (m := 1) dX2_foundByRounds_95 rfl (by decide) (rv_st_7 rfl) ?_ | refine rv_iinc hX dX2_foundByRounds_95 rfl rfl (rv_st_7 rfl) ?_
                      refine rv_goto hX 47 dX2_foundByRounds_98 (by decide) ?_
                      exact ihw (j + 1) t' (Ns.set j N') _ (by omega) (by omega) (hnext hsk t' ht') (hDs.set hC hD hCl2 hDv') (z4 _ _ _ _ _ hQ)
                    · have hst8C := hst8 C.rel
                      refine rv_iload hX dX2_foundByRounds_47 rfl ?_
                      refine rv_aload hX dX2_foundByRounds_49 rfl ?_
                      refine rv_invVR hX iX2_65 mdJ2_size (hS.f l1) ⟨TJ2, 3, rv_c17⟩ (j_size hG (d := d - 1) (hL.mono (fun _ _ => hS.f)).L) (by omega) rfl rfl (Nat.le_of_ble_eq_true rfl) dX2_foundByRounds_51 (fun v h' hq => ?_) (fun E h' hq => by first | exact hq.elim | cases hq.2 | cases hq.1)
                      obtain ⟨rfl, hq⟩ := hq
                      cases hq
                      rw [hDs.1]
                      refine nv_icmp_ge hX 101 (by omega) (by omega) dX2_foundByRounds_54 (by decide) (fun q => absurd q (by omega)) (fun c_54 => ?_)
                      refine rv_aload_n hX dX2_foundByRounds_57 rfl ?_
                      refine rv_aload_n hX dX2_foundByRounds_58 rfl ?_
                      refine rv_getfR hX gX2_34_X2 (hS.f hW) rfl dX2_foundByRounds_59 ?_
                      refine rv_iload hX dX2_foundByRounds_62 rfl ?_
                      refine rv_invVR hX iX2_69 mdJ2_get (hS.f u1) ⟨TJ2, 3, rv_c17⟩ (j_get hG (d := d - 1) (by omega) (hRl.mono (fun _ _ => hS.f)).L hca) (by omega) rfl rfl (Nat.le_of_ble_eq_true rfl) dX2_foundByRounds_64 (fun v h' hq => ?_) (fun E h' hq => by first | exact hq.elim | cases hq.2 | cases hq.1)
                      obtain ⟨rfl, hq⟩ := hq
                      cases hq
                      refine rv_castOR hX (hS.f hc1) rv_c9 q1236 dX2_foundByRounds_67 ?_
                      refine rv_getfR hX gX2_108_X10 (hS.f hc1) rfl dX2_foundByRounds_70 ?_
                      refine rv_getfR hX gX2_105_X11 (hS.f hc3) rfl dX2_foundByRounds_73 ?_
                      refine xv_iald hX (hS.f hsta) (by omega) (by omega) dX2_foundByRounds_76 ?_
                      rw [hsfC]
                      refine rv_iload hX dX2_foundByRounds_77 rfl ?_
                      refine nv_icmp_ne hX 95 (by omega) (by omega) dX2_foundByRounds_79 (by decide) (fun c_79 => ?_) (fun q => absurd q hsk)
                      first | refine nv_iinc hX (m := 1) dX2_foundByRounds_95 rfl (by decide) (rv_st_7 rfl) ?_ | refine rv_iinc hX dX2_foundByRounds_95 rfl rfl (rv_st_7 rfl) ?_
                      refine rv_goto hX 47 dX2_foundByRounds_98 (by decide) ?_
                      exact ihw (j + 1) t Ns _ (by omega) (by omega) (hskip hsk) hDs hS0
              have hS : xS X.1 F1 h1 [fo, fn, fr, ms, mn, mr] [(fo, cO 2 [.ref fn, .ref fr, .int (nI s'.1.1.length)]), (fn, cI 60 s'.1.2.1), (fr, cI 60 s'.1.2.2), (ms, cO 2 [.ref mn, .ref mr, .int (nI t.1.1.length)]), (mn, cI 60 t.1.2.1), (mr, cI 60 t.1.2.2)] (n - 130 + 1) (m - 3000 + 6) h1 := hS0.foc
              refine rv_iload hX dX2_foundByRounds_34 rfl ?_
              refine rv_if_eq hX 112 dX2_foundByRounds_36 (by decide) (fun q => absurd q (by decide)) (fun c_36 => ?_)
              refine rv_aload_n hX dX2_foundByRounds_39 rfl ?_
              refine nv_iconst hX (m := 0) (by decide) dX2_foundByRounds_40 ?_
              refine xv_putf hX hS (k := 3) rfl pX2_135_X3 (fun q => by cases q) rfl rfl rfl dX2_foundByRounds_41 (fun h_41 hS => ?_)
              refine nv_iconst hX (m := 0) (by decide) dX2_foundByRounds_44 ?_
              refine rv_istore hX dX2_foundByRounds_45 (rv_st_7 rfl) ?_
              refine forL _ 0 (xIn.nil t.1.2.1 t.1.2.2) Ns _ (Nat.lt_succ_self _) (Nat.zero_le _) (fun x => ⟨fun q => (by cases q), fun ⟨i, C, q, _⟩ => absurd q (Nat.not_lt_zero i)⟩) hDs (hS0.unf0 hS)
        refine rv_iload hX dX2_foundByRounds_24 rfl ?_
        refine nv_bipush hX (m := 8) (by decide) dX2_foundByRounds_26 ?_
        refine nv_icmp_ge hX 118 (by omega) (by omega) dX2_foundByRounds_28 (by decide) (fun q => absurd q (by omega)) (fun c_28 => ?_)
        refine nv_iconst hX (m := 1) (by decide) dX2_foundByRounds_31 ?_
        refine rv_istore hX dX2_foundByRounds_32 (rv_st_6 rfl) ?_
        exact inner _ s t r true Ns _ _ (Nat.lt_succ_self _) hr hrb (.rf hs60.1) (fun e => by cases e) hDs hS0
  refine rv_aload_n hX dX2_foundByRounds_0 rfl ?_
  refine rv_invVR hX iX2_127 mdX2_toldFacts (hS.f hW) ⟨TX2, 12, rv_c1⟩ (x_toldFacts hG (d := d - 1) (by omega) hW hT hTl hT8 (by omega) (by omega) (hS.cpre0 [] 0 rfl rfl rfl)) (by omega) rfl rfl (Nat.le_of_ble_eq_true rfl) dX2_foundByRounds_1 (fun v h' hq => ?_) (fun E h' hq => by exact rv_out hX hE (fun x hx => by cases hx) ⟨hq.1, (fun ⟨G', F9, f1, f2, f3, f4⟩ => absurd (hq.2.1 F9 f1 (fun x hx => by cases hx) (fun x hx => (f3 x).mpr hx)) (by omega)), (hS.exc0 [] 0 rfl rfl rfl hq.2.2).bud (by omega) (by omega)⟩)
  obtain ⟨fo, fn, fr, s, hu, hsF, ⟨r, hr, hr0⟩, hQ⟩ := hq
  have hS := hS.cpost0 [] 0 rfl rfl rfl hQ
  cases hu
  refine rv_astore_n hX dX2_foundByRounds_4 (rv_st_2 rfl) ?_
  refine xv_new hX hS nX2_23 (by omega) (show 3 ≤ _ by omega) dX2_foundByRounds_5 (fun a_5 h_5 hS => ?_)
  have hS := hS.bud (Nat.le_refl _) (show _ - 3 ≤ _ from Nat.le_refl _)
  refine rv_dup hX dX2_foundByRounds_8 rfl ?_
  refine rv_invI hX iX2_25 mdX3_init rfl (x_factsNew hG (d := d - 1) (by omega) (by omega) (by omega) (hS.cpre0 [0,0,0,1] 0 rfl rfl rfl)) (by omega) rfl rfl (Nat.le_of_ble_eq_true rfl) dX2_foundByRounds_9 (fun v h' hq => ?_) (fun E h' hq => by first | exact hq.elim | cases hq.2 | cases hq.1)
  obtain ⟨mn, mr, hu, hQ⟩ := hq
  have hS := hS.cpost0 [0,0,0,1] 0 rfl rfl rfl hQ
  cases hu
  refine rv_astore_n hX dX2_foundByRounds_12 (rv_st_3 rfl) ?_
  refine rv_aload_n hX dX2_foundByRounds_13 rfl ?_
  refine rv_aload_n hX dX2_foundByRounds_14 rfl ?_
  refine rv_aload_n hX dX2_foundByRounds_15 rfl ?_
  refine rv_invVR hX iX2_131 mdX2_derivers (hS.f hW) ⟨TX2, 12, rv_c1⟩ (x_derivers hG hLK (d := d - 1) (by omega) hW hR hR10 hw hS3 (by omega) (by omega) (hS.cpre0 [0,0,0,0,0,0,0] 0 rfl rfl rfl)) (by omega) rfl rfl (Nat.le_of_ble_eq_true rfl) dX2_foundByRounds_16 (fun v h' hq => ?_) (fun E h' hq => by first | exact hq.elim | cases hq.2 | cases hq.1)
  obtain ⟨F1, la, es, Ns, hu, hL, hLs, hDs, hQ⟩ := hq
  obtain ⟨hS, hle_16⟩ := hS.cpostE [0,0,0,0,0,0,0] 0 rfl rfl rfl hQ hL
  cases hu
  refine rv_astore hX dX2_foundByRounds_19 (rv_st_4 rfl) ?_
  refine nv_iconst hX (m := 0) (by decide) dX2_foundByRounds_21 ?_
  refine rv_istore hX dX2_foundByRounds_22 (rv_st_5 rfl) ?_
  have hS : xS X.1 F1 h [] (s.M fo fn fr ++ (xIn.nil (fun _ => 0) (fun _ => 0)).M a_5 mn mr ++ Ns.flatten) _ _ _ := hS
  exact main fo fn fr _ mn mr la F1 es s.F ⟨s.srt.1, s.srt.2.1, hsF⟩ (hle_16 F .rf) hLs _ 0 s (xIn.nil (fun _ => 0) (fun _ => 0)) r Ns _ _ _ (Nat.lt_succ_self _) (Nat.zero_le _) hr (fun x hx => by rw [hr0 x hx]; exact Nat.le_refl _) rfl hDs (hS.bud (by omega) (by omega))
