/-! THE SYSTEM: a world settled -/
set_option maxRecDepth 100000
theorem xers {α β : Type} (f : α → β) : ∀ (l : List α) (k : Nat), (l.eraseIdx k).map f = (l.map f).eraseIdx k := by
  intro l
  induction l with
  | nil => intro k; rfl
  | cons a l ih =>
    intro k
    cases k with
    | zero => rfl
    | succ k => exact congrArg (f a :: ·) (ih k)
theorem x_settle {G : rv_G} (hG : rv_GK G) (hLK : rv_LK G) {d nx n m : Nat} (hd : 66 ≤ d) {rel ta st0 tg ru de fi sk g : Nat} {rn dn now : Int32} {S Fs A : List Nat} {R : List sp_C} {T : List (Nat × Nat)} {r : Nat → Nat} {tf : Nat → Int32} {ps : List (Nat × (Nat × Nat × Nat × Nat))} {Nf : xM} {F : xF} {h : rv_H} (hR : xLp G (xr G F) (xCl G false) ru R) (hT : xLp G (xr G F) (xTd G) ta T) (hF : xFc (xr G F) st0 Fs r) (hA : xr G F tg (cI 60 tf)) (hAl : A.length = Fs.length) (hAt : ∀ k t, A[k]? = some t → tf k = nI t) (hA1 : ∀ t, t ∈ A → 1 ≤ t ∧ t ≤ g) (hg : g ≤ 1000000) (hfi : xAL G fi (ps.map (fun p => p.1)) Nf) (hps : ∀ p, p ∈ ps → xFi G (xr G F) p.1 p.2 ∧ ∀ k, xet p.2 k < 2147483648) (hR10 : R.length ≤ 10) (hw : ∀ C, C ∈ R → sp_wfC S C) (hS3 : ∀ n, n ∈ S → 1 ≤ n ∧ n ≤ 3) (hS8 : S.length ≤ 8) (hTl : T.length ≤ 61) (hT8 : ∀ p, p ∈ T → p.1 < 8000000) (hn : 140 ≤ n) (hm : 3100 ≤ m) (hH : xH G F ((nx, cW rel ta st0 tg (nI g) ru de rn dn fi sk now) :: Nf) n m h) : rv_Call G d yX2_settle wX2_settle [.ref nx] h (xT (fun u h' => ∃ (st1 an ar tg1 : Nat) (s : xIn) (tf1 : Nat → Int32) (N1 : xM), u = none ∧ sp_set R (T.map (fun p => p.1)) = some s.F ∧ (∀ k t, (sp_gtags Fs A g s.F)[k]? = some t → tf1 k = nI t) ∧ xAL G fi ((ps.filter (fun p => xal3 (sp_gtags Fs A g s.F) p.2)).map (fun p => p.1)) N1 ∧ xS G F h (nx :: xad Nf) ((nx, cW rel ta st1 tg1 (nI (sp_gnew Fs A g s.F)) ru de rn dn fi sk now) :: (s.M st1 an ar ++ ((tg1, cI 60 tf1) :: N1))) (n - 140) (m - 3100) h') (fun E h' => (E = RX6 ∨ E = RX5) ∧ sp_set R (T.map (fun p => p.1)) = none ∧ xS G F h (nx :: xad Nf) [] (n - 140) (m - 3100) h')) := by
  refine rv_start hG (by decide +kernel) (L := [some (.ref nx), none, none, none, none]) rfl (Nat.le_of_ble_eq_true rfl) (fun X hX1 hX hE => ?_)
  subst hX1
  let W : rv_C := cW rel ta st0 tg (nI g) ru de rn dn fi sk now
  have hS0 : xS X.1 F h (nx :: xad Nf) ([(nx, W)] ++ Nf) n m h := hH.start
  have hS : xS X.1 F h [nx] [(nx, cW rel ta st0 tg (nI g) ru de rn dn fi sk now)] n m h := hS0.foc
  have hFs := hF
  obtain ⟨an0, ar0, nf0, rf0, f1, f2, f3, ⟨fs1, fs2, fs3⟩, f4⟩ := id hF
  have hp1 : ([(nx, W)] : xM).Perm ([(nx, W)] ++ []) := List.Perm.refl _
  have hZ1 := fun a c (q : xr X.1 F a c) => (hS.frz hp1).2.xr q
  have hW1 := hS.frzr hp1 (a := nx) (c := W) (List.mem_singleton.mpr rfl)
  -- what has fired
  have fired : ∀ (sta fo fn fr tg2 : Nat) (s : xIn) (sf f2 : Nat → Int32) (x3 x4 : Option Value) (h1 : rv_H) (n1 m1 : Nat), n - 140 ≤ n1 → m - 3100 ≤ m1 → sp_set R (T.map (fun p => p.1)) = some s.F → (∀ k t, (sp_gtags Fs A g s.F)[k]? = some t → f2 k = nI t ∧ t < 2147483648) → xS X.1 F h (nx :: xad Nf) ([(nx, cW rel ta fo tg2 (nI (sp_gnew Fs A g s.F)) ru de rn dn fi sk now), (sta, cI 8 sf), (fo, cO 2 [.ref fn, .ref fr, .int (nI s.1.1.length)]), (fn, cI 60 s.1.2.1), (fr, cI 60 s.1.2.2), (tg2, cI 60 f2)] ++ Nf) n1 m1 h1 → rv_V X h1 98 [some (.ref nx), some (.ref fo), some (.ref tg2), x3, x4] [] := by
    intro sta fo fn fr tg2 s sf f2 x3 x4 h1 n1 m1 hn1 hm1 hset hf2 hS
    have hAnl := sp_gtags_len Fs A s.F g
    have hs60 := s.srt.2.1
    generalize hAn : sp_gtags Fs A g s.F = An at *
    rcases hfi with ⟨mc, ed, ⟨cap, f, rfl, hcap, hle, hlf, hoa⟩ | ⟨hnil, rfl, ho, hz⟩⟩
    · have hS : xS X.1 F h [nx, fi, ed] [(nx, cW rel ta fo tg2 (nI (sp_gnew Fs A g s.F)) ru de rn dn fi sk now), (sta, cI 8 sf), (fo, cO 2 [.ref fn, .ref fr, .int (nI s.1.1.length)]), (fn, cI 60 s.1.2.1), (fr, cI 60 s.1.2.2), (tg2, cI 60 f2), (fi, lO mc ed (ps.map (fun p => p.1)).length), (ed, cR cap f)] n1 m1 h1 := hS
      have loop : ∀ (k : Nat) (mc : Int32) (f : Nat → Option Nat) (h1 : rv_H), k ≤ ps.length → (∀ qs, qs = ps.take k ++ (ps.drop k).filter (fun p => xal3 An p.2) → qs.length ≤ cap ∧ lsf (qs.map (fun p => p.1)) f ∧ (∀ i v, qs.length ≤ i → f i = some v → False) ∧ xS X.1 F h [nx, fi, ed] [(nx, cW rel ta fo tg2 (nI (sp_gnew Fs A g s.F)) ru de rn dn fi sk now), (sta, cI 8 sf), (fo, cO 2 [.ref fn, .ref fr, .int (nI s.1.1.length)]), (fn, cI 60 s.1.2.1), (fr, cI 60 s.1.2.2), (tg2, cI 60 f2), (fi, lO mc ed (qs.map (fun p => p.1)).length), (ed, cR cap f)] n1 m1 h1) → rv_V X h1 108 [some (.ref nx), some (.ref fo), some (.ref tg2), some (.int (xdn k)), x4] [] := by
        intro k
        induction k with
        | zero =>
          intro mc f h1 _ hqq
          obtain ⟨q1, q2, q3, hS⟩ := hqq _ rfl
          refine rv_iload_n hX dX2_settle_108 rfl ?_
          refine rv_if_lt hX 145 dX2_settle_109 (by decide) (fun c_109 => ?_) (fun q => absurd (show (-1 : Int32) < 0 by decide) q)
          refine rv_return hX hE ?_ dX2_settle_145
          refine ⟨fo, fn, fr, tg2, s, f2, _, rfl, hset, fun k t e => (hf2 k t (by rw [← hAn]; exact e)).1, ⟨mc, ed, Or.inl ⟨cap, f, rfl, hcap, ?_, ?_, ?_⟩⟩, ((hS.drop (W := [_, _, _, _, _, _, _]) ?_).bud hn1 hm1)⟩
          · rw [hAn, List.length_map]
            exact q1
          · rw [hAn]
            exact q2
          · rw [hAn, List.length_map]
            exact q3
          · rw [hAn]
            exact (List.Sublist.refl _).cons _ |>.cons₂ _
        | succ k ih =>
          intro mc f h1 hk hqq
          obtain ⟨q1, q2, q3, hS⟩ := hqq _ rfl
          obtain ⟨p, hp⟩ : ∃ p, ps[k]? = some p := ⟨ps[k], List.getElem?_eq_getElem (by omega)⟩
          obtain ⟨hFi, htsb⟩ := hps p (List.mem_of_getElem? hp)
          obtain ⟨z, ef, e1, e1b, e2, e3, e4, e5⟩ := id hFi
          let qs := ps.take (k + 1) ++ (ps.drop (k + 1)).filter (fun p => xal3 An p.2)
          have hqs : qs = ps.take (k + 1) ++ (ps.drop (k + 1)).filter (fun p => xal3 An p.2) := rfl
          have htl : (ps.take k).length = k := by rw [List.length_take]; omega
          have hqe : qs = ps.take k ++ p :: (ps.drop (k + 1)).filter (fun p => xal3 An p.2) := by
            rw [hqs, sp_take_get hp, List.append_assoc]
            rfl
          have hqk : (qs.map (fun p => p.1))[k]? = some p.1 := by
            rw [List.getElem?_map, hqe, List.getElem?_append_right (by omega), htl, Nat.sub_self]
            rfl
          have hqsub : ∀ x, x ∈ qs → x ∈ ps := fun x hx => by
            rcases List.mem_append.mp hx with q | q
            · exact List.mem_of_mem_take q
            · exact List.mem_of_mem_drop (List.mem_filter.mp q).1
          have hqfi : ∀ (i e : Nat), (qs.map (fun p => p.1))[i]? = some e → ∃ z ef, xr X.1 F e (cI z ef) ∧ rv_b X.1 ≤ e := fun i e q => by
            obtain ⟨x, hx, rfl⟩ := List.mem_map.mp (List.mem_of_getElem? q)
            obtain ⟨z, ef, w1, w2, -⟩ := (hps x (hqsub x hx)).1
            exact ⟨_, ef, w1, w2⟩
          have hxl : xLs X.1 (rv_rd X.1 h1) fi (qs.map (fun p => p.1)) := ⟨mc, ed, cap, f, hS.mc (k := 6) rfl, hS.mc (k := 7) rfl, ⟨by rw [List.length_map]; exact q1, hS.oa (k := 7) rfl⟩, by omega, q2⟩
          have hdk : ps.drop k = p :: ps.drop (k + 1) := sp_drop_get hp
          have hc := hxl.len
          rw [List.length_map] at hc
          have hklen : k < qs.length := by rw [hqe, List.length_append, htl, List.length_cons]; omega
          have hel : xlel X.1 h1 (qs.map (fun p => p.1)) := fun i e q => by
            obtain ⟨z, ef, w1, w2⟩ := hqfi i e q
            exact xel_I hS.1 w1 w2
          have hea : ∀ e, e ∈ qs.map (fun p => p.1) → e ∉ [fi, ed] := fun e he hm => by
            obtain ⟨i, hi⟩ := List.getElem?_of_mem he
            obtain ⟨z, ef, w1, w2⟩ := hqfi i e hi
            refine xown_ne hS.1 w1 ?_
            rcases List.mem_cons.mp hm with rfl | hm
            · exact List.mem_map.mpr ⟨_, List.mem_of_getElem? (i := 6) rfl, rfl⟩
            · rw [List.mem_singleton.mp hm]
              exact List.mem_map.mpr ⟨_, List.mem_of_getElem? (i := 7) rfl, rfl⟩
          have hal := xal3_z (A := An) e2 e5
          by_cases ha : xal3 An p.2 = true
          · skip
            refine rv_iload_n hX dX2_settle_108 rfl ?_
            show rv_V X _ _ _ [.int (nI k)]
            refine rv_if_lt hX 145 dX2_settle_109 (by decide) (fun q => absurd q (nI_pos (by omega))) (fun c_109 => ?_)
            refine rv_aload_n hX dX2_settle_112 rfl ?_
            refine rv_aload_n hX dX2_settle_113 rfl ?_
            refine rv_getfR hX gX2_41_X2 (hS.mc (k := 0) rfl) rfl dX2_settle_114 ?_
            refine rv_iload_n hX dX2_settle_117 rfl ?_
            refine rv_invVR hX iX2_69 mdJ2_get (hS.mc (k := 6) rfl) ⟨TJ2, 3, rv_c17⟩ (j_get hG (d := d - 1) (by omega) hxl.L hqk) (by omega) rfl rfl (Nat.le_of_ble_eq_true rfl) dX2_settle_118 (fun v h' hq => ?_) (fun E h' hq => by first | exact hq.elim | cases hq.2 | cases hq.1)
            obtain ⟨rfl, hq⟩ := hq
            cases hq
            refine rv_castAN hX (k := 0) (by decide) (by decide) (hS.f e1) e1b q956 dX2_settle_121 ?_
            refine rv_invVR hX iX2_162 mdX2_areTags (hS.mc (k := 0) rfl) ⟨TX2, 12, rv_c1⟩ (x_areTags hG (A := An) (nsa := fn) (nsr := fr) (z := z) (ts := xet p.2) (d := d - 1) (hS.mc (k := 0) rfl) (by rw [hAnl]; exact hS.mc (k := 2) rfl) (hS.mc (k := 5) rfl) (by rw [hAnl]; exact hs60) hf2 (hS.f e1) e2 (fun k hk => ⟨e4 k hk, htsb k⟩)) (by omega) rfl rfl (Nat.le_of_ble_eq_true rfl) dX2_settle_124 (fun v h' hq => ?_) (fun E h' hq => by first | exact hq.elim | cases hq.2 | cases hq.1)
            obtain ⟨rfl, hq⟩ := hq
            cases hq
            rw [hal, ha]
            refine rv_if_ne hX 139 dX2_settle_127 (by decide) (fun c_127 => ?_) (fun q => absurd q (by decide))
            refine rv_iinc hX dX2_settle_139 rfl (xdn_dec) (rv_st_3 rfl) ?_
            refine rv_goto hX 108 dX2_settle_142 (by decide) ?_
            refine ih mc f _ (by omega) (fun qs' e => ?_)
            have : qs' = qs := by
              rw [e, hqe, hdk, List.filter_cons_of_pos (p := fun p : Nat × (Nat × Nat × Nat × Nat) => xal3 An p.2) (a := p) ha]
            subst this
            exact ⟨q1, q2, q3, hS⟩
          · skip
            refine rv_iload_n hX dX2_settle_108 rfl ?_
            show rv_V X _ _ _ [.int (nI k)]
            refine rv_if_lt hX 145 dX2_settle_109 (by decide) (fun q => absurd q (nI_pos (by omega))) (fun c_109 => ?_)
            refine rv_aload_n hX dX2_settle_112 rfl ?_
            refine rv_aload_n hX dX2_settle_113 rfl ?_
            refine rv_getfR hX gX2_41_X2 (hS.mc (k := 0) rfl) rfl dX2_settle_114 ?_
            refine rv_iload_n hX dX2_settle_117 rfl ?_
            refine rv_invVR hX iX2_69 mdJ2_get (hS.mc (k := 6) rfl) ⟨TJ2, 3, rv_c17⟩ (j_get hG (d := d - 1) (by omega) hxl.L hqk) (by omega) rfl rfl (Nat.le_of_ble_eq_true rfl) dX2_settle_118 (fun v h' hq => ?_) (fun E h' hq => by first | exact hq.elim | cases hq.2 | cases hq.1)
            obtain ⟨rfl, hq⟩ := hq
            cases hq
            refine rv_castAN hX (k := 0) (by decide) (by decide) (hS.f e1) e1b q956 dX2_settle_121 ?_
            refine rv_invVR hX iX2_162 mdX2_areTags (hS.mc (k := 0) rfl) ⟨TX2, 12, rv_c1⟩ (x_areTags hG (A := An) (nsa := fn) (nsr := fr) (z := z) (ts := xet p.2) (d := d - 1) (hS.mc (k := 0) rfl) (by rw [hAnl]; exact hS.mc (k := 2) rfl) (hS.mc (k := 5) rfl) (by rw [hAnl]; exact hs60) hf2 (hS.f e1) e2 (fun k hk => ⟨e4 k hk, htsb k⟩)) (by omega) rfl rfl (Nat.le_of_ble_eq_true rfl) dX2_settle_124 (fun v h' hq => ?_) (fun E h' hq => by first | exact hq.elim | cases hq.2 | cases hq.1)
            obtain ⟨rfl, hq⟩ := hq
            cases hq
            rw [hal, Bool.eq_false_iff.mpr ha]
            refine rv_if_ne hX 139 dX2_settle_127 (by decide) (fun q => absurd rfl q) (fun c_127 => ?_)
            refine rv_aload_n hX dX2_settle_130 rfl ?_
            refine rv_getfR hX gX2_41_X2 (hS.mc (k := 0) rfl) rfl dX2_settle_131 ?_
            refine rv_iload_n hX dX2_settle_134 rfl ?_
            refine rv_invVR hX iX2_166 mdJ2_remove (hS.mc (k := 6) rfl) ⟨TJ2, 3, rv_c17⟩ (j_remove hG (d := d - 1) (by omega) (by omega) (by rw [List.length_map]; exact q1) q2 (by rw [List.length_map]; exact q3) hqk hel hea (hS.cpre0 [0,0,0,0,0,0,1,1] 0 rfl rfl rfl)) (by omega) rfl rfl (Nat.le_of_ble_eq_true rfl) dX2_settle_135 (fun v h' hq => ?_) (fun E h' hq => by first | exact hq.elim | cases hq.2 | cases hq.1)
            obtain ⟨f', hu, hlf', hoa', hQ⟩ := hq
            have hS := hS.cpost0 [0,0,0,0,0,0,1,1] 0 rfl rfl rfl hQ
            cases hu
            refine rv_pop hX dX2_settle_138 rfl ?_
            refine rv_iinc hX dX2_settle_139 rfl (xdn_dec) (rv_st_3 rfl) ?_
            refine rv_goto hX 108 dX2_settle_142 (by decide) ?_
            refine ih (mc + nI 1) f' _ (by omega) (fun qs' e => ?_)
            have e9 : qs' = qs.eraseIdx k := by
              rw [e, hqe, hdk, List.filter_cons_of_neg (p := fun p : Nat × (Nat × Nat × Nat × Nat) => xal3 An p.2) (a := p) ha, List.eraseIdx_append_of_length_le (by omega), htl, Nat.sub_self]
              rfl
            have e8 : qs'.map (fun p => p.1) = (qs.map (fun p => p.1)).eraseIdx k := by
              rw [e9]; exact xers _ _ _
            have e7 : qs'.length = qs.length - 1 := by rw [e9, List.length_eraseIdx_of_lt hklen]
            refine ⟨by rw [e7]; exact Nat.le_trans (Nat.sub_le _ _) q1, by rw [e8]; exact hlf', fun i v => ?_, ?_⟩
            · rw [e7]
              rw [List.length_map] at hoa'
              exact hoa' i v
            · rw [List.length_map, e7, ← List.length_map (f := fun p : Nat × (Nat × Nat × Nat × Nat) => p.1) (as := qs)]
              exact hS
      have hxl : xLs X.1 (rv_rd X.1 h1) fi (ps.map (fun p => p.1)) := ⟨mc, ed, cap, f, hS.mc (k := 6) rfl, hS.mc (k := 7) rfl, ⟨hle, hS.oa (k := 7) rfl⟩, by omega, hlf⟩
      have hsub : nI ps.length - nI 1 = xdn ps.length := by
        rw [← xdn_dec]
        show nI ps.length - 1 = nI ps.length + (-1)
        rw [Int32.sub_eq_add_neg]
      refine rv_aload_n hX dX2_settle_98 rfl ?_
      refine rv_getfR hX gX2_41_X2 (hS.mc (k := 0) rfl) rfl dX2_settle_99 ?_
      refine rv_invVR hX iX2_65 mdJ2_size (hS.mc (k := 6) rfl) ⟨TJ2, 3, rv_c17⟩ (j_size hG (d := d - 1) hxl.L) (by omega) rfl rfl (Nat.le_of_ble_eq_true rfl) dX2_settle_102 (fun v h' hq => ?_) (fun E h' hq => by first | exact hq.elim | cases hq.2 | cases hq.1)
      obtain ⟨rfl, hq⟩ := hq
      cases hq
      rw [List.length_map]
      refine nv_iconst hX (m := 1) (by decide) dX2_settle_105 ?_
      refine rv_isub hX dX2_settle_106 ?_
      rw [hsub]
      refine rv_istore_n hX dX2_settle_107 (rv_st_3 rfl) ?_
      refine loop ps.length mc f _ (Nat.le_refl _) (fun qs e => ?_)
      have e : qs = ps := by
        rw [e, List.take_length, List.drop_length]
        exact List.append_nil _
      subst e
      rw [List.length_map] at hle hoa
      exact ⟨hle, hlf, hoa, hS⟩
    · have hpn : ps = [] := List.map_eq_nil_iff.mp hnil
      subst hpn
      have hS : xS X.1 F h [nx, fi] [(nx, cW rel ta fo tg2 (nI (sp_gnew Fs A g s.F)) ru de rn dn fi sk now), (sta, cI 8 sf), (fo, cO 2 [.ref fn, .ref fr, .int (nI s.1.1.length)]), (fn, cI 60 s.1.2.1), (fr, cI 60 s.1.2.2), (tg2, cI 60 f2), (fi, lO mc ed 0)] n1 m1 h1 := hS
      have hxl : xLs X.1 (rv_rd X.1 h1) fi [] := ⟨mc, ed, 0, _, hS.mc (k := 6) rfl, Or.inr ho, ⟨Nat.le_refl _, rv_emptyOA hG hz⟩, by decide, fun i e q => by simp at q⟩
      refine rv_aload_n hX dX2_settle_98 rfl ?_
      refine rv_getfR hX gX2_41_X2 (hS.mc (k := 0) rfl) rfl dX2_settle_99 ?_
      refine rv_invVR hX iX2_65 mdJ2_size (hS.mc (k := 6) rfl) ⟨TJ2, 3, rv_c17⟩ (j_size hG (d := d - 1) hxl.L) (by omega) rfl rfl (Nat.le_of_ble_eq_true rfl) dX2_settle_102 (fun v h' hq => ?_) (fun E h' hq => by first | exact hq.elim | cases hq.2 | cases hq.1)
      obtain ⟨rfl, hq⟩ := hq
      cases hq
      refine nv_iconst hX (m := 1) (by decide) dX2_settle_105 ?_
      refine rv_isub hX dX2_settle_106 ?_
      refine rv_istore_n hX dX2_settle_107 (rv_st_3 rfl) ?_
      refine rv_iload_n hX dX2_settle_108 rfl ?_
      refine rv_if_lt hX 145 dX2_settle_109 (by decide) (fun c_109 => ?_) (fun q => absurd (show nI 0 - nI 1 < 0 by decide) q)
      refine rv_return hX hE ?_ dX2_settle_145
      refine ⟨fo, fn, fr, tg2, s, f2, _, rfl, hset, fun k t e => (hf2 k t (by rw [← hAn]; exact e)).1, ⟨mc, ed, Or.inr ⟨rfl, rfl, ho, hz⟩⟩, (hS.drop (W := [_, _, _, _, _, _]) ?_).bud hn1 hm1⟩
      exact (List.Sublist.refl _).cons _ |>.cons₂ _
  -- tags
  have tags : ∀ (sta fo fn fr tg2 z k gk : Nat) (s : xIn) (pre : List Nat) (sf f2 : Nat → Int32) (x4 : Option Value) (h1 : rv_H), s.F.length - k < z → k ≤ s.F.length → sp_set R (T.map (fun p => p.1)) = some s.F → pre.length = k → sp_gtags Fs A g s.F = pre ++ sp_gtags Fs A gk (s.F.drop k) → sp_gnew Fs A g s.F = sp_gnew Fs A gk (s.F.drop k) → gk ≤ g + k → (∀ i t, pre[i]? = some t → f2 i = nI t ∧ t < 2147483648) → xS X.1 F h [nx] [(nx, cW rel ta st0 tg (nI gk) ru de rn dn fi sk now), (sta, cI 8 sf), (fo, cO 2 [.ref fn, .ref fr, .int (nI s.1.1.length)]), (fn, cI 60 s.1.2.1), (fr, cI 60 s.1.2.2), (tg2, cI 60 f2)] (n - 1 - 130 - 1) (m - 8 - 3000 - 60) h1 → rv_V X h1 16 [some (.ref nx), some (.ref fo), some (.ref tg2), some (.int (nI k)), x4] [] := by
    intro sta fo fn fr tg2 z
    induction z with
    | zero => intro k gk s pre sf f2 x4 h1 g1; omega
    | succ z ih =>
      intro k gk s pre sf f2 x4 h1 g1 g2 hset hpre hgt hgn hgk hf2 hS
      have hs60 := s.srt
      have hsl : s.1.1.length = s.F.length := rfl
      by_cases hk : k = s.F.length
      · rw [hk, List.drop_length] at hgt hgn
        have hgt' : sp_gtags Fs A g s.F = pre := hgt.trans (List.append_nil _)
        have hgn' : sp_gnew Fs A g s.F = gk := hgn
        refine rv_iload_n hX dX2_settle_16 rfl ?_
        refine rv_aload_n hX dX2_settle_17 rfl ?_
        refine rv_getfR hX gX2_135_X3 (hS.mc (k := 2) rfl) rfl dX2_settle_18 ?_
        rw [hsl]
        refine nv_icmp_ge hX 88 (by omega) (by omega) dX2_settle_21 (by decide) (fun c_21 => ?_) (fun q => absurd q (by omega))
        refine rv_aload_n hX dX2_settle_88 rfl ?_
        refine rv_aload_n hX dX2_settle_89 rfl ?_
        refine xv_putf hX hS (k := 0) rfl pX2_26_X2 (fun q => by cases q) rfl rfl rfl dX2_settle_90 (fun h_90 hS => ?_)
        refine rv_aload_n hX dX2_settle_93 rfl ?_
        refine rv_aload_n hX dX2_settle_94 rfl ?_
        refine xv_putf hX hS (k := 0) rfl pX2_30_X2 (fun q => by cases q) rfl rfl rfl dX2_settle_95 (fun h_95 hS => ?_)
        refine fired sta fo fn fr tg2 s sf f2 _ _ _ (n - 1 - 130 - 1) (m - 8 - 3000 - 60) (by omega) (by omega) hset (by rw [hgt']; exact hf2) ?_
        rw [hgn']
        exact hS0.unf0 hS
      · obtain ⟨f, hf⟩ : ∃ f, s.F[k]? = some f := ⟨s.F[k], List.getElem?_eq_getElem (by omega)⟩
        obtain ⟨sr, hsr⟩ := s.ok
        have hnf : s.1.2.1 k = nI f := (hsr.2 k f hf).1
        have hf8 := hs60.2.2 f (List.mem_of_getElem? hf)
        obtain ⟨t1, t2⟩ := sp_tg_ix fs1 hAl (f := f)
        rw [sp_drop_get hf] at hgt hgn
        cases hx : sp_ix Fs f with
        | none =>
          have h0 := t1 hx
          have hgt2 : sp_gtags Fs A g s.F = (pre ++ [gk + 1]) ++ sp_gtags Fs A (gk + 1) (s.F.drop (k + 1)) := by
            rw [hgt, List.append_assoc]
            congr 1
            show (if sp_tg Fs A f = 0 then _ else _) = _
            rw [if_pos h0]
            rfl
          have hgn2 : sp_gnew Fs A g s.F = sp_gnew Fs A (gk + 1) (s.F.drop (k + 1)) := by
            rw [hgn]
            show (if sp_tg Fs A f = 0 then _ else _) = _
            rw [if_pos h0]
          refine rv_iload_n hX dX2_settle_16 rfl ?_
          refine rv_aload_n hX dX2_settle_17 rfl ?_
          refine rv_getfR hX gX2_135_X3 (hS.mc (k := 2) rfl) rfl dX2_settle_18 ?_
          rw [hsl]
          refine nv_icmp_ge hX 88 (by omega) (by omega) dX2_settle_21 (by decide) (fun q => absurd q (by omega)) (fun c_21 => ?_)
          refine rv_aload_n hX dX2_settle_24 rfl ?_
          refine rv_getfR hX gX2_26_X2 (hS.mc (k := 0) rfl) rfl dX2_settle_25 ?_
          refine rv_aload_n hX dX2_settle_28 rfl ?_
          refine rv_getfR hX gX2_148_X3 (hS.mc (k := 2) rfl) rfl dX2_settle_29 ?_
          refine rv_iload_n hX dX2_settle_32 rfl ?_
          refine xv_iald hX (hS.mc (k := 3) rfl) (by omega) (by omega) dX2_settle_33 ?_
          rw [hnf]
          refine rv_invVR hX iX2_159 mdX3_indexOf (hS.f f1) ⟨TX3, 3, rv_c2⟩ (x_indexOf hG (d := d - 1) (by omega) (hFs.mono (fun _ _ => hS.f)) (by omega)) (by omega) rfl rfl (Nat.le_of_ble_eq_true rfl) dX2_settle_34 (fun v h' hq => ?_) (fun E h' hq => by first | exact hq.elim | cases hq.2 | cases hq.1)
          obtain ⟨rfl, hq⟩ := hq
          cases hq
          rw [hx, show rv_oi none = -1 from rfl]
          refine rv_istore hX dX2_settle_37 (rv_st_4 rfl) ?_
          refine rv_aload_n hX dX2_settle_39 rfl ?_
          refine rv_dup hX dX2_settle_40 rfl ?_
          refine rv_getfR hX gX2_52_X2 (hS.mc (k := 0) rfl) rfl dX2_settle_41 ?_
          refine rv_iload hX dX2_settle_44 rfl ?_
          refine rv_iconst hX (v := -1) dX2_settle_46 (by decide) ?_
          refine rv_icmp_ne hX 54 dX2_settle_47 (by decide) (fun q => absurd rfl q) (fun c_47 => ?_)
          refine nv_iconst hX (m := 1) (by decide) dX2_settle_50 ?_
          refine rv_goto hX 55 dX2_settle_51 (by decide) ?_
          first | refine nv_iadd hX dX2_settle_55 ?_ | refine rv_iadd hX dX2_settle_55 ?_
          refine xv_putf hX hS (k := 0) rfl pX2_52_X2 (fun q => by cases q) rfl rfl rfl dX2_settle_56 (fun h_56 hS => ?_)
          refine rv_aload_n hX dX2_settle_59 rfl ?_
          refine rv_iload_n hX dX2_settle_60 rfl ?_
          refine rv_iload hX dX2_settle_61 rfl ?_
          refine rv_iconst hX (v := -1) dX2_settle_63 (by decide) ?_
          refine rv_icmp_ne hX 74 dX2_settle_64 (by decide) (fun q => absurd rfl q) (fun c_64 => ?_)
          refine rv_aload_n hX dX2_settle_67 rfl ?_
          refine rv_getfR hX gX2_52_X2 (hS.mc (k := 0) rfl) rfl dX2_settle_68 ?_
          refine rv_goto hX 81 dX2_settle_71 (by decide) ?_
          refine xv_iast hX hS (k := 5) rfl (by omega) (by omega) dX2_settle_81 (fun h_81 hS => ?_)
          first | refine nv_iinc hX (m := 1) dX2_settle_82 rfl (by decide) (rv_st_3 rfl) ?_ | refine rv_iinc hX dX2_settle_82 rfl rfl (rv_st_3 rfl) ?_
          refine rv_goto hX 16 dX2_settle_85 (by decide) ?_
          refine ih (k + 1) (gk + 1) s (pre ++ [gk + 1]) sf _ _ _ (by omega) (by omega) hset (by rw [List.length_append, hpre]; rfl) hgt2 hgn2 (by omega) (fun i t e => ?_) hS
          show (if i = k then nI (gk + 1) else f2 i) = nI t ∧ t < 2147483648
          by_cases hi : i = k
          · rw [if_pos hi]
            rw [hi, ← hpre, List.getElem?_append_right (Nat.le_refl _), Nat.sub_self] at e
            cases e
            exact ⟨rfl, by omega⟩
          · rw [if_neg hi]
            have hlt := (List.getElem?_eq_some_iff.mp e).1
            rw [List.length_append, hpre, List.length_singleton] at hlt
            rw [List.getElem?_append_left (by omega)] at e
            exact hf2 i t e
        | some j =>
          have hj := t2 j hx
          have hjA := List.mem_of_getElem? hj
          have hjl := (List.getElem?_eq_some_iff.mp hj).1
          have htj := hAt j _ hj
          have hne := (hA1 _ hjA).1
          have hle := (hA1 _ hjA).2
          have hgt2 : sp_gtags Fs A g s.F = (pre ++ [sp_tg Fs A f]) ++ sp_gtags Fs A gk (s.F.drop (k + 1)) := by
            rw [hgt, List.append_assoc]
            congr 1
            show (if sp_tg Fs A f = 0 then _ else _) = _
            rw [if_neg (by omega)]
            rfl
          have hgn2 : sp_gnew Fs A g s.F = sp_gnew Fs A gk (s.F.drop (k + 1)) := by
            rw [hgn]
            show (if sp_tg Fs A f = 0 then _ else _) = _
            rw [if_neg (by omega)]
          refine rv_iload_n hX dX2_settle_16 rfl ?_
          refine rv_aload_n hX dX2_settle_17 rfl ?_
          refine rv_getfR hX gX2_135_X3 (hS.mc (k := 2) rfl) rfl dX2_settle_18 ?_
          rw [hsl]
          refine nv_icmp_ge hX 88 (by omega) (by omega) dX2_settle_21 (by decide) (fun q => absurd q (by omega)) (fun c_21 => ?_)
          refine rv_aload_n hX dX2_settle_24 rfl ?_
          refine rv_getfR hX gX2_26_X2 (hS.mc (k := 0) rfl) rfl dX2_settle_25 ?_
          refine rv_aload_n hX dX2_settle_28 rfl ?_
          refine rv_getfR hX gX2_148_X3 (hS.mc (k := 2) rfl) rfl dX2_settle_29 ?_
          refine rv_iload_n hX dX2_settle_32 rfl ?_
          refine xv_iald hX (hS.mc (k := 3) rfl) (by omega) (by omega) dX2_settle_33 ?_
          rw [hnf]
          refine rv_invVR hX iX2_159 mdX3_indexOf (hS.f f1) ⟨TX3, 3, rv_c2⟩ (x_indexOf hG (d := d - 1) (by omega) (hFs.mono (fun _ _ => hS.f)) (by omega)) (by omega) rfl rfl (Nat.le_of_ble_eq_true rfl) dX2_settle_34 (fun v h' hq => ?_) (fun E h' hq => by first | exact hq.elim | cases hq.2 | cases hq.1)
          obtain ⟨rfl, hq⟩ := hq
          cases hq
          rw [hx, rv_oi_some]
          refine rv_istore hX dX2_settle_37 (rv_st_4 rfl) ?_
          refine rv_aload_n hX dX2_settle_39 rfl ?_
          refine rv_dup hX dX2_settle_40 rfl ?_
          refine rv_getfR hX gX2_52_X2 (hS.mc (k := 0) rfl) rfl dX2_settle_41 ?_
          refine rv_iload hX dX2_settle_44 rfl ?_
          refine rv_iconst hX (v := -1) dX2_settle_46 (by decide) ?_
          refine rv_icmp_ne hX 54 dX2_settle_47 (by decide) (fun c_47 => ?_) (fun q => absurd ((rv_oi_m1 (x := some j) (fun x e => by cases e; omega)).mp q) (fun e => by cases e))
          refine nv_iconst hX (m := 0) (by decide) dX2_settle_54 ?_
          first | refine nv_iadd hX dX2_settle_55 ?_ | refine rv_iadd hX dX2_settle_55 ?_
          refine xv_putf hX hS (k := 0) rfl pX2_52_X2 (fun q => by cases q) rfl rfl rfl dX2_settle_56 (fun h_56 hS => ?_)
          refine rv_aload_n hX dX2_settle_59 rfl ?_
          refine rv_iload_n hX dX2_settle_60 rfl ?_
          refine rv_iload hX dX2_settle_61 rfl ?_
          refine rv_iconst hX (v := -1) dX2_settle_63 (by decide) ?_
          refine rv_icmp_ne hX 74 dX2_settle_64 (by decide) (fun c_64 => ?_) (fun q => absurd ((rv_oi_m1 (x := some j) (fun x e => by cases e; omega)).mp q) (fun e => by cases e))
          refine rv_aload_n hX dX2_settle_74 rfl ?_
          refine rv_getfR hX gX2_30_X2 (hS.mc (k := 0) rfl) rfl dX2_settle_75 ?_
          refine rv_iload hX dX2_settle_78 rfl ?_
          refine xv_iald hX (hS.f hA) (by omega) (by omega) dX2_settle_80 ?_
          rw [htj]
          refine xv_iast hX hS (k := 5) rfl (by omega) (by omega) dX2_settle_81 (fun h_81 hS => ?_)
          first | refine nv_iinc hX (m := 1) dX2_settle_82 rfl (by decide) (rv_st_3 rfl) ?_ | refine rv_iinc hX dX2_settle_82 rfl rfl (rv_st_3 rfl) ?_
          refine rv_goto hX 16 dX2_settle_85 (by decide) ?_
          refine ih (k + 1) gk s (pre ++ [sp_tg Fs A f]) sf _ _ _ (by omega) (by omega) hset (by rw [List.length_append, hpre]; rfl) hgt2 hgn2 (by omega) (fun i t e => ?_) hS
          show (if i = k then nI (sp_tg Fs A f) else f2 i) = nI t ∧ t < 2147483648
          by_cases hi : i = k
          · rw [if_pos hi]
            rw [hi, ← hpre, List.getElem?_append_right (Nat.le_refl _), Nat.sub_self] at e
            cases e
            exact ⟨rfl, by omega⟩
          · rw [if_neg hi]
            have hlt := (List.getElem?_eq_some_iff.mp e).1
            rw [List.length_append, hpre, List.length_singleton] at hlt
            rw [List.getElem?_append_left (by omega)] at e
            exact hf2 i t e
  refine rv_aload_n hX dX2_settle_0 rfl ?_
  refine rv_aload_n hX dX2_settle_1 rfl ?_
  refine rv_invVR hX iX2_151 mdX2_strata (hS.mc (k := 0) rfl) ⟨TX2, 12, rv_c1⟩ (x_strata hG (d := d - 1) (by omega) hW1 (hR.mono hZ1 (fun _ _ q => q.mono hZ1)) hR10 hw hS3 hS8 (by omega) (by omega) (hS.cpre [2,2] 0 rfl rfl rfl)) (by omega) rfl rfl (Nat.le_of_ble_eq_true rfl) dX2_settle_2 (fun v h' hq => ?_) (fun E h' hq => by exact rv_out hX hE (fun x hx => by cases hx) ⟨Or.inr hq.1, sp_set_str hq.2.1, ((hS0.unf0 (hS.exc [2, 2] 0 rfl rfl rfl hq.2.2)).drop (List.nil_sublist _)).bud (by omega) (by omega)⟩)
  obtain ⟨sta, sf, st, hu, hst, hsf, hQ⟩ := hq
  have hS := hS.cpost [2,2] 0 rfl rfl rfl hQ
  cases hu
  have hS : xS X.1 F h [nx] [(nx, cW rel ta st0 tg (nI g) ru de rn dn fi sk now), (sta, cI 8 sf)] (n - 1) (m - 8) _ := hS
  have hp2 : ([(nx, W), (sta, cI 8 sf)] : xM).Perm ([(nx, W), (sta, cI 8 sf)] ++ []) := List.Perm.refl _
  have hZ2 := fun a c (q : xr X.1 F a c) => (hS.frz hp2).2.xr q
  have hW2 := hS.frzr hp2 (a := nx) (c := W) (List.Mem.head _)
  have hsta2 := hS.frzr hp2 (a := sta) (c := cI 8 sf) (List.Mem.tail _ (List.Mem.head _))
  refine rv_invVR hX iX2_155 mdX2_found (hS.mc (k := 0) rfl) ⟨TX2, 12, rv_c1⟩ (x_found hG hLK (d := d - 1) (by omega) hW2 (hR.mono hZ2 (fun _ _ q => q.mono hZ2)) (hT.mono hZ2 (fun _ _ q => q.mono hZ2)) hR10 hw hS3 hS8 hst hsf hsta2 hTl hT8 (by omega) (by omega) (hS.cpre [2,2,2] 0 rfl rfl rfl)) (by omega) rfl rfl (Nat.le_of_ble_eq_true rfl) dX2_settle_5 (fun v h' hq => ?_) (fun E h' hq => by exact rv_out hX hE (fun x hx => by cases hx) ⟨Or.inl hq.1, sp_set_none hst hq.2.1, ((hS0.unf0 (hS.exc [2, 2, 2] 0 rfl rfl rfl hq.2.2)).drop (List.nil_sublist _)).bud (by omega) (by omega)⟩)
  obtain ⟨fo, fn, fr, s, hu, hstl, hQ⟩ := hq
  have hS := hS.cpost [2,2,2] 0 rfl rfl rfl hQ
  cases hu
  refine rv_astore_n hX dX2_settle_8 (rv_st_1 rfl) ?_
  refine nv_bipush hX (m := 60) (by decide) dX2_settle_9 ?_
  refine xv_newI hX hS q548 (by omega) (by omega) (by omega) dX2_settle_11 (fun a_11 h_11 hS => ?_)
  refine rv_astore_n hX dX2_settle_13 (rv_st_2 rfl) ?_
  refine nv_iconst hX (m := 0) (by decide) dX2_settle_14 ?_
  refine rv_istore_n hX dX2_settle_15 (rv_st_3 rfl) ?_
  exact tags sta fo fn fr _ _ 0 g s [] sf _ _ _ (Nat.lt_succ_self _) (Nat.zero_le _) (sp_set_some hst hstl) rfl rfl rfl (Nat.le_refl _) (fun i t e => by simp at e) hS
