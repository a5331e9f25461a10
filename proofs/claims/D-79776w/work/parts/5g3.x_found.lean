/-! THE SYSTEM: what stands, found by rounds -/
set_option maxRecDepth 100000
theorem xS.wk {G : rv_G} {F F1 : xF} {h0 h : rv_H} {A B : List Nat} {M : xM} {n m : Nat} (hS : xS G F1 h0 A M n m h) {h9 : rv_H} (hle : xle F F1 h9 B) : xS G F h0 A M n m h := by
  obtain ⟨⟨q1, q2, q3⟩, hf, hc⟩ := hS
  refine ⟨⟨fun a c e => q1 a c (hle.1 a c e), fun q hq => ?_, q3⟩, hf, hc⟩
  obtain ⟨r1, r2, r3⟩ := q2 q hq
  refine ⟨r1, r2, ?_⟩
  cases e : F q.1 with
  | none => rfl
  | some c =>
    rw [hle.1 _ _ e] at r3
    cases r3
theorem xpick {N : xM} : ∀ {Ns : List xM} {j : Nat}, Ns[j]? = some N → Ns.flatten.Perm (N ++ (Ns.eraseIdx j).flatten) ∧ ∀ N' : xM, (Ns.set j N').flatten.Perm (N' ++ (Ns.eraseIdx j).flatten) := by
  intro Ns
  induction Ns with
  | nil => intro j h; simp at h
  | cons A Ns ih =>
    intro j h
    cases j with
    | zero =>
      cases h
      exact ⟨List.Perm.refl _, fun N' => List.Perm.refl _⟩
    | succ j =>
      obtain ⟨i1, i2⟩ := ih (j := j) h
      refine ⟨?_, fun N' => ?_⟩
      · show (A ++ Ns.flatten).Perm (N ++ (A ++ (Ns.eraseIdx j).flatten))
        exact (i1.append_left A).trans (List.perm_append_comm_assoc _ _ _)
      · show (A ++ (Ns.set j N').flatten).Perm (N' ++ (A ++ (Ns.eraseIdx j).flatten))
        exact ((i2 N').append_left A).trans (List.perm_append_comm_assoc _ _ _)
theorem xDs.set {G : rv_G} {rd : Nat → rv_C → Prop} {ms fo j : Nat} {R : List sp_C} {es : List Nat} {Ns : List xM} {C : sp_C} {D ca : Nat} {N' : xM} (h : xDs G rd ms fo R es Ns) (hC : R[j]? = some C) (hD : es[j]? = some D) (h1 : xCl G false rd ca C) (h2 : xDv G rd ca ms fo C D N') : xDs G rd ms fo R es (Ns.set j N') := by
  refine ⟨h.1, by rw [List.length_set]; exact h.2.1, fun i C' D' N2 q1 q2 q3 => ?_⟩
  by_cases e : j = i
  · subst e
    have hj : j < Ns.length := by
      rw [h.2.1]
      exact (List.getElem?_eq_some_iff.mp q1).1
    rw [List.getElem?_set_self hj] at q3
    rw [hC] at q1
    rw [hD] at q2
    cases q1
    cases q2
    cases q3
    exact ⟨ca, h1, h2⟩
  · rw [List.getElem?_set_ne e] at q3
    exact h.2.2 i C' D' N2 q1 q2 q3
theorem xDv.cell {G : rv_G} {rd : Nat → rv_C → Prop} {ca ms st : Nat} {C : sp_C} {D : Nat} {N : xM} (h : xDv G rd ca ms st C D N) : ∃ fs, rd D (cO 6 fs) := by
  rcases h with ⟨-, L, V, Mo, fr, bo, h1, -⟩ | ⟨-, L, V, gs, gn, gr, Go, Ha, Mo, fr, Mo2, fr2, bo, h1, -⟩
  · exact ⟨_, h1.1⟩
  · exact ⟨_, h1.1⟩
/-- found, more and the derivers' cells, before and after deriver j ran -/
theorem xfd {G : rv_G} {F : xF} {h0 h : rv_H} {A : List Nat} {n m : Nat} {fo fn fr ms mn mr j : Nat} {s t : xIn} {Ns : List xM} {N : xM} (hS : xS G F h0 A (s.M fo fn fr ++ t.M ms mn mr ++ Ns.flatten) n m h) (hN : Ns[j]? = some N) : (∀ a c, (a, c) ∈ s.M fo fn fr → xr G (xfz F (s.M fo fn fr)) a c) ∧ (∀ a c, xr G F a c → xr G (xfz F (s.M fo fn fr)) a c) ∧ xH G (xfz F (s.M fo fn fr)) (N ++ t.M ms mn mr) n m h ∧ (∀ (N' : xM) (t' : xIn) (n' m' : Nat) (h' : rv_H), xS G (xfz F (s.M fo fn fr)) h (xad N ++ [ms, mn, mr]) (N' ++ t'.M ms mn mr) n' m' h' → xS G F h0 A (s.M fo fn fr ++ t'.M ms mn mr ++ (Ns.set j N').flatten) n' m' h') ∧ ∀ (n' m' : Nat) (h' : rv_H), xS G (xfz F (s.M fo fn fr)) h (xad N ++ [ms, mn, mr]) [] n' m' h' → xS G F h0 A [] n' m' h' := by
  obtain ⟨p1, p2⟩ := xpick hN
  have hp : (s.M fo fn fr ++ t.M ms mn mr ++ Ns.flatten).Perm (s.M fo fn fr ++ ((N ++ t.M ms mn mr) ++ (Ns.eraseIdx j).flatten)) := by
    rw [List.append_assoc, List.append_assoc]
    exact List.Perm.append_left _ ((p1.append_left _).trans (List.perm_append_comm_assoc _ _ _))
  have hA : xad (N ++ t.M ms mn mr) = xad N ++ [ms, mn, mr] := by rw [xad_app]; rfl
  refine ⟨fun a c q => hS.frzr hp q, fun a c q => (hS.frz hp).2.xr q, hS.pre hp, fun N' t' n' m' h' q => ?_, fun n' m' h' q => ?_⟩
  · have := hS.post hp (P' := N' ++ t'.M ms mn mr) (by rw [hA]; exact q)
    refine this.perm ?_
    rw [List.append_assoc, List.append_assoc]
    exact List.Perm.append_left _ ((List.perm_append_comm_assoc _ _ _).trans ((p2 N').symm.append_left _))
  · have := hS.post hp (P' := []) (by rw [hA]; exact q)
    exact this.drop (List.nil_sublist _)
theorem xIn.Fd {s : xIn} {r : Nat → Nat} {a an ar : Nat} (hr : s.rd r) (rd : Nat → rv_C → Prop) (hm : ∀ b c, (b, c) ∈ s.M a an ar → rd b c) : xFc rd a s.F r := ⟨an, ar, s.1.2.1, s.1.2.2, hm _ _ (List.Mem.head _), hm _ _ (List.Mem.tail _ (List.Mem.head _)), hm _ _ (List.Mem.tail _ (List.Mem.tail _ (List.Mem.head _))), hr⟩
theorem x_found {G : rv_G} (hG : rv_GK G) (hLK : rv_LK G) {d wd sta n m : Nat} (hd : 64 ≤ d) {rel ta st0 tg ru de fi sk : Nat} {tgd rn dn now : Int32} {S : List Nat} {R : List sp_C} {T : List (Nat × Nat)} {st : Nat → Nat} {sf : Nat → Int32} {F : xF} {h : rv_H} (hW : xr G F wd (cW rel ta st0 tg tgd ru de rn dn fi sk now)) (hR : xLp G (xr G F) (xCl G false) ru R) (hT : xLp G (xr G F) (xTd G) ta T) (hR10 : R.length ≤ 10) (hw : ∀ C, C ∈ R → sp_wfC S C) (hS3 : ∀ n, n ∈ S → 1 ≤ n ∧ n ≤ 3) (hS8 : S.length ≤ 8) (hst : sp_strata R = some st) (hsf : ∀ i, i < 8 → sf i = nI (st i)) (hsta : xr G F sta (cI 8 sf)) (hTl : T.length ≤ 61) (hT8 : ∀ p, p ∈ T → p.1 < 8000000) (hn : 130 ≤ n) (hm : 3000 ≤ m) (hH : xH G F [] n m h) : rv_Call G d yX2_found wX2_found [.ref wd, .ref sta] h (xT (fun u h' => ∃ (a an ar : Nat) (s : xIn), u = some (.ref a) ∧ sp_stl R st (T.map (fun p => p.1)) s.F ∧ xS G F h [] (s.M a an ar) (n - 130) (m - 3000) h') (fun E h' => E = RX6 ∧ (¬ ∃ G', sp_stl R st (T.map (fun p => p.1)) G') ∧ xS G F h [] [] (n - 130) (m - 3000) h')) := by
  refine rv_start hG (by decide +kernel) (L := [some (.ref wd), some (.ref sta), none, none, none, none, none, none, none, none]) rfl (Nat.le_of_ble_eq_true rfl) (fun X hX1 hX hE => ?_)
  subst hX1
  have hS := hH.start
  have hfit := sp_strata_fit hst
  have hst8 := sp_strata_8 hst
  have main : ∀ (fo fn fr ms mn mr la : Nat) (F1 : xF) (es F0 : List Nat), (sp_srt F0 ∧ F0.length ≤ 60 ∧ ∀ x, x ∈ F0 ↔ x ∈ T.map (fun p => p.1)) → xle F F1 h [] → xLs X.1 (xr X.1 F1) la es → ∀ (z k rd : Nat) (s t : xIn) (r : Nat → Nat) (Ns : List xM) (L7 L8 L9 : Option Value) (h1 : rv_H), 8 - k < z → k ≤ 8 → s.rd r → (∀ x, x ∈ s.F → r x ≤ rd) → rd ≤ k + s.F.length → sp_chain R st k F0 s.F → xDs X.1 (xr X.1 F1) ms fo R es Ns → xS X.1 F1 h [] (s.M fo fn fr ++ t.M ms mn mr ++ Ns.flatten) (n - 130 + 1) (m - 3000 + 6) h1 → rv_V X h1 27 [some (.ref wd), some (.ref sta), some (.ref fo), some (.ref ms), some (.ref la), some (.int (nI rd)), some (.int (nI k)), L7, L8, L9] [] := by
    intro fo fn fr ms mn mr la F1 es F0 hF0 hle hL z
    have hmn := fun a c (q : xr X.1 F a c) => hle.xr q
    have hW := hmn _ _ hW
    have hsta := hmn _ _ hsta
    obtain ⟨rs, hRl, hrs, hxs⟩ := id (hR.mono hmn (fun _ _ q => q.mono hmn))
    obtain ⟨um, ued, ucap, uf, u1, u2⟩ := id hRl
    obtain ⟨lm, led, lcap, lf, l1, l2⟩ := id hL
    induction z with
    | zero => intro k rd s t r Ns L7 L8 L9 h1 g1; omega
    | succ z ih =>
      intro k rd s t r Ns L7 L8 L9 h1 g1 g2 hr hrb hrd hch hDs hS0
      have hs60 := s.srt
      by_cases hk8 : k = 8
      · subst hk8
        refine rv_iload hX dX2_found_27 rfl ?_
        refine nv_bipush hX (m := 8) (by decide) dX2_found_29 ?_
        refine nv_icmp_ge hX 157 (by omega) (by omega) dX2_found_31 (by decide) (fun c_31 => ?_) (fun q => absurd q (by omega))
        refine rv_aload_n hX dX2_found_157 rfl ?_
        refine rv_areturn hX hE (Or.inl ⟨_, rfl⟩) (Or.inr ⟨_, rfl⟩) ?_ dX2_found_158
        refine ⟨fo, fn, fr, s, rfl, ⟨F0, hF0.1, hF0.2.1, hF0.2.2, hch⟩, ?_⟩
        refine (((hS0.drop (W := s.M fo fn fr) ?_).wk hle)).bud (by omega) (by omega)
        rw [List.append_assoc]
        exact List.sublist_append_left _ _
      · have inner : ∀ (y rd : Nat) (s' t : xIn) (r : Nat → Nat) (first new : Bool) (Ns : List xM) (L9 : Option Value) (h1 : rv_H), 2 * (60 - s'.F.length) + (if new = true then 1 else 0) < y → s'.rd r → xsn R st k s.F s'.F r rd first new → rd ≤ k + s'.F.length + (if new = true then 0 else 1) → xDs X.1 (xr X.1 F1) ms fo R es Ns → xS X.1 F1 h [] (s'.M fo fn fr ++ t.M ms mn mr ++ Ns.flatten) (n - 130 + 1) (m - 3000 + 6) h1 → rv_V X h1 40 [some (.ref wd), some (.ref sta), some (.ref fo), some (.ref ms), some (.ref la), some (.int (nI rd)), some (.int (nI k)), some (.int (rv_z first)), some (.int (rv_z new)), L9] [] := by
          intro y
          induction y with
          | zero => intro rd s' t r first new Ns L9 h1 g1; omega
          | succ y ihy =>
            intro rd s' t r first new Ns L9 h1 y1 hr hxn hrd hDs hS0
            have hs60 := s'.srt
            cases new with
            | false =>
              refine rv_iload hX dX2_found_40 rfl ?_
              refine rv_if_eq hX 151 dX2_found_42 (by decide) (fun c_42 => ?_) (fun q => absurd rfl q)
              first | refine nv_iinc hX (m := 1) dX2_found_151 rfl (by decide) (rv_st_6 rfl) ?_ | refine rv_iinc hX dX2_found_151 rfl rfl (rv_st_6 rfl) ?_
              refine rv_goto hX 27 dX2_found_154 (by decide) ?_
              refine ih (k + 1) rd s' t r Ns _ _ _ _ (by omega) (by omega) hr hxn.2.1 ?_ ⟨s.F, hch, xsn.done hS3 hw hfit hxn hs60.2.1⟩ hDs hS0
              rw [if_neg (by decide)] at hrd
              omega
            | true =>
              rw [if_pos rfl] at y1 hrd
              let GV : sp_C → List Nat := fun C => if first = true then sp_give s'.F C else xnew s'.F r rd C
              have hGV : ∀ C, C ∈ R → st C.rel = k → ∀ x, x ∈ GV C → x ∈ sp_give s'.F C := fun C hC hs x hx => by
                have hx' : x ∈ (if first = true then sp_give s'.F C else xnew s'.F r rd C) := hx
                split at hx'
                · exact hx'
                · exact xnew_sub hx'
              have hclos : ∀ (W : List Nat), (∀ x, x ∈ W → ∃ C, C ∈ R ∧ st C.rel = k ∧ x ∈ GV C) → ∀ G', sp_up1 st k s.F G' → sp_cls R st k G' → ∀ f, f ∈ W → f ∈ G' := fun W hW G' hG' hcl f hf => by
                obtain ⟨C, hC, hs, hx⟩ := hW f hf
                exact hxn.1.give hS3 hC (hw C hC) (hfit C hC) hs G' hG' hcl f (hGV C hC hs f hx)
              have hno : ∀ (W V : List Nat), (∀ x, x ∈ W → ∃ C, C ∈ R ∧ st C.rel = k ∧ x ∈ GV C) → (∀ x, x ∈ V → ∃ C, C ∈ R ∧ st C.rel = k ∧ x ∈ GV C) → sp_crowd W V → ¬ ∃ G', sp_stl R st (T.map (fun p => p.1)) G' := fun W V hW hV hc => sp_no hF0 hch (by omega) (hclos W hW) (hclos V hV) hc
              have hrb : ∀ x, x ∈ s'.F → r x < 1000000 := fun x hx => by
                have := hxn.2.1 x hx
                omega
              have forL : ∀ (w j : Nat) (t : xIn) (Ns : List xM) (h1 : rv_H), R.length - j < w → j ≤ R.length → (∀ x, x ∈ t.F ↔ ∃ i C, i < j ∧ R[i]? = some C ∧ st C.rel = k ∧ x ∈ GV C) → xDs X.1 (xr X.1 F1) ms fo R es Ns → xS X.1 F1 h [] (s'.M fo fn fr ++ t.M ms mn mr ++ Ns.flatten) (n - 130 + 1) (m - 3000 + 6) h1 → rv_V X h1 53 [some (.ref wd), some (.ref sta), some (.ref fo), some (.ref ms), some (.ref la), some (.int (nI rd)), some (.int (nI k)), some (.int (rv_z first)), some (.int (rv_z true)), some (.int (nI j))] [] := by
                intro w
                induction w with
                | zero => intro j t Ns h1 g1; omega
                | succ w ihw =>
                  intro j t Ns h1 w1 w2 ht hDs hS0
                  have htR : ∀ x, x ∈ t.F → ∃ C, C ∈ R ∧ st C.rel = k ∧ x ∈ GV C := fun x hx => by
                    obtain ⟨i, C, -, q1, q2, q3⟩ := (ht x).mp hx
                    exact ⟨C, List.mem_of_getElem? q1, q2, q3⟩
                  have hS : xS X.1 F1 h1 [fo, fn, fr, ms, mn, mr] [(fo, cO 2 [.ref fn, .ref fr, .int (nI s'.1.1.length)]), (fn, cI 60 s'.1.2.1), (fr, cI 60 s'.1.2.2), (ms, cO 2 [.ref mn, .ref mr, .int (nI t.1.1.length)]), (mn, cI 60 t.1.2.1), (mr, cI 60 t.1.2.2)] (n - 130 + 1) (m - 3000 + 6) h1 := hS0.foc
                  by_cases hj : j = R.length
                  · obtain ⟨tr, htr⟩ := t.ok
                    have hp := xP_perm (d := 0) (by decide) (cs := [1, 1, 1, 2, 2, 2]) (M := [(fo, cO 2 [.ref fn, .ref fr, .int (nI s'.1.1.length)]), (fn, cI 60 s'.1.2.1), (fr, cI 60 s'.1.2.2), (ms, cO 2 [.ref mn, .ref mr, .int (nI t.1.1.length)]), (mn, cI 60 t.1.2.1), (mr, cI 60 t.1.2.2)]) (by decide)
                    refine rv_iload hX dX2_found_53 rfl ?_
                    refine rv_aload hX dX2_found_55 rfl ?_
                    refine rv_invVR hX iX2_65 mdJ2_size (hS.f l1) ⟨TJ2, 3, rv_c17⟩ (j_size hG (d := d - 1) (hL.mono (fun _ _ => hS.f)).L) (by omega) rfl rfl (Nat.le_of_ble_eq_true rfl) dX2_found_57 (fun v h' hq => ?_) (fun E h' hq => by first | exact hq.elim | cases hq.2 | cases hq.1)
                    obtain ⟨rfl, hq⟩ := hq
                    cases hq
                    rw [hDs.1]
                    refine nv_icmp_ge hX 133 (by omega) (by omega) dX2_found_60 (by decide) (fun c_60 => ?_) (fun q => absurd q (by omega))
                    first | refine nv_iinc hX (m := 1) dX2_found_133 rfl (by decide) (rv_st_5 rfl) ?_ | refine rv_iinc hX dX2_found_133 rfl rfl (rv_st_5 rfl) ?_
                    refine rv_aload_n hX dX2_found_136 rfl ?_
                    refine rv_aload_n hX dX2_found_137 rfl ?_
                    refine rv_iload hX dX2_found_138 rfl ?_
                    refine rv_invS hX iX2_144 mdX2_merge (x_merge hG (mn := mn) (mr := mr) (s := s') (W := t.F) (rd := rd + 1) (d := d - 1) (by omega) (hS.frzr hp (a := ms) (by simp [xP, xPa]; rfl)) (hS.frzr hp (a := mn) (by simp [xP, xPa])) htr (hS.cpre [1,1,1,2,2,2] 0 rfl rfl rfl)) (by omega) rfl rfl (Nat.le_of_ble_eq_true rfl) dX2_found_140 (fun v h' hq => ?_) (fun E h' hq => by exact rv_out hX hE (fun x hx => by cases hx) ⟨hq.1, sp_no hF0 hch (by omega) hxn.1.2 (hclos t.F htR) hq.2.1, ((hS0.unf0 (hS.exc [1, 1, 1, 2, 2, 2] 0 rfl rfl rfl hq.2.2)).drop (List.nil_sublist _)).wk hle⟩)
                    obtain ⟨s2, hu, hadds, hQ⟩ := hq
                    have hS := hS.cpost [1,1,1,2,2,2] 0 rfl rfl rfl hQ
                    cases hu
                    refine rv_istore hX dX2_found_143 (rv_st_8 rfl) ?_
                    refine nv_iconst hX (m := 0) (by decide) dX2_found_145 ?_
                    refine rv_istore hX dX2_found_146 (rv_st_7 rfl) ?_
                    refine rv_goto hX 40 dX2_found_148 (by decide) ?_
                    obtain ⟨a1, a2⟩ := xIn.adds_some hadds
                    obtain ⟨r2, b1, b2⟩ := a2 r hr
                    have hstep := xsn.step hS3 hw hfit hxn (W := t.F) (cur' := s2.F) (r' := r2) (fun x => by
                      rw [ht x]
                      constructor
                      · rintro ⟨i, C, -, q1, q2, q3⟩
                        exact ⟨C, List.mem_of_getElem? q1, q2, q3⟩
                      · rintro ⟨C, q1, q2, q3⟩
                        obtain ⟨i, hi⟩ := List.getElem?_of_mem q1
                        exact ⟨i, C, by have := (List.getElem?_eq_some_iff.mp hi).1; omega, hi, q2, q3⟩) s2.srt.1 a1 b2
                    have hlen : s'.F.length ≤ s2.F.length := sp_nd_len (sp_srt_nd hs60.1) (fun x hx => (a1 x).mpr (Or.inl hx))
                    have h2 := s2.srt.2.1
                    refine ihy (rd + 1) s2 t r2 false _ Ns _ _ ?_ b1 hstep ?_ hDs (hS0.unf0 hS)
                    · by_cases hgr : s'.F.length < s2.F.length
                      · rw [decide_eq_true hgr, if_pos rfl]
                        omega
                      · rw [decide_eq_false hgr, if_neg (by decide)]
                        omega
                    · by_cases hgr : s'.F.length < s2.F.length
                      · rw [decide_eq_true hgr, if_pos rfl]
                        omega
                      · rw [decide_eq_false hgr, if_neg (by decide)]
                        omega
                  · obtain ⟨C, hC⟩ : ∃ C, R[j]? = some C := ⟨R[j], List.getElem?_eq_getElem (by omega)⟩
                    have hCR := List.mem_of_getElem? hC
                    have hwC := hw C hCR
                    obtain ⟨ca, hca, hCl⟩ := xLp.get hrs hxs hC
                    obtain ⟨D, hD⟩ : ∃ D, es[j]? = some D := ⟨es[j]'(by rw [hDs.1]; omega), List.getElem?_eq_getElem _⟩
                    obtain ⟨N, hN⟩ : ∃ N, Ns[j]? = some N := ⟨Ns[j]'(by rw [hDs.2.1]; omega), List.getElem?_eq_getElem _⟩
                    obtain ⟨ca2, hCl2, hDv⟩ := hDs.2.2 j C D N hC hD hN
                    obtain ⟨dfs, hDc⟩ := hDv.cell
                    obtain ⟨z1, z2, z3, z4, z5⟩ := xfd hS0 hN
                    have hK : xDK X.1 (xfz F1 (s'.M fo fn fr)) S s'.F r C ca2 fo := ⟨hCl2.mono z2, hwC, ⟨hS3, hS8⟩, xIn.Fd hr _ z1, hrb⟩
                    have hrel := hK.rel
                    obtain ⟨hd1, cb, cgk, cmd, csal, ctl, hc1, ⟨ctm, ctf, hc3, hc4⟩, hc5⟩ := id hCl
                    have hc3 : xr X.1 F1 hd1 (cO 10 [.int (nI 0), .int (nI C.rel), .ref ctm, .int (nI (C.hts.map xtm).length)]) := hc3
                    have hnext : st C.rel = k → ∀ t' : xIn, (∀ x, x ∈ t'.F ↔ x ∈ t.F ∨ x ∈ GV C) → ∀ x, x ∈ t'.F ↔ ∃ i C, i < j + 1 ∧ R[i]? = some C ∧ st C.rel = k ∧ x ∈ GV C := fun hsk t' ht' x => by
                      rw [ht' x, ht x]
                      constructor
                      · rintro (⟨i, C', q0, q1, q2, q3⟩ | q)
                        · exact ⟨i, C', by omega, q1, q2, q3⟩
                        · exact ⟨j, C, by omega, hC, hsk, q⟩
                      · rintro ⟨i, C', q0, q1, q2, q3⟩
                        by_cases hij : i = j
                        · subst hij
                          rw [hC] at q1
                          cases q1
                          exact Or.inr q3
                        · exact Or.inl ⟨i, C', by omega, q1, q2, q3⟩
                    have hskip : st C.rel ≠ k → ∀ x, x ∈ t.F ↔ ∃ i C, i < j + 1 ∧ R[i]? = some C ∧ st C.rel = k ∧ x ∈ GV C := fun hsk x => by
                      rw [ht x]
                      constructor
                      · rintro ⟨i, C', q0, q1, q2, q3⟩
                        exact ⟨i, C', by omega, q1, q2, q3⟩
                      · rintro ⟨i, C', q0, q1, q2, q3⟩
                        by_cases hij : i = j
                        · subst hij
                          rw [hC] at q1
                          cases q1
                          exact absurd q2 hsk
                        · exact ⟨i, C', by omega, q1, q2, q3⟩
                    have hcr : st C.rel = k → sp_crowd t.F (GV C) → ¬ ∃ G', sp_stl R st (T.map (fun p => p.1)) G' := fun hsk hc => hno t.F (GV C) htR (fun x hx => ⟨C, hCR, hsk, hx⟩) hc
                    have hsfC := hsf C.rel hrel
                    by_cases hsk : st C.rel = k
                    · cases first with
                      | true =>
                        refine rv_iload hX dX2_found_53 rfl ?_
                        refine rv_aload hX dX2_found_55 rfl ?_
                        refine rv_invVR hX iX2_65 mdJ2_size (hS.f l1) ⟨TJ2, 3, rv_c17⟩ (j_size hG (d := d - 1) (hL.mono (fun _ _ => hS.f)).L) (by omega) rfl rfl (Nat.le_of_ble_eq_true rfl) dX2_found_57 (fun v h' hq => ?_) (fun E h' hq => by first | exact hq.elim | cases hq.2 | cases hq.1)
                        obtain ⟨rfl, hq⟩ := hq
                        cases hq
                        rw [hDs.1]
                        refine nv_icmp_ge hX 133 (by omega) (by omega) dX2_found_60 (by decide) (fun q => absurd q (by omega)) (fun c_60 => ?_)
                        refine rv_aload_n hX dX2_found_63 rfl ?_
                        refine rv_aload_n hX dX2_found_64 rfl ?_
                        refine rv_getfR hX gX2_34_X2 (hS.f hW) rfl dX2_found_65 ?_
                        refine rv_iload hX dX2_found_68 rfl ?_
                        refine rv_invVR hX iX2_69 mdJ2_get (hS.f u1) ⟨TJ2, 3, rv_c17⟩ (j_get hG (d := d - 1) (by omega) (hRl.mono (fun _ _ => hS.f)).L hca) (by omega) rfl rfl (Nat.le_of_ble_eq_true rfl) dX2_found_70 (fun v h' hq => ?_) (fun E h' hq => by first | exact hq.elim | cases hq.2 | cases hq.1)
                        obtain ⟨rfl, hq⟩ := hq
                        cases hq
                        refine rv_castOR hX (hS.f hc1) rv_c9 q1236 dX2_found_73 ?_
                        refine rv_getfR hX gX2_108_X10 (hS.f hc1) rfl dX2_found_76 ?_
                        refine rv_getfR hX gX2_105_X11 (hS.f hc3) rfl dX2_found_79 ?_
                        refine xv_iald hX (hS.f hsta) (by omega) (by omega) dX2_found_82 ?_
                        rw [hsfC]
                        refine rv_iload hX dX2_found_83 rfl ?_
                        refine nv_icmp_eq hX 91 (by omega) (by omega) dX2_found_85 (by decide) (fun c_85 => ?_) (fun q => absurd hsk q)
                        refine rv_iload hX dX2_found_91 rfl ?_
                        refine rv_if_eq hX 112 dX2_found_93 (by decide) (fun q => absurd q (by decide)) (fun c_93 => ?_)
                        refine rv_aload hX dX2_found_96 rfl ?_
                        refine rv_iload hX dX2_found_98 rfl ?_
                        refine rv_invVR hX iX2_69 mdJ2_get (hS.f l1) ⟨TJ2, 3, rv_c17⟩ (j_get hG (d := d - 1) (by omega) (hL.mono (fun _ _ => hS.f)).L hD) (by omega) rfl rfl (Nat.le_of_ble_eq_true rfl) dX2_found_100 (fun v h' hq => ?_) (fun E h' hq => by first | exact hq.elim | cases hq.2 | cases hq.1)
                        obtain ⟨rfl, hq⟩ := hq
                        cases hq
                        refine rv_castOR hX (hS.f hDc) rv_c6 q1285 dX2_found_103 ?_
                        refine rv_invVR hX iX2_138 mdX7_deriveAll (hS.f hDc) ⟨TX7, 7, rv_c6⟩ (x_deriveAll hG hLK hK (d := d - 1) (by omega) z2 hDv z3) (by omega) rfl rfl (Nat.le_of_ble_eq_true rfl) dX2_found_106 (fun v h' hq => ?_) (fun E h' hq => by exact rv_out hX hE (fun x hx => by cases hx) ⟨hq.1, hcr hsk hq.2.1, (z5 _ _ _ hq.2.2).wk hle⟩)
                        obtain ⟨N', t', hu, ht', ⟨hDv', -⟩, hQ⟩ := hq
                        cases hu
                        refine rv_goto hX 127 dX2_found_109 (by decide) ?_
                        first | refine nv_iinc hX (m := 1) dX2_found_127 rfl (by decide) (rv_st_9 rfl) ?_ | refine rv_iinc hX dX2_found_127 rfl rfl (rv_st_9 rfl) ?_
                        refine rv_goto hX 53 dX2_found_130 (by decide) ?_
                        exact ihw (j + 1) t' (Ns.set j N') _ (by omega) (by omega) (hnext hsk t' ht') (hDs.set hC hD hCl2 hDv') (z4 _ _ _ _ _ hQ)
                      | false =>
                        refine rv_iload hX dX2_found_53 rfl ?_
                        refine rv_aload hX dX2_found_55 rfl ?_
                        refine rv_invVR hX iX2_65 mdJ2_size (hS.f l1) ⟨TJ2, 3, rv_c17⟩ (j_size hG (d := d - 1) (hL.mono (fun _ _ => hS.f)).L) (by omega) rfl rfl (Nat.le_of_ble_eq_true rfl) dX2_found_57 (fun v h' hq => ?_) (fun E h' hq => by first | exact hq.elim | cases hq.2 | cases hq.1)
                        obtain ⟨rfl, hq⟩ := hq
                        cases hq
                        rw [hDs.1]
                        refine nv_icmp_ge hX 133 (by omega) (by omega) dX2_found_60 (by decide) (fun q => absurd q (by omega)) (fun c_60 => ?_)
                        refine rv_aload_n hX dX2_found_63 rfl ?_
                        refine rv_aload_n hX dX2_found_64 rfl ?_
                        refine rv_getfR hX gX2_34_X2 (hS.f hW) rfl dX2_found_65 ?_
                        refine rv_iload hX dX2_found_68 rfl ?_
                        refine rv_invVR hX iX2_69 mdJ2_get (hS.f u1) ⟨TJ2, 3, rv_c17⟩ (j_get hG (d := d - 1) (by omega) (hRl.mono (fun _ _ => hS.f)).L hca) (by omega) rfl rfl (Nat.le_of_ble_eq_true rfl) dX2_found_70 (fun v h' hq => ?_) (fun E h' hq => by first | exact hq.elim | cases hq.2 | cases hq.1)
                        obtain ⟨rfl, hq⟩ := hq
                        cases hq
                        refine rv_castOR hX (hS.f hc1) rv_c9 q1236 dX2_found_73 ?_
                        refine rv_getfR hX gX2_108_X10 (hS.f hc1) rfl dX2_found_76 ?_
                        refine rv_getfR hX gX2_105_X11 (hS.f hc3) rfl dX2_found_79 ?_
                        refine xv_iald hX (hS.f hsta) (by omega) (by omega) dX2_found_82 ?_
                        rw [hsfC]
                        refine rv_iload hX dX2_found_83 rfl ?_
                        refine nv_icmp_eq hX 91 (by omega) (by omega) dX2_found_85 (by decide) (fun c_85 => ?_) (fun q => absurd hsk q)
                        refine rv_iload hX dX2_found_91 rfl ?_
                        refine rv_if_eq hX 112 dX2_found_93 (by decide) (fun c_93 => ?_) (fun q => absurd rfl q)
                        refine rv_aload hX dX2_found_112 rfl ?_
                        refine rv_iload hX dX2_found_114 rfl ?_
                        refine rv_invVR hX iX2_69 mdJ2_get (hS.f l1) ⟨TJ2, 3, rv_c17⟩ (j_get hG (d := d - 1) (by omega) (hL.mono (fun _ _ => hS.f)).L hD) (by omega) rfl rfl (Nat.le_of_ble_eq_true rfl) dX2_found_116 (fun v h' hq => ?_) (fun E h' hq => by first | exact hq.elim | cases hq.2 | cases hq.1)
                        obtain ⟨rfl, hq⟩ := hq
                        cases hq
                        refine rv_castOR hX (hS.f hDc) rv_c6 q1285 dX2_found_119 ?_
                        refine rv_iload hX dX2_found_122 rfl ?_
                        refine rv_invVR hX iX2_141 mdX7_deriveNew (hS.f hDc) ⟨TX7, 7, rv_c6⟩ (x_deriveNew hG hLK hK (d := d - 1) (by omega) (by omega) z2 hDv z3) (by omega) rfl rfl (Nat.le_of_ble_eq_true rfl) dX2_found_124 (fun v h' hq => ?_) (fun E h' hq => by exact rv_out hX hE (fun x hx => by cases hx) ⟨hq.1, hcr hsk hq.2.1, (z5 _ _ _ hq.2.2).wk hle⟩)
                        obtain ⟨N', t', hu, ht', ⟨hDv', -⟩, hQ⟩ := hq
                        cases hu
                        first | refine nv_iinc hX (m := 1) dX2_found_127 rfl (by decide) (rv_st_9 rfl) ?_ | refine rv_iinc hX dX2_found_127 rfl rfl (rv_st_9 rfl) ?_
                        refine rv_goto hX 53 dX2_found_130 (by decide) ?_
                        exact ihw (j + 1) t' (Ns.set j N') _ (by omega) (by omega) (hnext hsk t' ht') (hDs.set hC hD hCl2 hDv') (z4 _ _ _ _ _ hQ)
                    · have hst8C := hst8 C.rel
                      refine rv_iload hX dX2_found_53 rfl ?_
                      refine rv_aload hX dX2_found_55 rfl ?_
                      refine rv_invVR hX iX2_65 mdJ2_size (hS.f l1) ⟨TJ2, 3, rv_c17⟩ (j_size hG (d := d - 1) (hL.mono (fun _ _ => hS.f)).L) (by omega) rfl rfl (Nat.le_of_ble_eq_true rfl) dX2_found_57 (fun v h' hq => ?_) (fun E h' hq => by first | exact hq.elim | cases hq.2 | cases hq.1)
                      obtain ⟨rfl, hq⟩ := hq
                      cases hq
                      rw [hDs.1]
                      refine nv_icmp_ge hX 133 (by omega) (by omega) dX2_found_60 (by decide) (fun q => absurd q (by omega)) (fun c_60 => ?_)
                      refine rv_aload_n hX dX2_found_63 rfl ?_
                      refine rv_aload_n hX dX2_found_64 rfl ?_
                      refine rv_getfR hX gX2_34_X2 (hS.f hW) rfl dX2_found_65 ?_
                      refine rv_iload hX dX2_found_68 rfl ?_
                      refine rv_invVR hX iX2_69 mdJ2_get (hS.f u1) ⟨TJ2, 3, rv_c17⟩ (j_get hG (d := d - 1) (by omega) (hRl.mono (fun _ _ => hS.f)).L hca) (by omega) rfl rfl (Nat.le_of_ble_eq_true rfl) dX2_found_70 (fun v h' hq => ?_) (fun E h' hq => by first | exact hq.elim | cases hq.2 | cases hq.1)
                      obtain ⟨rfl, hq⟩ := hq
                      cases hq
                      refine rv_castOR hX (hS.f hc1) rv_c9 q1236 dX2_found_73 ?_
                      refine rv_getfR hX gX2_108_X10 (hS.f hc1) rfl dX2_found_76 ?_
                      refine rv_getfR hX gX2_105_X11 (hS.f hc3) rfl dX2_found_79 ?_
                      refine xv_iald hX (hS.f hsta) (by omega) (by omega) dX2_found_82 ?_
                      rw [hsfC]
                      refine rv_iload hX dX2_found_83 rfl ?_
                      refine nv_icmp_eq hX 91 (by omega) (by omega) dX2_found_85 (by decide) (fun q => absurd q hsk) (fun c_85 => ?_)
                      refine rv_goto hX 127 dX2_found_88 (by decide) ?_
                      first | refine nv_iinc hX (m := 1) dX2_found_127 rfl (by decide) (rv_st_9 rfl) ?_ | refine rv_iinc hX dX2_found_127 rfl rfl (rv_st_9 rfl) ?_
                      refine rv_goto hX 53 dX2_found_130 (by decide) ?_
                      exact ihw (j + 1) t Ns _ (by omega) (by omega) (hskip hsk) hDs hS0
              have hS : xS X.1 F1 h1 [fo, fn, fr, ms, mn, mr] [(fo, cO 2 [.ref fn, .ref fr, .int (nI s'.1.1.length)]), (fn, cI 60 s'.1.2.1), (fr, cI 60 s'.1.2.2), (ms, cO 2 [.ref mn, .ref mr, .int (nI t.1.1.length)]), (mn, cI 60 t.1.2.1), (mr, cI 60 t.1.2.2)] (n - 130 + 1) (m - 3000 + 6) h1 := hS0.foc
              refine rv_iload hX dX2_found_40 rfl ?_
              refine rv_if_eq hX 151 dX2_found_42 (by decide) (fun q => absurd q (by decide)) (fun c_42 => ?_)
              refine rv_aload_n hX dX2_found_45 rfl ?_
              refine nv_iconst hX (m := 0) (by decide) dX2_found_46 ?_
              refine xv_putf hX hS (k := 3) rfl pX2_135_X3 (fun q => by cases q) rfl rfl rfl dX2_found_47 (fun h_47 hS => ?_)
              refine nv_iconst hX (m := 0) (by decide) dX2_found_50 ?_
              refine rv_istore hX dX2_found_51 (rv_st_9 rfl) ?_
              refine forL _ 0 (xIn.nil t.1.2.1 t.1.2.2) Ns _ (Nat.lt_succ_self _) (Nat.zero_le _) (fun x => ⟨fun q => (by cases q), fun ⟨i, C, q, _⟩ => absurd q (Nat.not_lt_zero i)⟩) hDs (hS0.unf0 hS)
        refine rv_iload hX dX2_found_27 rfl ?_
        refine nv_bipush hX (m := 8) (by decide) dX2_found_29 ?_
        refine nv_icmp_ge hX 157 (by omega) (by omega) dX2_found_31 (by decide) (fun q => absurd q (by omega)) (fun c_31 => ?_)
        refine nv_iconst hX (m := 1) (by decide) dX2_found_34 ?_
        refine rv_istore hX dX2_found_35 (rv_st_7 rfl) ?_
        refine nv_iconst hX (m := 1) (by decide) dX2_found_37 ?_
        refine rv_istore hX dX2_found_38 (rv_st_8 rfl) ?_
        refine inner _ rd s t r true true Ns _ _ (Nat.lt_succ_self _) hr (xsn.start hs60.1 hrb) ?_ hDs hS0
        rw [if_pos rfl]
        omega
  refine rv_aload_n hX dX2_found_0 rfl ?_
  refine rv_invVR hX iX2_127 mdX2_toldFacts (hS.f hW) ⟨TX2, 12, rv_c1⟩ (x_toldFacts hG (d := d - 1) (by omega) hW hT hTl hT8 (by omega) (by omega) (hS.cpre0 [] 0 rfl rfl rfl)) (by omega) rfl rfl (Nat.le_of_ble_eq_true rfl) dX2_found_1 (fun v h' hq => ?_) (fun E h' hq => by exact rv_out hX hE (fun x hx => by cases hx) ⟨hq.1, (fun ⟨G', F9, f1, f2, f3, f4⟩ => absurd (hq.2.1 F9 f1 (fun x hx => by cases hx) (fun x hx => (f3 x).mpr hx)) (by omega)), (hS.exc0 [] 0 rfl rfl rfl hq.2.2).bud (by omega) (by omega)⟩)
  obtain ⟨fo, fn, fr, s, hu, hsF, ⟨r, hr, hr0⟩, hQ⟩ := hq
  have hS := hS.cpost0 [] 0 rfl rfl rfl hQ
  cases hu
  refine rv_astore_n hX dX2_found_4 (rv_st_2 rfl) ?_
  refine xv_new hX hS nX2_23 (by omega) (show 3 ≤ _ by omega) dX2_found_5 (fun a_5 h_5 hS => ?_)
  have hS := hS.bud (Nat.le_refl _) (show _ - 3 ≤ _ from Nat.le_refl _)
  refine rv_dup hX dX2_found_8 rfl ?_
  refine rv_invI hX iX2_25 mdX3_init rfl (x_factsNew hG (d := d - 1) (by omega) (by omega) (by omega) (hS.cpre0 [0,0,0,1] 0 rfl rfl rfl)) (by omega) rfl rfl (Nat.le_of_ble_eq_true rfl) dX2_found_9 (fun v h' hq => ?_) (fun E h' hq => by first | exact hq.elim | cases hq.2 | cases hq.1)
  obtain ⟨mn, mr, hu, hQ⟩ := hq
  have hS := hS.cpost0 [0,0,0,1] 0 rfl rfl rfl hQ
  cases hu
  refine rv_astore_n hX dX2_found_12 (rv_st_3 rfl) ?_
  refine rv_aload_n hX dX2_found_13 rfl ?_
  refine rv_aload_n hX dX2_found_14 rfl ?_
  refine rv_aload_n hX dX2_found_15 rfl ?_
  refine rv_invVR hX iX2_131 mdX2_derivers (hS.f hW) ⟨TX2, 12, rv_c1⟩ (x_derivers hG hLK (d := d - 1) (by omega) hW hR hR10 hw hS3 (by omega) (by omega) (hS.cpre0 [0,0,0,0,0,0,0] 0 rfl rfl rfl)) (by omega) rfl rfl (Nat.le_of_ble_eq_true rfl) dX2_found_16 (fun v h' hq => ?_) (fun E h' hq => by first | exact hq.elim | cases hq.2 | cases hq.1)
  obtain ⟨F1, la, es, Ns, hu, hL, hLs, hDs, hQ⟩ := hq
  obtain ⟨hS, hle_16⟩ := hS.cpostE [0,0,0,0,0,0,0] 0 rfl rfl rfl hQ hL
  cases hu
  refine rv_astore hX dX2_found_19 (rv_st_4 rfl) ?_
  refine nv_iconst hX (m := 0) (by decide) dX2_found_21 ?_
  refine rv_istore hX dX2_found_22 (rv_st_5 rfl) ?_
  refine nv_iconst hX (m := 0) (by decide) dX2_found_24 ?_
  refine rv_istore hX dX2_found_25 (rv_st_6 rfl) ?_
  have hS : xS X.1 F1 h [] (s.M fo fn fr ++ (xIn.nil (fun _ => 0) (fun _ => 0)).M a_5 mn mr ++ Ns.flatten) _ _ _ := hS
  exact main fo fn fr _ mn mr la F1 es s.F ⟨s.srt.1, s.srt.2.1, hsF⟩ (hle_16 F .rf) hLs _ 0 0 s (xIn.nil (fun _ => 0) (fun _ => 0)) r Ns _ _ _ _ (Nat.lt_succ_self _) (Nat.zero_le _) hr (fun x hx => by rw [hr0 x hx]; exact Nat.le_refl _) (Nat.zero_le _) rfl hDs (hS.bud (by omega) (by omega))
