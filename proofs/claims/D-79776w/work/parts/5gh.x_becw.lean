/-! THE SYSTEM: the next world settled and published -/
set_option maxRecDepth 100000
theorem zip_map1 {α β : Type} : ∀ {l : List α} {r : List β}, l.length = r.length → (l.zip r).map (fun p => p.1) = l ∧ (l.zip r).map (fun p => p.2) = r := by
  intro l
  induction l with
  | nil =>
    intro r h
    cases r with
    | nil => exact ⟨rfl, rfl⟩
    | cons b r => cases h
  | cons a l ih =>
    intro r h
    cases r with
    | nil => cases h
    | cons b r =>
      obtain ⟨i1, i2⟩ := ih (r := r) (Nat.succ.inj h)
      exact ⟨congrArg (a :: ·) i1, congrArg (b :: ·) i2⟩
theorem xFr.settle {n ng ne nn : Nat} {w : wW} (hP : wfP n ng ne nn w) {ps : List (Nat × Nat × Nat × Nat)} (h : xFr w.A w.E ps) {F' : List Nat} (hF' : F'.Nodup) : xFr (sp_gtags w.F w.A w.g F') w.E (ps.filter (fun e => xal3 (sp_gtags w.F w.A w.g F') e)) := by
  refine ⟨(List.filter_sublist).trans h.1, fun e he ha => List.mem_filter.mpr ⟨h.2 e he ?_, ha⟩⟩
  obtain ⟨-, -, -, -, e9, f9, -, -, j9⟩ := hP
  obtain ⟨-, t2, -⟩ := sp_gtags_spec (g0 := w.g) (sp_srt_nd e9.1) f9.1 f9.2.1 f9.2.2.1 hF' (Nat.le_refl w.g)
  obtain ⟨-, j1, j2, j3, -⟩ := j9.2 e he
  have key : ∀ t, t ≤ w.g → (t = 0 ∨ t ∈ sp_gtags w.F w.A w.g F') → t = 0 ∨ t ∈ w.A := fun t ht q => q.elim Or.inl (fun q => by
    rcases (t2 t q).2.2 with q2 | ⟨f, i, -, -, q3⟩
    · omega
    · exact Or.inr (List.mem_of_getElem? q3))
  obtain ⟨k1, k2, k3⟩ := xal3_iff.mp ha
  exact xal3_iff.mpr ⟨key _ j1 k1, key _ j2 k2, key _ j3 k3⟩
theorem xet_le {e : Nat × Nat × Nat × Nat} {g k : Nat} (h : e.2.1 ≤ g ∧ e.2.2.1 ≤ g ∧ e.2.2.2 ≤ g) : xet e k ≤ g := by
  unfold xet
  match k with
  | 0 => exact h.1
  | 1 => exact h.2.1
  | 2 => exact h.2.2
  | k + 3 => exact Nat.zero_le _
theorem x_becomeW {G : rv_G} (hG : rv_GK G) (hLK : rv_LK G) {d xo nx n m pn pg pe pt : Nat} (hd : 68 ≤ d) {dv rv rw lv : Value} {lf : Int32} {wd bg rel ta st tg ru de fi sk : Nat} {w : wW} {r : Nat → Nat} {tf : Nat → Int32} {ps : List (Nat × Nat × Nat × Nat)} {es1 es2 es3 es4 es5 es6 : List Nat} {N1 N2 N3 N4 N5 N6 : xM} {F : xF} {h : rv_H} (hP : wfP pn pg pe pt w) (hpg : pg ≤ 1000000) (hTl : w.T.length ≤ 61) (hN : xAL G rel es1 N1 ∧ xAL G ta es2 N2 ∧ xAL G ru es3 N3 ∧ xAL G de es4 N4 ∧ xAL G fi es5 N5 ∧ xAL G sk es6 N6) (hE : xEs (xr G F) (xBx G) es1 w.S ∧ xEs (xr G F) (xTd G) es2 w.T ∧ xEs (xr G F) (xCl G false) es3 w.R ∧ xEs (xr G F) (xCl G true) es4 w.D ∧ xEs (xr G F) (xFi G) es5 ps ∧ xEs (xr G F) (xBx G) es6 w.K) (hst : xFc (xr G F) st w.F r) (htg : xr G F tg (cI 60 tf) ∧ ∀ k t, w.A[k]? = some t → tf k = nI t) (hfr : xFr w.A w.E ps) (hn : 150 ≤ n) (hm : 3200 ≤ m) (hH : xH G F ([[(xo, cO 0 [.ref wd, dv, .ref bg, rv, rw, lv, .int lf])], [(nx, cW rel ta st tg (nI w.g) ru de (nI w.nr) (nI w.nd) fi sk (nI w.now))], N1, N2, N3, N4, N6, N5].flatten) n m h) : rv_Call G d yX1_become wX1_become [.ref xo, .ref nx] h (xT (fun u h' => ∃ (w' : wW) (Zs : xM), w.stl = some w' ∧ u = some (.int (nI w'.F.length)) ∧ nx ∈ xad Zs ∧ (∀ F1, (∀ a c, xr G F a c → xr G F1 a c) → (∀ a c, (a, c) ∈ Zs → xr G F1 a c) → (∀ q, q ∈ Zs → rv_b G ≤ q.1) → xW G (xr G F1) nx w') ∧ xS G F h (xad ([[(xo, cO 0 [.ref wd, dv, .ref bg, rv, rw, lv, .int lf])], [(nx, cW rel ta st tg (nI w.g) ru de (nI w.nr) (nI w.nd) fi sk (nI w.now))], N1, N2, N3, N4, N6, N5].flatten)) ((xo, cO 0 [.ref nx, dv, .ref bg, rv, rw, lv, .int lf]) :: Zs) (n - 150) (m - 3200) h') (fun E h' => E = RJ18 ∧ w.stl = none ∧ xS G F h (xad ([[(xo, cO 0 [.ref wd, dv, .ref bg, rv, rw, lv, .int lf])], [(nx, cW rel ta st tg (nI w.g) ru de (nI w.nr) (nI w.nd) fi sk (nI w.now))], N1, N2, N3, N4, N6, N5].flatten)) [(xo, cO 0 [.ref wd, dv, .ref bg, rv, rw, lv, .int lf])] (n - 150) (m - 3200) h')) := by
  have hS := hH.start
  obtain ⟨n1, n2, n3, n4, n5, n6⟩ := hN
  obtain ⟨e1, e2, e3, e4, e5, e6⟩ := hE
  obtain ⟨hps1, hps2⟩ := zip_map1 (l := es5) (r := ps) e5.1
  have hp : ([[(xo, cO 0 [.ref wd, dv, .ref bg, rv, rw, lv, .int lf])], [(nx, cW rel ta st tg (nI w.g) ru de (nI w.nr) (nI w.nd) fi sk (nI w.now))], N1, N2, N3, N4, N6, N5].flatten : xM).Perm ((N1 ++ (N2 ++ (N3 ++ (N4 ++ N6)))) ++ (((xo, cO 0 [.ref wd, dv, .ref bg, rv, rw, lv, .int lf]) :: (nx, cW rel ta st tg (nI w.g) ru de (nI w.nr) (nI w.nd) fi sk (nI w.now)) :: N5) ++ [])) := by
    have e : ([[(xo, cO 0 [.ref wd, dv, .ref bg, rv, rw, lv, .int lf])], [(nx, cW rel ta st tg (nI w.g) ru de (nI w.nr) (nI w.nd) fi sk (nI w.now))], N1, N2, N3, N4, N6, N5].flatten : xM) = [(xo, cO 0 [.ref wd, dv, .ref bg, rv, rw, lv, .int lf]), (nx, cW rel ta st tg (nI w.g) ru de (nI w.nr) (nI w.nd) fi sk (nI w.now))] ++ ((N1 ++ (N2 ++ (N3 ++ (N4 ++ N6)))) ++ N5) := by simp
    rw [e, List.append_nil]
    exact List.perm_append_comm_assoc _ _ _
  have hZ := fun a c (q : xr G F a c) => (hS.frz hp).2.xr q
  have hb := fun q (hq : q ∈ N1 ++ (N2 ++ (N3 ++ (N4 ++ N6)))) => (hS.1.2.2.2.1.2 _ _ (hS.1.2.1 q (hp.mem_iff.mpr (List.mem_append_left _ hq))).1).1
  have hzz := fun a c (q : (a, c) ∈ N1 ++ (N2 ++ (N3 ++ (N4 ++ N6)))) => hS.frzr hp q
  have hru : xLs G (xr G (xfz F (N1 ++ (N2 ++ (N3 ++ (N4 ++ N6)))))) ru es3 := n3.frz hG (fun b c q => hzz b c (by simp [q])) (fun q hq => hb q (by simp [hq]))
  have hta : xLs G (xr G (xfz F (N1 ++ (N2 ++ (N3 ++ (N4 ++ N6)))))) ta es2 := n2.frz hG (fun b c q => hzz b c (by simp [q])) (fun q hq => hb q (by simp [hq]))
  obtain ⟨p1, p2, p3, p4, p5, p6, p7, p8, p9⟩ := id hP
  have hT8 : ∀ p, p ∈ w.T → p.1 < 8000000 := fun p hp => by
    have h1 := (p4.2 p hp).1
    have h2 := p1.1
    unfold sp_faultN at h1
    cases e : w.S[p.1 / 1000000]? with
    | none => rw [e] at h1; cases h1
    | some k =>
      have := (List.getElem?_eq_some_iff.mp e).1
      omega
  refine (x_become hG hLK (ps := es5.zip ps) (Fs := w.F) (A := w.A) (R := w.R) (T := w.T) (S := w.S) hd ⟨es3, hru, e3.mono (fun _ _ q => q.mono hZ)⟩ ⟨es2, hta, e2.mono (fun _ _ q => q.mono hZ)⟩ (hst.mono2 hZ) (hZ _ _ htg.1) p6.1 htg.2 p6.2.2.1 (by omega) (by rw [hps1]; exact n5) (fun p hp => ?_) p2.1 (fun C hC => (p2.2.1 C hC).1) p1.2 p1.1 hTl hT8 hn hm (hS.pre hp)).mono (fun o h' q => ?_)
  · obtain ⟨i, hi⟩ := List.getElem?_of_mem hp
    rw [List.getElem?_zip_eq_some] at hi
    have hps := e5.2 i _ _ hi.1 hi.2
    refine ⟨hps.mono hZ, fun k => ?_⟩
    have hin := h
    obtain ⟨-, j1, j2, j3, -⟩ := p9.2 p.2 (hfr.1.mem (List.mem_of_getElem? hi.2))
    have := xet_le (k := k) ⟨j1, j2, j3⟩
    omega
  · cases o with
    | inr E =>
      obtain ⟨q1, q2, q3⟩ := q
      refine ⟨q1, by unfold wW.stl; rw [show w.kT = w.T.map (fun p => p.1) from rfl, q2]; rfl, ?_⟩
      have := hS.post hp q3
      refine this.drop ?_
      exact List.sublist_append_of_sublist_right (List.Sublist.refl _)
    | inl u =>
      obtain ⟨st1, an, ar, tg1, sI, tf1, N5', q1, q2, q3, q4, q5⟩ := q
      have hset : w.stl = some (w.setF sI.F) := by unfold wW.stl; rw [show w.kT = w.T.map (fun p => p.1) from rfl, q2]; rfl
      obtain ⟨r9, hr9⟩ := sI.ok
      have hfl : ((es5.zip ps).filter (fun p => xal3 (sp_gtags w.F w.A w.g sI.F) p.2)).map (fun p => p.2) = ps.filter (fun e => xal3 (sp_gtags w.F w.A w.g sI.F) e) := by
        have h9 := List.filter_map (f := fun p : Nat × (Nat × Nat × Nat × Nat) => p.2) (p := fun e => xal3 (sp_gtags w.F w.A w.g sI.F) e) (l := es5.zip ps)
        rw [hps2] at h9
        exact h9.symm
      refine ⟨w.setF sI.F, (nx, cW rel ta st1 tg1 (nI (sp_gnew w.F w.A w.g sI.F)) ru de (nI w.nr) (nI w.nd) fi sk (nI w.now)) :: ((N1 ++ (N2 ++ (N3 ++ (N4 ++ N6)))) ++ (sI.M st1 an ar ++ ((tg1, cI 60 tf1) :: N5'))), hset, q1, List.Mem.head _, fun F1 hmn hZ1 hb1 => ?_, ?_⟩
      · refine xW.pub hG (w := w.setF sI.F) (st := st1) (tg := tg1) (Zs := _) (fun q hq => ?_) hZ1 hb1 (ps := ps.filter (fun e => xal3 (sp_gtags w.F w.A w.g sI.F) e)) ⟨n1, n2, n3, n4, q4, n6⟩ ⟨e1.mono (fun _ _ q => q), e2.mono (fun _ _ q => q.mono hmn), e3.mono (fun _ _ q => q.mono hmn), e4.mono (fun _ _ q => q.mono hmn), ⟨?_, fun i e x h1 h2 => ?_⟩, e6.mono (fun _ _ q => q)⟩ (r := r9) (xIn.Fd (a := st1) (an := an) (ar := ar) hr9 _ (fun b c q => hZ1 b c ?_)) ⟨hZ1 _ _ ?_, q3⟩ (hfr.settle hP (sp_srt_nd sI.srt.1))
        · have hq' : q ∈ ([(nx, cW rel ta st1 tg1 (nI (sp_gnew w.F w.A w.g sI.F)) ru de (nI w.nr) (nI w.nd) fi sk (nI w.now))] ++ (N1 ++ (N2 ++ (N3 ++ (N4 ++ (N6 ++ N5'))))) : xM) := by
            have e : ([(nx, cW rel ta st1 tg1 (nI (sp_gnew w.F w.A w.g sI.F)) ru de (nI w.nr) (nI w.nd) fi sk (nI w.now))] ++ (N1 ++ (N2 ++ (N3 ++ (N4 ++ (N6 ++ N5'))))) : xM) = [[(nx, cW rel ta st1 tg1 (nI (sp_gnew w.F w.A w.g sI.F)) ru de (nI w.nr) (nI w.nd) fi sk (nI w.now))], N1, N2, N3, N4, N6, N5'].flatten := by simp
            rw [e]
            exact hq
          simp only [List.mem_append, List.mem_cons, List.mem_singleton, List.not_mem_nil, or_false] at hq' ⊢
          rcases hq' with q | q | q | q | q | q | q
          · exact Or.inl q
          · exact Or.inr (Or.inl (Or.inl q))
          · exact Or.inr (Or.inl (Or.inr (Or.inl q)))
          · exact Or.inr (Or.inl (Or.inr (Or.inr (Or.inl q))))
          · exact Or.inr (Or.inl (Or.inr (Or.inr (Or.inr (Or.inl q)))))
          · exact Or.inr (Or.inl (Or.inr (Or.inr (Or.inr (Or.inr q)))))
          · exact Or.inr (Or.inr (Or.inr (Or.inr q)))
        · rw [List.length_map, ← hfl, List.length_map]
        · rw [← hfl] at h2
          rw [List.getElem?_map] at h1 h2
          cases e9 : ((es5.zip ps).filter (fun p => xal3 (sp_gtags w.F w.A w.g sI.F) p.2))[i]? with
          | none => rw [e9] at h1; cases h1
          | some p =>
            rw [e9] at h1 h2
            cases h1
            cases h2
            have hpm := (List.mem_filter.mp (List.mem_of_getElem? e9)).1
            obtain ⟨k, hk⟩ := List.getElem?_of_mem hpm
            rw [List.getElem?_zip_eq_some] at hk
            exact (e5.2 k _ _ hk.1 hk.2).mono hmn
        · exact List.mem_cons_of_mem _ (List.mem_append_right _ (List.mem_append_left _ q))
        · exact List.mem_cons_of_mem _ (List.mem_append_right _ (List.mem_append_right _ (List.Mem.head _)))
      · have := hS.post hp q5
        refine this.perm ?_
        rw [List.append_nil]
        show ((N1 ++ (N2 ++ (N3 ++ (N4 ++ N6)))) ++ ([(xo, cO 0 [.ref nx, dv, .ref bg, rv, rw, lv, .int lf]), (nx, cW rel ta st1 tg1 (nI (sp_gnew w.F w.A w.g sI.F)) ru de (nI w.nr) (nI w.nd) fi sk (nI w.now))] ++ (sI.M st1 an ar ++ ((tg1, cI 60 tf1) :: N5')))).Perm ([(xo, cO 0 [.ref nx, dv, .ref bg, rv, rw, lv, .int lf]), (nx, cW rel ta st1 tg1 (nI (sp_gnew w.F w.A w.g sI.F)) ru de (nI w.nr) (nI w.nd) fi sk (nI w.now))] ++ ((N1 ++ (N2 ++ (N3 ++ (N4 ++ N6)))) ++ (sI.M st1 an ar ++ ((tg1, cI 60 tf1) :: N5'))))
        exact List.perm_append_comm_assoc _ _ _
