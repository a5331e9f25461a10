/-! THE SYSTEM: a next world, made and published -/
set_option maxRecDepth 100000
theorem xAL.frz {G : rv_G} (hG : rv_GK G) {F1 : xF} {a : Nat} {es : List Nat} {N : xM} (hal : xAL G a es N) (h1 : ∀ b c, (b, c) ∈ N → xr G F1 b c) (hb : ∀ q, q ∈ N → rv_b G ≤ q.1) : xLs G (xr G F1) a es := by
  obtain ⟨mc, ed, ⟨cap, f, rfl, hc, hl, hf, -⟩ | ⟨rfl, rfl, ho, hz⟩⟩ := hal
  · exact ⟨mc, ed, cap, f, h1 _ _ (List.Mem.head _), h1 _ _ (List.Mem.tail _ (List.Mem.head _)), ⟨hl, Or.inl (hb _ (List.Mem.tail _ (List.Mem.head _)))⟩, by omega, hf⟩
  · exact ⟨mc, ed, 0, _, h1 _ _ (List.Mem.head _), Or.inr ho, ⟨Nat.le_refl _, rv_emptyOA hG hz⟩, by decide, fun i e q => by simp at q⟩
theorem xAL.rd {G : rv_G} (hG : rv_GK G) {F : xF} {a : Nat} {es : List Nat} {N M : xM} {n m : Nat} {h : rv_H} (hal : xAL G a es N) (hH : xH G F M n m h) (hN : ∀ q, q ∈ N → q ∈ M) : xLs G (rv_rd G h) a es := by
  have h1 : ∀ b c, (b, c) ∈ N → rv_rd G h b c := fun b c q => Or.inl ⟨(hH.2.1 _ (hN _ q)).2.1, (hH.2.1 _ (hN _ q)).1⟩
  have hb : ∀ q, q ∈ N → rv_b G ≤ q.1 := fun q hq => (hH.2.2.2.1.2 _ _ (hH.2.1 _ (hN _ hq)).1).1
  obtain ⟨mc, ed, ⟨cap, f, rfl, hc, hl, hf, -⟩ | ⟨rfl, rfl, ho, hz⟩⟩ := hal
  · exact ⟨mc, ed, cap, f, h1 _ _ (List.Mem.head _), h1 _ _ (List.Mem.tail _ (List.Mem.head _)), ⟨hl, Or.inl (hb _ (List.Mem.tail _ (List.Mem.head _)))⟩, by omega, hf⟩
  · exact ⟨mc, ed, 0, _, h1 _ _ (List.Mem.head _), Or.inr ho, ⟨Nat.le_refl _, rv_emptyOA hG hz⟩, by decide, fun i e q => by simp at q⟩
theorem xS.pick {G : rv_G} {F : xF} {h0 h : rv_H} {A : List Nat} {n m j : Nat} {Ls : List xM} {N : xM} (hS : xS G F h0 A Ls.flatten n m h) (hj : Ls[j]? = some N) : xH G F N n m h ∧ ∀ (N' : xM) (n' m' : Nat) (h' : rv_H), xS G F h (xad N) N' n' m' h' → xS G F h0 A (Ls.set j N').flatten n' m' h' := by
  obtain ⟨p1, p2⟩ := xpick hj
  have hS1 := hS.perm p1
  exact ⟨hS1.foc.1, fun N' n' m' h' hQ => (hS1.unf0 hQ).perm (p2 N').symm⟩
theorem xflat_mem {Ls : List xM} {j : Nat} {N : xM} (hj : Ls[j]? = some N) : ∀ q, q ∈ N → q ∈ Ls.flatten := fun q hq => List.mem_flatten.mpr ⟨N, List.mem_of_getElem? hj, hq⟩
/-- the state, ready for another world -/
theorem xSt.world {G : rv_G} {F : xF} {xo : Nat} {s : wS} {M : xM} (hSt : xSt G F xo s M) : ∃ (wd bg : Nat) (dv rv rw lv : Value) (lf : Int32) (Nb Nd : xM), M = (xo, cO 0 [.ref wd, dv, .ref bg, rv, rw, lv, .int lf]) :: (Nb ++ Nd) ∧ xW G (xr G F) wd s.w ∧ xDr s.w.S s.d dv Nd ∧ ∀ (F0 : xF), (∀ a c, xr G F a c → xr G F0 a c) → ∀ (nx : Nat) (w' : wW) (Zs : xM) (n m : Nat) (h0 h : rv_H) (A : List Nat), xS G F0 h0 A (((xo, cO 0 [.ref nx, dv, .ref bg, rv, rw, lv, .int lf]) :: Zs) ++ (Nb ++ Nd)) n m h → nx ∈ xad Zs → (∀ F1, (∀ a c, xr G F0 a c → xr G F1 a c) → (∀ a c, (a, c) ∈ Zs → xr G F1 a c) → (∀ q, q ∈ Zs → rv_b G ≤ q.1) → xW G (xr G F1) nx w') → xDr w'.S s.d dv Nd → ∃ F1, xle F0 F1 h0 A ∧ xSt G F1 xo (s.setw w') ((xo, cO 0 [.ref nx, dv, .ref bg, rv, rw, lv, .int lf]) :: (Nb ++ Nd)) ∧ xS G F1 h0 A ((xo, cO 0 [.ref nx, dv, .ref bg, rv, rw, lv, .int lf]) :: (Nb ++ Nd)) n m h := by
  obtain ⟨wd, bg, dv, rv, rw, lv, lf, Nb, Nd, ws, Wg, h1, ⟨h2, h3⟩, ⟨h4, h5, h6⟩, h7, h8⟩ := hSt
  refine ⟨wd, bg, dv, rv, rw, lv, lf, Nb, Nd, h1, h2 wd _ h3, h7, fun F0 hm0 nx w' Zs n m h0 h A hS hnx hWn hD => ?_⟩
  have hp : (((xo, cO 0 [.ref nx, dv, .ref bg, rv, rw, lv, .int lf]) :: Zs) ++ (Nb ++ Nd)).Perm (Zs ++ ((xo, cO 0 [.ref nx, dv, .ref bg, rv, rw, lv, .int lf]) :: (Nb ++ Nd))) := List.perm_middle.symm
  obtain ⟨z1, z2⟩ := hS.frz hp
  have hm1 : ∀ a c, xr G F0 a c → xr G (xfz F0 Zs) a c := fun a c q => z2.xr q
  have hm : ∀ a c, xr G F a c → xr G (xfz F0 Zs) a c := fun a c q => hm1 a c (hm0 a c q)
  have hZ : ∀ a c, (a, c) ∈ Zs → xr G (xfz F0 Zs) a c := fun a c q => hS.frzr hp q
  have hb : ∀ q, q ∈ Zs → rv_b G ≤ q.1 := fun q hq => (hS.1.2.2.2.1.2 _ _ (hS.1.2.1 q (List.mem_append_left _ (List.mem_cons_of_mem _ hq))).1).1
  have hne : ∀ a w, Wg a = some w → a ≠ nx := fun a w e q => by
    obtain ⟨rel, ta, st, tg, ru, de, fi, sk, tf, r, ps, w1, -⟩ := h2 a w e
    refine xown_ne hS.1 (hm0 _ _ w1) ?_
    rw [q]
    show nx ∈ xad (((xo, _) :: Zs) ++ (Nb ++ Nd))
    rw [xad_app]
    exact List.mem_append_left _ (List.mem_cons_of_mem _ hnx)
  have hkeep : ∀ a w, Wg a = some w → (if a = nx then some w' else Wg a) = some w := fun a w e => by
    rw [if_neg (hne a w e)]
    exact e
  refine ⟨xfz F0 Zs, z2, ⟨nx, bg, dv, rv, rw, lv, lf, Nb, Nd, ws, fun a => if a = nx then some w' else Wg a, rfl, ⟨fun a w e => ?_, if_pos rfl⟩, ⟨h4, h5, fun i a w q1 q2 => hkeep a w (h6 i a w q1 q2)⟩, hD, ?_⟩, z1⟩
  · have e' : (if a = nx then some w' else Wg a) = some w := e
    split at e'
    · rename_i q
      cases e'
      rw [q]
      exact hWn _ hm1 hZ hb
    · exact (h2 a w e').mono hm
  · rcases h8 with q | ⟨w0, w, q1, q2, rs, q3, q4, q5⟩
    · exact Or.inl q
    · refine Or.inr ⟨w0, w, q1, hkeep w0 w q2, rs, q3, ?_, ?_⟩
      · obtain ⟨st, tg, dr, dp, xo9, ch, r, tf, df, pf, r1, r2, r3, r4, r5, r6, r7, r8⟩ := q4
        exact ⟨st, tg, dr, dp, xo9, ch, r, tf, df, pf, hm _ _ r1, r2.mono2 hm, hm _ _ r3, hm _ _ r4, hm _ _ r5, r6, r7, fun k C e => ⟨(r8 k C e).1, fun g => by
          obtain ⟨ma, mf, v1, v2, v3⟩ := (r8 k C e).2 g
          exact ⟨ma, mf, v1, hm _ _ v2, v3⟩⟩⟩
      · rcases q5 with q5 | ⟨a, f, q6, q7, q8, fa, ff, rl, v1, v2, v3⟩
        · exact Or.inl q5
        · exact Or.inr ⟨a, f, q6, q7, q8, fa, ff, rl, hm _ _ v1, hm _ _ v2, v3⟩
/-- what a copy is made of: its lists' elements -/
theorem xW.parts {G : rv_G} {F : xF} {wd N : Nat} {w : wW} (hW : xW G (xr G F) wd w) (hw : wfW N w) (hN : N ≤ 24) : ∃ (rel ta st tg ru de fi sk : Nat) (tf : Nat → Int32) (r : Nat → Nat) (ps : List (Nat × Nat × Nat × Nat)) (es1 es2 es3 es4 es5 es6 : List Nat), xr G F wd (cW rel ta st tg (nI w.g) ru de (nI w.nr) (nI w.nd) fi sk (nI w.now)) ∧ (xLs G (xr G F) rel es1 ∧ xLs G (xr G F) ta es2 ∧ xLs G (xr G F) ru es3 ∧ xLs G (xr G F) de es4 ∧ xLs G (xr G F) fi es5 ∧ xLs G (xr G F) sk es6) ∧ (xEs (xr G F) (xBx G) es1 w.S ∧ xEs (xr G F) (xTd G) es2 w.T ∧ xEs (xr G F) (xCl G false) es3 w.R ∧ xEs (xr G F) (xCl G true) es4 w.D ∧ xEs (xr G F) (xFi G) es5 ps ∧ xEs (xr G F) (xBx G) es6 w.K) ∧ ((es1.length ≤ 8 ∧ ∀ e, e ∈ es1 → xElm G F e) ∧ (es2.length ≤ 60 ∧ ∀ e, e ∈ es2 → xElm G F e) ∧ (es3.length ≤ 10 ∧ ∀ e, e ∈ es3 → xElm G F e) ∧ (es4.length ≤ 6 ∧ ∀ e, e ∈ es4 → xElm G F e) ∧ (es5.length ≤ 300 ∧ ∀ e, e ∈ es5 → xElm G F e) ∧ (es6.length ≤ 8 ∧ ∀ e, e ∈ es6 → xElm G F e)) ∧ xFc (xr G F) st w.F r ∧ (xr G F tg (cI 60 tf) ∧ ∀ k t, w.A[k]? = some t → tf k = nI t) ∧ xFr w.A w.E ps := by
  obtain ⟨rel, ta, st, tg, ru, de, fi, sk, tf, r, ps, w1, ⟨es1, a1, b1⟩, ⟨es2, a2, b2⟩, w4, w5, ⟨es3, a3, b3⟩, ⟨es4, a4, b4⟩, ⟨es5, a5, b5⟩, w9, ⟨es6, a6, b6⟩⟩ := hW
  have hE := hw.E.1
  have hps := w9.1.length_le
  exact ⟨rel, ta, st, tg, ru, de, fi, sk, tf, r, ps, es1, es2, es3, es4, es5, es6, w1, ⟨a1, a2, a3, a4, a5, a6⟩, ⟨b1, b2, b3, b4, b5, b6⟩, ⟨⟨by rw [b1.1]; exact hw.S.1, xEs.elm b1 (fun e x q => .bx q)⟩, ⟨by rw [b2.1]; exact hw.b6.1, xEs.elm b2 (fun e x q => .td q)⟩, ⟨by rw [b3.1]; exact hw.R.1, xEs.elm b3 (fun e x q => .cl q)⟩, ⟨by rw [b4.1]; exact hw.D.1, xEs.elm b4 (fun e x q => .cl q)⟩, ⟨by rw [b5.1]; omega, xEs.elm b5 (fun e x q => .fi q)⟩, ⟨by rw [b6.1]; exact hw.K.2.1, xEs.elm b6 (fun e x q => .bx q)⟩⟩, w4, w5, w9⟩
theorem xEs.snoc {α : Type} {rd : Nat → rv_C → Prop} {P : (Nat → rv_C → Prop) → Nat → α → Prop} {es : List Nat} {xs : List α} {e : Nat} {x : α} (h : xEs rd P es xs) (hx : P rd e x) : xEs rd P (es ++ [e]) (xs ++ [x]) := by
  refine ⟨by rw [List.length_append, List.length_append, h.1]; rfl, fun i e' x' h1 h2 => ?_⟩
  by_cases hi : i < xs.length
  · rw [List.getElem?_append_left (by rw [h.1]; exact hi)] at h1
    rw [List.getElem?_append_left hi] at h2
    exact h.2 i e' x' h1 h2
  · have hl := (List.getElem?_eq_some_iff.mp h2).1
    rw [List.length_append, List.length_singleton] at hl
    have e : i = xs.length := by omega
    subst e
    rw [List.getElem?_append_right (Nat.le_refl _), Nat.sub_self] at h2
    rw [List.getElem?_append_right (by rw [h.1]; exact Nat.le_refl _), h.1, Nat.sub_self] at h1
    cases h1
    cases h2
    exact hx
