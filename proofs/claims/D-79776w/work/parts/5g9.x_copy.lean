/-! THE SYSTEM: a world's picture, a world made, a world copied -/
set_option maxRecDepth 100000
def xBx (G : rv_G) (_ : Nat → rv_C → Prop) (a n : Nat) : Prop := rv_bx G a n
/-- the elements of a list -/
def xEs {α : Type} (rd : Nat → rv_C → Prop) (P : (Nat → rv_C → Prop) → Nat → α → Prop) (es : List Nat) (xs : List α) : Prop := es.length = xs.length ∧ ∀ (i e : Nat) (x : α), es[i]? = some e → xs[i]? = some x → P rd e x
theorem xEs.mono {α : Type} {rd rd2 : Nat → rv_C → Prop} {P : (Nat → rv_C → Prop) → Nat → α → Prop} {es : List Nat} {xs : List α} (h : xEs rd P es xs) (hP : ∀ a x, P rd a x → P rd2 a x) : xEs rd2 P es xs := ⟨h.1, fun i e x h1 h2 => hP _ _ (h.2 i e x h1 h2)⟩
/-- what of the fired is kept -/
def xFr (A : List Nat) (E ps : List (Nat × Nat × Nat × Nat)) : Prop := ps.Sublist E ∧ ∀ e, e ∈ E → xal3 A e = true → e ∈ ps
def xW (G : rv_G) (rd : Nat → rv_C → Prop) (a : Nat) (w : wW) : Prop := ∃ (rel ta st tg ru de fi sk : Nat) (tf : Nat → Int32) (r : Nat → Nat) (ps : List (Nat × Nat × Nat × Nat)), rd a (cW rel ta st tg (nI w.g) ru de (nI w.nr) (nI w.nd) fi sk (nI w.now)) ∧ xLp G rd (xBx G) rel w.S ∧ xLp G rd (xTd G) ta w.T ∧ xFc rd st w.F r ∧ (rd tg (cI 60 tf) ∧ ∀ k t, w.A[k]? = some t → tf k = nI t) ∧ xLp G rd (xCl G false) ru w.R ∧ xLp G rd (xCl G true) de w.D ∧ xLp G rd (xFi G) fi ps ∧ xFr w.A w.E ps ∧ xLp G rd (xBx G) sk w.K
theorem xFc.mono2 {rd rd2 : Nat → rv_C → Prop} {a : Nat} {F : List Nat} {r : Nat → Nat} (h : xFc rd a F r) (hm : ∀ a c, rd a c → rd2 a c) : xFc rd2 a F r := by
  obtain ⟨an, ar, nf, rf, h1, h2, h3, h4⟩ := h
  exact ⟨an, ar, nf, rf, hm _ _ h1, hm _ _ h2, hm _ _ h3, h4⟩
theorem xW.mono {G : rv_G} {rd rd2 : Nat → rv_C → Prop} {a : Nat} {w : wW} (h : xW G rd a w) (hm : ∀ a c, rd a c → rd2 a c) : xW G rd2 a w := by
  obtain ⟨rel, ta, st, tg, ru, de, fi, sk, tf, r, ps, h1, h2, h3, h4, h5, h6, h7, h8, h9, h10⟩ := h
  exact ⟨rel, ta, st, tg, ru, de, fi, sk, tf, r, ps, hm _ _ h1, h2.mono hm (fun _ _ q => q), h3.mono hm (fun _ _ q => q.mono hm), h4.mono2 hm, ⟨hm _ _ h5.1, h5.2⟩, h6.mono hm (fun _ _ q => q.mono hm), h7.mono hm (fun _ _ q => q.mono hm), h8.mono hm (fun _ _ q => q.mono hm), h9, h10.mono hm (fun _ _ q => q)⟩
/-! frozen things that may lie in lists -/
def xElm (G : rv_G) (F : xF) (e : Nat) : Prop := (∃ (ci N : Nat) (fs : List Value) (C : String) (T : u_T), xr G F e (cO ci fs) ∧ rv_cl[ci]? = some (C, T, N) ∧ (Cond.castable C "java/lang/Object") ∈ lw_tbl) ∨ ∃ z f, xr G F e (cI z f) ∧ rv_b G ≤ e
theorem xElm.el {G : rv_G} {F : xF} {e : Nat} (h : xElm G F e) {M : xM} {n m : Nat} {hp : rv_H} (hH : xH G F M n m hp) : rv_el G hp e := by
  rcases h with ⟨ci, N, fs, C, T, h1, h2, h3⟩ | ⟨z, f, h1, h2⟩
  · exact xel_O hH h1 h2 h3
  · exact xel_I hH h1 h2
theorem xElm.ne {G : rv_G} {F : xF} {e : Nat} (h : xElm G F e) {M : xM} {n m : Nat} {hp : rv_H} (hH : xH G F M n m hp) : e ∉ xad M := by
  rcases h with ⟨ci, N, fs, C, T, h1, h2, h3⟩ | ⟨z, f, h1, h2⟩
  · exact xown_ne hH h1
  · exact xown_ne hH h1
theorem xElm.bx {G : rv_G} {F : xF} {e n : Nat} (h : rv_bx G e n) : xElm G F e := Or.inl ⟨20, _, _, _, _, Or.inr h, rv_c20, q2802⟩
theorem xElm.td {G : rv_G} {F : xF} {e : Nat} {p : Nat × Nat} (h : xTd G (xr G F) e p) : xElm G F e := by
  obtain ⟨f, h1, h2, -⟩ := h
  exact Or.inr ⟨2, f, h1, h2⟩
theorem xElm.fi {G : rv_G} {F : xF} {e : Nat} {p : Nat × Nat × Nat × Nat} (h : xFi G (xr G F) e p) : xElm G F e := by
  obtain ⟨z, f, h1, h2, -⟩ := h
  exact Or.inr ⟨_, f, h1, h2⟩
theorem xElm.cl {G : rv_G} {F : xF} {e : Nat} {b : Bool} {C : sp_C} (h : xCl G b (xr G F) e C) : xElm G F e := by
  obtain ⟨hd, bo, gk, md, sal, tl, h1, -⟩ := h
  exact Or.inl ⟨9, _, _, _, _, h1, rv_c9, q2812⟩
theorem xEs.elm {α : Type} {G : rv_G} {F : xF} {P : (Nat → rv_C → Prop) → Nat → α → Prop} {es : List Nat} {xs : List α} (h : xEs (xr G F) P es xs) (hP : ∀ e x, P (xr G F) e x → xElm G F e) : ∀ e, e ∈ es → xElm G F e := fun e he => by
  obtain ⟨i, hi⟩ := List.getElem?_of_mem he
  have hl := (List.getElem?_eq_some_iff.mp hi).1
  have hl2 : i < xs.length := by rw [← h.1]; exact hl
  exact hP e _ (h.2 i e xs[i] hi (List.getElem?_eq_getElem hl2))
theorem xlel_of {G : rv_G} {F : xF} {es : List Nat} (h : ∀ e, e ∈ es → xElm G F e) {M : xM} {n m : Nat} {hp : rv_H} (hH : xH G F M n m hp) : xlel G hp es := fun i e q => (h e (List.mem_of_getElem? q)).el hH
/-! a world made -/
theorem x_worldInit {G : rv_G} (hG : rv_GK G) {d a n m : Nat} (hd : 4 ≤ d) {F : xF} {h : rv_H} (hn : 15 ≤ n) (hm : 500 ≤ m) (hH : xH G F [(a, cO 1 [.null, .null, .null, .null, .int 0, .null, .null, .int 0, .int 0, .null, .null, .int 0])] n m h) : rv_Call G d yX2_init wX2_init [.ref a] h (xN (fun u h' => ∃ rel r2 ta t2 st sn sr tg ru u2 de d2 fi ed sk k2, u = none ∧ (rv_old G ed (cR 0 (fun _ => none)) ∧ va_Z "java/util/ArrayList" "DEFAULTCAPACITY_EMPTY_ELEMENTDATA" "[Ljava/lang/Object;" (.ref ed) (fun q => rv_b G ≤ q) G.2.1 G.2.1.heap) ∧ xS G F h [a] [(a, cW rel ta st tg 0 ru de 0 0 fi sk 0), (rel, lO (nI 0) r2 0), (r2, cR 8 (fun _ => none)), (ta, lO (nI 0) t2 0), (t2, cR 60 (fun _ => none)), (st, cO 2 [.ref sn, .ref sr, .int (nI 0)]), (sn, cI 60 (fun _ => 0)), (sr, cI 60 (fun _ => 0)), (tg, cI 60 (fun _ => 0)), (ru, lO (nI 0) u2 0), (u2, cR 10 (fun _ => none)), (de, lO (nI 0) d2 0), (d2, cR 6 (fun _ => none)), (fi, lO (nI 0) ed 0), (sk, lO (nI 0) k2 0), (k2, cR 8 (fun _ => none))] (n - 15) (m - 500) h')) := by
  refine rv_start hG (by decide +kernel) (L := [some (.ref a)]) rfl (Nat.le_of_ble_eq_true rfl) (fun X hX1 hX hE => ?_)
  subst hX1
  have hS := hH.start
  refine rv_aload_n hX dX2_init_0 rfl ?_
  refine rv_objInit hX q178 q171 q172 (by omega) (Nat.le_of_ble_eq_true rfl) dX2_init_1 ?_
  refine rv_aload_n hX dX2_init_4 rfl ?_
  refine xv_new hX hS nX2_9 (by omega) (show 3 ≤ _ by omega) dX2_init_5 (fun a_5 h_5 hS => ?_)
  have hS := hS.bud (Nat.le_refl _) (show _ - 3 ≤ _ from Nat.le_refl _)
  refine rv_dup hX dX2_init_8 rfl ?_
  refine nv_bipush hX (m := 8) (by decide) dX2_init_9 ?_
  refine rv_invI hX iX2_11 mdJ2_init rfl (j_new hG (d := d - 1) (by omega) (by decide) (by omega) (by omega) (hS.cpre0 [0,1] 0 rfl rfl rfl)) (by omega) rfl rfl (Nat.le_of_ble_eq_true rfl) dX2_init_11 (fun v h' hq => ?_) (fun E h' hq => by first | exact hq.elim | cases hq.2 | cases hq.1)
  obtain ⟨r2, hu, hQ⟩ := hq
  have hS := hS.cpost0 [0,1] 0 rfl rfl rfl hQ
  cases hu
  refine xv_putf hX hS (k := 0) rfl pX2_14_X2 (fun _ => rfl) rfl rfl rfl dX2_init_14 (fun h_14 hS => ?_)
  refine rv_aload_n hX dX2_init_17 rfl ?_
  refine xv_new hX hS nX2_9 (by omega) (show 3 ≤ _ by omega) dX2_init_18 (fun a_18 h_18 hS => ?_)
  have hS := hS.bud (Nat.le_refl _) (show _ - 3 ≤ _ from Nat.le_refl _)
  refine rv_dup hX dX2_init_21 rfl ?_
  refine nv_bipush hX (m := 60) (by decide) dX2_init_22 ?_
  refine rv_invI hX iX2_11 mdJ2_init rfl (j_new hG (d := d - 1) (by omega) (by decide) (by omega) (by omega) (hS.cpre0 [0,0,0,1] 0 rfl rfl rfl)) (by omega) rfl rfl (Nat.le_of_ble_eq_true rfl) dX2_init_24 (fun v h' hq => ?_) (fun E h' hq => by first | exact hq.elim | cases hq.2 | cases hq.1)
  obtain ⟨t2, hu, hQ⟩ := hq
  have hS := hS.cpost0 [0,0,0,1] 0 rfl rfl rfl hQ
  cases hu
  refine xv_putf hX hS (k := 0) rfl pX2_20_X2 (fun _ => rfl) rfl rfl rfl dX2_init_27 (fun h_27 hS => ?_)
  refine rv_aload_n hX dX2_init_30 rfl ?_
  refine xv_new hX hS nX2_23 (by omega) (show 3 ≤ _ by omega) dX2_init_31 (fun a_31 h_31 hS => ?_)
  have hS := hS.bud (Nat.le_refl _) (show _ - 3 ≤ _ from Nat.le_refl _)
  refine rv_dup hX dX2_init_34 rfl ?_
  refine rv_invI hX iX2_25 mdX3_init rfl (x_factsNew hG (d := d - 1) (by omega) (by omega) (by omega) (hS.cpre0 [0,0,0,0,0,1] 0 rfl rfl rfl)) (by omega) rfl rfl (Nat.le_of_ble_eq_true rfl) dX2_init_35 (fun v h' hq => ?_) (fun E h' hq => by first | exact hq.elim | cases hq.2 | cases hq.1)
  obtain ⟨sn, sr, hu, hQ⟩ := hq
  have hS := hS.cpost0 [0,0,0,0,0,1] 0 rfl rfl rfl hQ
  cases hu
  refine xv_putf hX hS (k := 0) rfl pX2_26_X2 (fun q => by cases q) rfl rfl rfl dX2_init_38 (fun h_38 hS => ?_)
  refine rv_aload_n hX dX2_init_41 rfl ?_
  refine nv_bipush hX (m := 60) (by decide) dX2_init_42 ?_
  refine xv_newI hX hS q548 (by omega) (by omega) (by omega) dX2_init_44 (fun a_44 h_44 hS => ?_)
  refine xv_putf hX hS (k := 0) rfl pX2_30_X2 (fun q => by cases q) rfl rfl rfl dX2_init_46 (fun h_46 hS => ?_)
  refine rv_aload_n hX dX2_init_49 rfl ?_
  refine xv_new hX hS nX2_9 (by omega) (show 3 ≤ _ by omega) dX2_init_50 (fun a_50 h_50 hS => ?_)
  have hS := hS.bud (Nat.le_refl _) (show _ - 3 ≤ _ from Nat.le_refl _)
  refine rv_dup hX dX2_init_53 rfl ?_
  refine nv_bipush hX (m := 10) (by decide) dX2_init_54 ?_
  refine rv_invI hX iX2_11 mdJ2_init rfl (j_new hG (d := d - 1) (by omega) (by decide) (by omega) (by omega) (hS.cpre0 [0,0,0,0,0,0,0,0,0,1] 0 rfl rfl rfl)) (by omega) rfl rfl (Nat.le_of_ble_eq_true rfl) dX2_init_56 (fun v h' hq => ?_) (fun E h' hq => by first | exact hq.elim | cases hq.2 | cases hq.1)
  obtain ⟨u2, hu, hQ⟩ := hq
  have hS := hS.cpost0 [0,0,0,0,0,0,0,0,0,1] 0 rfl rfl rfl hQ
  cases hu
  refine xv_putf hX hS (k := 0) rfl pX2_34_X2 (fun _ => rfl) rfl rfl rfl dX2_init_59 (fun h_59 hS => ?_)
  refine rv_aload_n hX dX2_init_62 rfl ?_
  refine xv_new hX hS nX2_9 (by omega) (show 3 ≤ _ by omega) dX2_init_63 (fun a_63 h_63 hS => ?_)
  have hS := hS.bud (Nat.le_refl _) (show _ - 3 ≤ _ from Nat.le_refl _)
  refine rv_dup hX dX2_init_66 rfl ?_
  refine nv_bipush hX (m := 6) (by decide) dX2_init_67 ?_
  refine rv_invI hX iX2_11 mdJ2_init rfl (j_new hG (d := d - 1) (by omega) (by decide) (by omega) (by omega) (hS.cpre0 [0,0,0,0,0,0,0,0,0,0,0,1] 0 rfl rfl rfl)) (by omega) rfl rfl (Nat.le_of_ble_eq_true rfl) dX2_init_69 (fun v h' hq => ?_) (fun E h' hq => by first | exact hq.elim | cases hq.2 | cases hq.1)
  obtain ⟨d2, hu, hQ⟩ := hq
  have hS := hS.cpost0 [0,0,0,0,0,0,0,0,0,0,0,1] 0 rfl rfl rfl hQ
  cases hu
  refine xv_putf hX hS (k := 0) rfl pX2_37_X2 (fun _ => rfl) rfl rfl rfl dX2_init_72 (fun h_72 hS => ?_)
  refine rv_aload_n hX dX2_init_75 rfl ?_
  refine xv_new hX hS nX2_9 (by omega) (show 3 ≤ _ by omega) dX2_init_76 (fun a_76 h_76 hS => ?_)
  have hS := hS.bud (Nat.le_refl _) (show _ - 3 ≤ _ from Nat.le_refl _)
  refine rv_dup hX dX2_init_79 rfl ?_
  refine rv_invI hX iX2_40 mdJ2_init_2 rfl (j_new0 hG (d := d - 1) (by omega) (hS.cpre0 [0,0,0,0,0,0,0,0,0,0,0,0,0,1] 0 rfl rfl rfl)) (by omega) rfl rfl (Nat.le_of_ble_eq_true rfl) dX2_init_80 (fun v h' hq => ?_) (fun E h' hq => by first | exact hq.elim | cases hq.2 | cases hq.1)
  obtain ⟨ed, hu, ho, hz, hQ⟩ := hq
  have hS := hS.cpost0 [0,0,0,0,0,0,0,0,0,0,0,0,0,1] 0 rfl rfl rfl hQ
  cases hu
  refine xv_putf hX hS (k := 0) rfl pX2_41_X2 (fun _ => rfl) rfl rfl rfl dX2_init_83 (fun h_83 hS => ?_)
  refine rv_aload_n hX dX2_init_86 rfl ?_
  refine xv_new hX hS nX2_9 (by omega) (show 3 ≤ _ by omega) dX2_init_87 (fun a_87 h_87 hS => ?_)
  have hS := hS.bud (Nat.le_refl _) (show _ - 3 ≤ _ from Nat.le_refl _)
  refine rv_dup hX dX2_init_90 rfl ?_
  refine nv_bipush hX (m := 8) (by decide) dX2_init_91 ?_
  refine rv_invI hX iX2_11 mdJ2_init rfl (j_new hG (d := d - 1) (by omega) (by decide) (by omega) (by omega) (hS.cpre0 [0,0,0,0,0,0,0,0,0,0,0,0,0,0,1] 0 rfl rfl rfl)) (by omega) rfl rfl (Nat.le_of_ble_eq_true rfl) dX2_init_93 (fun v h' hq => ?_) (fun E h' hq => by first | exact hq.elim | cases hq.2 | cases hq.1)
  obtain ⟨k2, hu, hQ⟩ := hq
  have hS := hS.cpost0 [0,0,0,0,0,0,0,0,0,0,0,0,0,0,1] 0 rfl rfl rfl hQ
  cases hu
  refine xv_putf hX hS (k := 0) rfl pX2_44_X2 (fun _ => rfl) rfl rfl rfl dX2_init_96 (fun h_96 hS => ?_)
  refine rv_return hX hE ?_ dX2_init_99
  exact ⟨_, r2, _, t2, _, sn, sr, _, _, u2, _, d2, _, ed, _, k2, rfl, ⟨ho, hz⟩, hS.bud (by omega) (by omega)⟩
