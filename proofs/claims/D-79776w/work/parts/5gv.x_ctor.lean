/-! THE SYSTEM: made -/
set_option maxRecDepth 100000
theorem x_ctor {G : rv_G} (hG : rv_GK G) {d xo n m : Nat} (hd : 8 ≤ d) {F : xF} {h : rv_H} (hn : 1000 ≤ n) (hm : 5000 ≤ m) (hH : xH G F [(xo, cO 0 [.null, .null, .null, .null, .null, .null, .int 0])] n m h) : rv_Call G d yX1_init wX1_init [.ref xo] h (xN (fun u h' => u = none ∧ ∃ F1 M1, xle F F1 h [xo] ∧ xSt G F1 xo wS0 M1 ∧ xS G F1 h [xo] M1 (n - 1000) (m - 5000) h')) := by
  refine rv_start hG (by decide +kernel) (L := [some (.ref xo)]) rfl (Nat.le_of_ble_eq_true rfl) (fun X hX1 hX hE => ?_)
  subst hX1
  have hS := hH.start
  refine rv_aload_n hX dX1_init_0 rfl ?_
  refine rv_objInit hX q170 q171 q172 (by omega) (Nat.le_of_ble_eq_true rfl) dX1_init_1 ?_
  refine rv_aload_n hX dX1_init_4 rfl ?_
  refine xv_new hX hS nX1_18 (by omega) (show 12 ≤ _ by omega) dX1_init_5 (fun a_5 h_5 hS => ?_)
  have hS := hS.bud (Nat.le_refl _) (show _ - 12 ≤ _ from Nat.le_refl _)
  refine rv_dup hX dX1_init_8 rfl ?_
  refine rv_invI hX iX1_20 mdX2_init rfl (x_worldInit hG (d := d - 1) (by omega) (by omega) (by omega) (hS.cpre0 [0,1] 0 rfl rfl rfl)) (by omega) rfl rfl (Nat.le_of_ble_eq_true rfl) dX1_init_9 (fun v h' hq => ?_) (fun E h' hq => by first | exact hq.elim | cases hq.2 | cases hq.1)
  obtain ⟨rel, r2, ta, t2, st, sn, sr, tg, ru, u2, de, d2, fi, ed, sk, k2, hu, ⟨ho, hz⟩, hQ⟩ := hq
  have hS := hS.cpost0 [0,1] 0 rfl rfl rfl hQ
  cases hu
  refine xv_putf hX hS (k := 0) rfl pX1_21_X1 (fun q => by cases q) rfl rfl rfl dX1_init_12 (fun h_12 hS => ?_)
  refine rv_aload_n hX dX1_init_15 rfl ?_
  refine xv_new hX hS nX1_25 (by omega) (show 3 ≤ _ by omega) dX1_init_16 (fun a_16 h_16 hS => ?_)
  have hS := hS.bud (Nat.le_refl _) (show _ - 3 ≤ _ from Nat.le_refl _)
  refine rv_dup hX dX1_init_19 rfl ?_
  refine nv_iconst hX (m := 3) (by decide) dX1_init_20 ?_
  refine rv_invI hX iX1_27 mdJ2_init rfl (j_new hG (d := d - 1) (by omega) (by decide) (by omega) (by omega) (hS.cpre0 [0,0,0,0,0,0,0,0,0,0,0,0,0,0,0,0,0,1] 0 rfl rfl rfl)) (by omega) rfl rfl (Nat.le_of_ble_eq_true rfl) dX1_init_21 (fun v h' hq => ?_) (fun E h' hq => by first | exact hq.elim | cases hq.2 | cases hq.1)
  obtain ⟨b2, hu, hQ⟩ := hq
  have hS := hS.cpost0 [0,0,0,0,0,0,0,0,0,0,0,0,0,0,0,0,0,1] 0 rfl rfl rfl hQ
  cases hu
  refine xv_putf hX hS (k := 0) rfl pX1_30_X1 (fun _ => rfl) rfl rfl rfl dX1_init_24 (fun h_24 hS => ?_)
  refine rv_aload_n hX dX1_init_27 rfl ?_
  refine rv_getfR hX gX1_21_X1 (hS.mc (k := 0) rfl) rfl dX1_init_28 ?_
  refine rv_getfR hX gX1_34_X2 (hS.mc (k := 1) rfl) rfl dX1_init_31 ?_
  refine nv_iconst hX (m := 0) (by decide) dX1_init_34 ?_
  refine rv_invS hX iX1_37 mdJ17_valueOf (j_valueOf hG (n := 0) (d := d - 1) (by omega)) (by omega) rfl rfl (Nat.le_of_ble_eq_true rfl) dX1_init_35 (fun v h' hq => ?_) (fun E h' hq => by obtain ⟨-, _, e, -⟩ := hq; cases e)
  obtain ⟨rfl, a9, hu, hbx⟩ := hq
  cases hu
  refine rv_invVR hX iX1_42 mdJ2_add (hS.mc (k := 15) rfl) ⟨TJ2, 3, rv_c17⟩ (j_add hG (d := d - 1) (es := []) (by omega) (by decide) (by decide) (fun i e q => by simp at q) ((xElm.bx hbx).el hS.1) (fun q => (xElm.bx hbx).ne hS.1 (q ▸ xadm (k := 15) rfl)) (hS.cpre0 [0,0,0,0,0,0,0,0,0,0,0,0,0,0,0,1,1,0] 0 rfl rfl rfl)) (by omega) rfl rfl (Nat.le_of_ble_eq_true rfl) dX1_init_38 (fun v h' hq => ?_) (fun E h' hq => by first | exact hq.elim | cases hq.2 | cases hq.1)
  obtain ⟨f9, hu, hf9, hQ⟩ := hq
  have hS := hS.cpost0 [0,0,0,0,0,0,0,0,0,0,0,0,0,0,0,1,1,0] 0 rfl rfl rfl hQ
  cases hu
  refine rv_pop hX dX1_init_41 rfl ?_
  refine rv_return hX hE ?_ dX1_init_42
  refine ⟨rfl, ?_⟩
  have hS9 : xS X.1 F _ [xo] [(xo, cO 0 [.ref a_5, .null, .ref a_16, .null, .null, .null, .int 0]), (a_5, cW rel ta st tg 0 ru de 0 0 fi sk 0), (rel, lO (nI 0) r2 0), (r2, cR 8 (fun _ => none)), (ta, lO (nI 0) t2 0), (t2, cR 60 (fun _ => none)), (st, cO 2 [.ref sn, .ref sr, .int (nI 0)]), (sn, cI 60 (fun _ => 0)), (sr, cI 60 (fun _ => 0)), (tg, cI 60 (fun _ => 0)), (ru, lO (nI 0) u2 0), (u2, cR 10 (fun _ => none)), (de, lO (nI 0) d2 0), (d2, cR 6 (fun _ => none)), (fi, lO (nI 0) ed 0), (sk, lO (nI 0 + 1) k2 1), (k2, cR 8 f9), (a_16, lO (nI 0) b2 0), (b2, cR 3 (fun _ => none))] _ _ _ := hS
  have hS8 := hS9.reo 19 [1, 2, 3, 4, 5, 6, 7, 8, 9, 10, 11, 12, 13, 14, 15, 16, 0, 17, 18] rfl (by decide) rfl
  let Z : xM := [(a_5, cW rel ta st tg 0 ru de 0 0 fi sk 0), (rel, lO (nI 0) r2 0), (r2, cR 8 (fun _ => none)), (ta, lO (nI 0) t2 0), (t2, cR 60 (fun _ => none)), (st, cO 2 [.ref sn, .ref sr, .int (nI 0)]), (sn, cI 60 (fun _ => 0)), (sr, cI 60 (fun _ => 0)), (tg, cI 60 (fun _ => 0)), (ru, lO (nI 0) u2 0), (u2, cR 10 (fun _ => none)), (de, lO (nI 0) d2 0), (d2, cR 6 (fun _ => none)), (fi, lO (nI 0) ed 0), (sk, lO (nI 0 + 1) k2 1), (k2, cR 8 f9)]
  have hp : (Z ++ [(xo, cO 0 [.ref a_5, .null, .ref a_16, .null, .null, .null, .int 0]), (a_16, lO (nI 0) b2 0), (b2, cR 3 (fun _ => none))]).Perm (Z ++ [(xo, cO 0 [.ref a_5, .null, .ref a_16, .null, .null, .null, .int 0]), (a_16, lO (nI 0) b2 0), (b2, cR 3 (fun _ => none))]) := List.Perm.refl _
  have hS7 : xS X.1 F _ [xo] (Z ++ [(xo, cO 0 [.ref a_5, .null, .ref a_16, .null, .null, .null, .int 0]), (a_16, lO (nI 0) b2 0), (b2, cR 3 (fun _ => none))]) _ _ _ := hS8
  obtain ⟨z1, z2⟩ := hS7.frz hp
  have hZ : ∀ k a c, Z[k]? = some (a, c) → xr X.1 (xfz F Z) a c := fun k a c q => hS7.frzr hp (List.mem_of_getElem? q)
  have hb : ∀ k a c, Z[k]? = some (a, c) → rv_b X.1 ≤ a := fun k a c q => (hS7.1.2.2.2.1.2 _ _ (hS7.1.2.1 _ (List.mem_append_left _ (List.mem_of_getElem? q))).1).1
  have nl : ∀ (k a e cap : Nat), Z[k]? = some (a, lO (nI 0) e 0) → Z[k + 1]? = some (e, cR cap (fun _ => none)) → cap < 60000000 → xLs X.1 (xr X.1 (xfz F Z)) a [] := fun k a e cap q1 q2 q3 => ⟨nI 0, e, cap, _, hZ k _ _ q1, hZ (k + 1) _ _ q2, ⟨Nat.zero_le _, Or.inl (hb (k + 1) _ _ q2)⟩, q3, fun i e q => by simp at q⟩
  have hno : ∀ {α : Type} (k : Nat) (x : α), ([] : List α)[k]? = some x → False := fun k x q => by simp at q
  have hxw : xW X.1 (xr X.1 (xfz F Z)) a_5 wS0.w := by
    refine ⟨rel, ta, st, tg, ru, de, fi, sk, fun _ => 0, fun _ => 0, [], hZ 0 _ _ rfl, ⟨[], nl 1 _ _ _ rfl rfl (by decide), rfl, fun i e x q => (hno _ _ q).elim⟩, ⟨[], nl 3 _ _ _ rfl rfl (by decide), rfl, fun i e x q => (hno _ _ q).elim⟩, ⟨sn, sr, _, _, hZ 5 _ _ rfl, hZ 6 _ _ rfl, hZ 7 _ _ rfl, ⟨⟨List.Pairwise.nil, Nat.zero_le _, fun x hx => (by cases hx)⟩, fun k x e => (hno k x e).elim⟩⟩, ⟨hZ 8 _ _ rfl, fun k t e => (hno k t e).elim⟩, ⟨[], nl 9 _ _ _ rfl rfl (by decide), rfl, fun i e x q => (hno _ _ q).elim⟩, ⟨[], nl 11 _ _ _ rfl rfl (by decide), rfl, fun i e x q => (hno _ _ q).elim⟩, ⟨[], ⟨nI 0, ed, 0, _, hZ 13 _ _ rfl, Or.inr ho, ⟨Nat.le_refl _, rv_emptyOA hG hz⟩, by decide, fun i e q => (hno _ _ q).elim⟩, rfl, fun i e x q => (hno _ _ q).elim⟩, ⟨List.Sublist.refl _, fun e he => (by cases he)⟩, ⟨[a9], ⟨_, k2, 8, f9, hZ 14 _ _ rfl, hZ 15 _ _ rfl, ⟨Nat.le_of_ble_eq_true rfl, Or.inl (hb 15 _ _ rfl)⟩, by decide, hf9⟩, rfl, fun i e x q1 q2 => ?_⟩⟩
    have q2' : ([0] : List Nat)[i]? = some x := q2
    cases i with
    | zero =>
      cases q1
      cases q2'
      exact hbx
    | succ i => exact (hno i e q1).elim
  refine ⟨_, _, z2, ⟨a_5, a_16, .null, .null, .null, .null, 0, [(a_16, lO (nI 0) b2 0), (b2, cR 3 (fun _ => none))], [], [], fun a => if a = a_5 then some wS0.w else none, rfl, ⟨fun a w e => ?_, if_pos rfl⟩, ⟨xAL.of (by decide) (by decide) (fun i e q => by simp at q) (fun i v _ q => by cases q), rfl, fun i a w q => by simp at q⟩, Or.inl ⟨rfl, rfl, rfl⟩, Or.inl rfl⟩, z1.bud (by omega) (by omega)⟩
  have e' : (if a = a_5 then some wS0.w else none) = some w := e
  split at e'
  · rename_i q
    cases e'
    rw [q]
    exact hxw
  · cases e'
