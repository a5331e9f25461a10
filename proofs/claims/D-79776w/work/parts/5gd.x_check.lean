/-! THE SYSTEM: facts and relations checked; what only looks -/
set_option maxRecDepth 100000
theorem x_checkFact {G : rv_G} (hG : rv_GK G) {d xo wd n m : Nat} {f : Int32} (hd : 8 ≤ d) {a1 a2 a3 a4 a5 a6 : Value} {w : wW} {F : xF} {h : rv_H} (hX0 : xr G F xo (cO 0 [.ref wd, a1, a2, a3, a4, a5, a6])) (hW : xW G (xr G F) wd w) (hS8 : w.S.length ≤ 8 ∧ ∀ n, n ∈ w.S → 1 ≤ n ∧ n ≤ 3) (hn : 1 ≤ n) (hm : 6 ≤ m) (hH : xH G F [] n m h) : rv_Call G d yX1_checkFact wX1_checkFact [.ref xo, .int f] h (xT (fun u h' => (∃ k, f = nI k ∧ k < 8000000 ∧ k / 1000000 < w.S.length) ∧ sp_fault w.S f = 0 ∧ u = none ∧ h' = h) (fun E h' => ((E = RJ19 ∧ sp_fault w.S f = 1) ∨ (E = RJ6 ∧ sp_fault w.S f = 2)) ∧ xS G F h [] [] (n - 1) (m - 6) h')) := by
  refine rv_start hG (by decide +kernel) (L := [some (.ref xo), some (.int f)]) rfl (Nat.le_of_ble_eq_true rfl) (fun X hX1 hX hE => ?_)
  subst hX1
  have hS := hH.start
  obtain ⟨rel, ta, st, tg, ru, de, fi, sk, tf, r, ps, w1, ⟨es, hL, hes⟩, -⟩ := id hW
  obtain ⟨lm, led, lcap, lf, l1, l2⟩ := id hL
  have hz : 1000000 * w.S.length < 2147483648 := by omega
  have hno : w_idx f (1000000 * w.S.length) = none → sp_fault w.S f = 1 := fun e => by
    by_cases q : (0 : Int32) ≤ f
    · obtain ⟨k, hk, rfl⟩ := sp_nI_of q
      rw [sp_fault_nI hk]
      unfold sp_faultN
      rw [List.getElem?_eq_none (show w.S.length ≤ k / 1000000 from Classical.byContradiction (fun q2 => by
        rw [w_idx_nI (by omega) hz] at e
        cases e))]
    · unfold sp_fault
      exact if_neg q
  refine rv_iload_n hX dX1_checkFact_0 rfl ?_
  refine rv_ldc hX q1182 dX1_checkFact_1 ?_
  rw [show (1000000 : Int32) = nI 1000000 from by decide]
  refine rv_aload_n hX dX1_checkFact_3 rfl ?_
  refine rv_getfR hX gX1_21_X1 (hS.f hX0) rfl dX1_checkFact_4 ?_
  refine rv_getfR hX gX1_55_X2 (hS.f w1) rfl dX1_checkFact_7 ?_
  refine rv_invVR hX iX1_58 mdJ2_size (hS.f l1) ⟨TJ2, 3, rv_c17⟩ (j_size hG (d := d - 1) (hL.mono (fun _ _ => hS.f)).L) (by omega) rfl rfl (Nat.le_of_ble_eq_true rfl) dX1_checkFact_10 (fun v h' hq => ?_) (fun E h' hq => by first | exact hq.elim | cases hq.2 | cases hq.1)
  obtain ⟨rfl, hq⟩ := hq
  cases hq
  rw [hes.1]
  first | refine nv_imul hX dX1_checkFact_13 ?_ | refine rv_imul hX dX1_checkFact_13 ?_
  refine rv_invS hX iX1_62 mdX1_checkIndex (x_checkIndex hG (d := d - 1) (by omega) hz (by omega) (by omega) hS.1) (by omega) rfl rfl (Nat.le_of_ble_eq_true rfl) dX1_checkFact_14 (fun v h' hq => ?_) (fun E h' hq => by exact rv_out hX hE (fun x hx => by cases hx) ⟨Or.inl ⟨hq.1, hno hq.2.1⟩, hq.2.2⟩)
  obtain ⟨⟨k, hk⟩, rfl, rfl⟩ := hq
  obtain ⟨hk1, rfl⟩ := w_idx_some hz hk
  have hkr : k / 1000000 < w.S.length := by omega
  refine rv_aload_n hX dX1_checkFact_17 rfl ?_
  refine rv_iload_n hX dX1_checkFact_18 rfl ?_
  refine rv_invVR hX iX1_81 mdX1_isProper (hS.f hX0) ⟨TX1, 7, rv_c0⟩ (x_isProper hG (d := d - 1) (by omega) (hS.f hX0) (hW.mono (fun _ _ => hS.f)) hS8 hkr (by omega)) (by omega) rfl rfl (Nat.le_of_ble_eq_true rfl) dX1_checkFact_19 (fun v h' hq => ?_) (fun E h' hq => by first | exact hq.elim | cases hq.2 | cases hq.1)
  obtain ⟨rfl, hq⟩ := hq
  cases hq
  refine rv_invS hX iX1_85 mdX1_checkArgument (x_checkArgument hG (d := d - 1) (by omega) (by omega) (by omega) hS.1) (by omega) rfl rfl (Nat.le_of_ble_eq_true rfl) dX1_checkFact_22 (fun v h' hq => ?_) (fun E h' hq => by exact rv_out hX hE (fun x hx => by cases hx) ⟨Or.inr ⟨hq.1, (by have h0 := of_decide_eq_false hq.2.1; rw [sp_fault_nI (by omega)]; unfold sp_faultN at h0 ⊢; obtain ⟨y, hy⟩ : ∃ y, w.S[k / 1000000]? = some y := ⟨_, List.getElem?_eq_getElem hkr⟩; rw [hy] at h0 ⊢; revert h0; show (if _ then 0 else 2) ≠ 0 → (if _ then 0 else 2) = 2; split <;> simp)⟩, hq.2.2⟩)
  obtain ⟨hb, rfl, rfl⟩ := hq
  refine rv_return hX hE ?_ dX1_checkFact_25
  exact ⟨⟨k, rfl, by omega, hkr⟩, by rw [sp_fault_nI (by omega)]; exact of_decide_eq_true hb, rfl, rfl⟩
theorem x_checkRelation {G : rv_G} (hG : rv_GK G) {d xo wd n m : Nat} {f : Int32} (hd : 8 ≤ d) {a1 a2 a3 a4 a5 a6 : Value} {w : wW} {F : xF} {h : rv_H} (hX0 : xr G F xo (cO 0 [.ref wd, a1, a2, a3, a4, a5, a6])) (hW : xW G (xr G F) wd w) (hS8 : w.S.length ≤ 8 ∧ ∀ n, n ∈ w.S → 1 ≤ n ∧ n ≤ 3) (hn : 1 ≤ n) (hm : 6 ≤ m) (hH : xH G F [] n m h) : rv_Call G d yX1_checkRelation wX1_checkRelation [.ref xo, .int f] h (xT (fun u h' => (∃ k, w_idx f w.S.length = some k) ∧ u = none ∧ h' = h) (fun E h' => E = RJ19 ∧ w_idx f w.S.length = none ∧ xS G F h [] [] (n - 1) (m - 6) h')) := by
  refine rv_start hG (by decide +kernel) (L := [some (.ref xo), some (.int f)]) rfl (Nat.le_of_ble_eq_true rfl) (fun X hX1 hX hE => ?_)
  subst hX1
  have hS := hH.start
  obtain ⟨rel, ta, st, tg, ru, de, fi, sk, tf, r, ps, w1, ⟨es, hL, hes⟩, -⟩ := id hW
  obtain ⟨lm, led, lcap, lf, l1, l2⟩ := id hL
  refine rv_iload_n hX dX1_checkRelation_0 rfl ?_
  refine rv_aload_n hX dX1_checkRelation_1 rfl ?_
  refine rv_getfR hX gX1_21_X1 (hS.f hX0) rfl dX1_checkRelation_2 ?_
  refine rv_getfR hX gX1_55_X2 (hS.f w1) rfl dX1_checkRelation_5 ?_
  refine rv_invVR hX iX1_58 mdJ2_size (hS.f l1) ⟨TJ2, 3, rv_c17⟩ (j_size hG (d := d - 1) (hL.mono (fun _ _ => hS.f)).L) (by omega) rfl rfl (Nat.le_of_ble_eq_true rfl) dX1_checkRelation_8 (fun v h' hq => ?_) (fun E h' hq => by first | exact hq.elim | cases hq.2 | cases hq.1)
  obtain ⟨rfl, hq⟩ := hq
  cases hq
  rw [hes.1]
  refine rv_invS hX iX1_62 mdX1_checkIndex (x_checkIndex hG (d := d - 1) (by omega) (by omega) (by omega) (by omega) hS.1) (by omega) rfl rfl (Nat.le_of_ble_eq_true rfl) dX1_checkRelation_11 (fun v h' hq => ?_) (fun E h' hq => by exact rv_out hX hE (fun x hx => by cases hx) ⟨hq.1, hq.2.1, hq.2.2⟩)
  obtain ⟨hk, rfl, rfl⟩ := hq
  refine rv_return hX hE ?_ dX1_checkRelation_14
  exact ⟨hk, rfl, rfl⟩
