/-! THE REFERENCE: the next activation -/
set_option maxRecDepth 100000
def mStk (σ : rv_S) (K : List Nat) : Prop := σ.2.1 1 8 = nI K.length ∧ 1 ≤ K.length ∧ K.length ≤ 8 ∧ ∀ (k m : Nat), K[k]? = some m → σ.2.1 17 k = nI m ∧ m < 4
theorem mStk.same {fs js : List Nat} {σ τ : rv_S} {K : List Nat} (h : mStk σ K) (hs : rv_same fs js σ τ) (h1 : 1 ∉ js ∧ 17 ∉ js) : mStk τ K := ⟨by rw [hs.2.1 1 h1.1]; exact h.1, h.2.1, h.2.2.1, fun k m e => by rw [hs.2.1 17 h1.2]; exact h.2.2.2 k m e⟩
/-- the place in the stack of the next activation, from n - 1 downwards -/
def sp_nxt (f : Nat → Option sp_Act × Nat) (K : List Nat) : Nat → Option Nat
  | 0 => none
  | n + 1 => if 0 < (f (K.getD n 0)).2 then some n else sp_nxt f K n
theorem m_findNext {G : rv_G} (hG : rv_GK G) {d : Nat} (hd : 7 ≤ d) {σ : rv_S} {S F : List Nat} {Ds : List sp_C} {K : List Nat} {tv : Nat → Nat} {D : List (Nat × Nat × Nat × Nat)} (hDs : mDeeds σ S Ds) (hF : mFacts σ F) (hK : mStk σ K) (htv : ∀ k, k < F.length → σ.2.1 16 k = nI (tv k)) (htl : ∀ k, tv k < 2000000) (hD : mFd σ D) (hcl : ∀ m, (sp_bst F tv D Ds m Ds.length).2 < 2147483648) : mC G d yX4_findNext wX4_findNext [] σ (mPi (fun r τ => rv_same [31, 32, 33, 34, 52, 53, 54] [26, 27, 28, 29, 40] σ τ ∧ r = rv_oi (sp_nxt (fun m => sp_bst F tv D Ds m Ds.length) K K.length) ∧ ∀ k, sp_nxt (fun m => sp_bst F tv D Ds m Ds.length) K K.length = some k → mBest τ (sp_bst F tv D Ds (K.getD k 0) Ds.length).1)) := by
  refine mv_start hG (by decide +kernel) (Nat.le_of_ble_eq_true rfl) (fun X Hb o hX1 hX hE => ?_)
  subst hX1
  show rv_V X (rv_mh Hb o _) 0 [some (.ref o), none] []
  have hK8 := hK.2.2.1
  have hk1 := hK.2.1
  have fin : ∀ τ, rv_same [31, 32, 33, 34, 52, 53, 54] [26, 27, 28, 29, 40] σ τ → sp_nxt (fun m => sp_bst F tv D Ds m Ds.length) K K.length = none → rv_V X (rv_mh Hb o τ) 10 [some (.ref o), some (.int (-1))] [] := by
    intro τ hs hn
    refine rv_iload_n hX dX4_findNext_10 rfl ?_
    refine rv_if_lt hX 35 dX4_findNext_11 (by decide) (fun c_11 => ?_) (fun c_11 => ?_)
    · skip
      refine rv_iconst hX (v := -1) dX4_findNext_35 (by decide) ?_
      refine mv_reti hX hE dX4_findNext_36 ?_
      rw [hn]
      exact ⟨hs, rfl, fun k e => by cases e⟩
    · skip
      exact absurd (show (-1 : Int32) < 0 by decide) c_11
      --done
  have loop : ∀ (n : Nat) (τ : rv_S), n < K.length → rv_same [31, 32, 33, 34, 52, 53, 54] [26, 27, 28, 29, 40] σ τ → sp_nxt (fun m => sp_bst F tv D Ds m Ds.length) K K.length = sp_nxt (fun m => sp_bst F tv D Ds m Ds.length) K (n + 1) → rv_V X (rv_mh Hb o τ) 10 [some (.ref o), some (.int (nI n))] [] := by
    intro n
    induction n with
    | zero =>
      intro τ hn hs he
      obtain ⟨m, hm⟩ : ∃ m, K[0]? = some m := ⟨K[0], List.getElem?_eq_getElem hn⟩
      obtain ⟨k1, k2⟩ := (hK.same hs (by decide)).2.2.2 0 m hm
      have hc9 := hcl m
      have he2 : sp_nxt (fun m => sp_bst F tv D Ds m Ds.length) K K.length = if 0 < (sp_bst F tv D Ds m Ds.length).2 then some 0 else none := by rw [he]; show (if 0 < (sp_bst F tv D Ds (K.getD 0 0) Ds.length).2 then some 0 else none) = _; rw [sp_getD hm]
      refine rv_iload_n hX dX4_findNext_10 rfl ?_
      refine rv_if_lt hX 35 dX4_findNext_11 (by decide) (fun c_11 => ?_) (fun c_11 => ?_)
      · skip
        exact absurd c_11 (nI_pos (by omega))
        --done
      · skip
        refine rv_aload_n hX dX4_findNext_14 rfl ?_
        refine rv_aload_n hX dX4_findNext_15 rfl ?_
        refine mv_ga hX (k := 17) (j := 17) gX4_58_X4 (by decide) rfl (by decide) dX4_findNext_16 ?_
        refine rv_iload_n hX dX4_findNext_19 rfl ?_
        refine mv_ld hX (j := 17) (by decide) (by decide) rfl (by decide) (show _ < 8 by omega) dX4_findNext_20 ?_
        rw [k1]
        refine mv_calli hX iX4_429 rfl mdX4_findBest (m_findBest hG (d := d - 1) (by omega) (hDs.same hs (by decide)) (hF.same hs (by decide) (by decide)) k2 (fun k h => by rw [hs.2.1 16 (by decide)]; exact htv k h) htl (D := D) ⟨by rw [hs.2.1 1 (by decide)]; exact hD.1, hD.2.1, fun j e h => by rw [hs.2.1 18 (by decide)]; exact hD.2.2 j e h⟩) (by omega) rfl rfl (Nat.le_of_ble_eq_true rfl) dX4_findNext_21 (fun r_21 τ_21 h_21 => ?_)
        obtain ⟨b1, b2, b3, rfl⟩ := h_21
        first | refine nv_if_le hX 29 (by omega) dX4_findNext_24 (by decide) (fun c_24 => ?_) (fun c_24 => ?_) | refine rv_if_le hX 29 dX4_findNext_24 (by decide) (fun c_24 => ?_) (fun c_24 => ?_)
        · skip
          refine rv_iinc hX dX4_findNext_29 rfl rfl (rv_st_1 rfl) ?_
          refine rv_goto hX 10 dX4_findNext_32 (by decide) ?_
          rw [if_neg (by omega)] at he2
          exact fin _ (hs.tr b1) he2
        · skip
          refine rv_iload_n hX dX4_findNext_27 rfl ?_
          refine mv_reti hX hE dX4_findNext_28 ?_
          rw [if_pos c_24] at he2
          rw [he2]
          exact ⟨hs.tr b1, rfl, fun k e => by cases e; rw [sp_getD hm]; exact b2⟩
    | succ n ih =>
      intro τ hn hs he
      obtain ⟨m, hm⟩ : ∃ m, K[n + 1]? = some m := ⟨K[n + 1], List.getElem?_eq_getElem hn⟩
      obtain ⟨k1, k2⟩ := (hK.same hs (by decide)).2.2.2 (n + 1) m hm
      have hc9 := hcl m
      have he2 : sp_nxt (fun m => sp_bst F tv D Ds m Ds.length) K K.length = if 0 < (sp_bst F tv D Ds m Ds.length).2 then some (n + 1) else sp_nxt (fun m => sp_bst F tv D Ds m Ds.length) K (n + 1) := by rw [he]; show (if 0 < (sp_bst F tv D Ds (K.getD (n + 1) 0) Ds.length).2 then some (n + 1) else _) = _; rw [sp_getD hm]
      refine rv_iload_n hX dX4_findNext_10 rfl ?_
      refine rv_if_lt hX 35 dX4_findNext_11 (by decide) (fun c_11 => ?_) (fun c_11 => ?_)
      · skip
        exact absurd c_11 (nI_pos (by omega))
        --done
      · skip
        refine rv_aload_n hX dX4_findNext_14 rfl ?_
        refine rv_aload_n hX dX4_findNext_15 rfl ?_
        refine mv_ga hX (k := 17) (j := 17) gX4_58_X4 (by decide) rfl (by decide) dX4_findNext_16 ?_
        refine rv_iload_n hX dX4_findNext_19 rfl ?_
        refine mv_ld hX (j := 17) (by decide) (by decide) rfl (by decide) (show _ < 8 by omega) dX4_findNext_20 ?_
        rw [k1]
        refine mv_calli hX iX4_429 rfl mdX4_findBest (m_findBest hG (d := d - 1) (by omega) (hDs.same hs (by decide)) (hF.same hs (by decide) (by decide)) k2 (fun k h => by rw [hs.2.1 16 (by decide)]; exact htv k h) htl (D := D) ⟨by rw [hs.2.1 1 (by decide)]; exact hD.1, hD.2.1, fun j e h => by rw [hs.2.1 18 (by decide)]; exact hD.2.2 j e h⟩) (by omega) rfl rfl (Nat.le_of_ble_eq_true rfl) dX4_findNext_21 (fun r_21 τ_21 h_21 => ?_)
        obtain ⟨b1, b2, b3, rfl⟩ := h_21
        first | refine nv_if_le hX 29 (by omega) dX4_findNext_24 (by decide) (fun c_24 => ?_) (fun c_24 => ?_) | refine rv_if_le hX 29 dX4_findNext_24 (by decide) (fun c_24 => ?_) (fun c_24 => ?_)
        · skip
          refine rv_iinc hX dX4_findNext_29 rfl rfl (rv_st_1 rfl) ?_
          refine rv_goto hX 10 dX4_findNext_32 (by decide) ?_
          rw [if_neg (by omega)] at he2
          rw [show Int32.ofInt (-1) = (-1 : Int32) from rfl, nI_dec (by omega)]
          exact ih _ (by omega) (hs.tr b1) he2
        · skip
          refine rv_iload_n hX dX4_findNext_27 rfl ?_
          refine mv_reti hX hE dX4_findNext_28 ?_
          rw [if_pos c_24] at he2
          rw [he2]
          exact ⟨hs.tr b1, rfl, fun k e => by cases e; rw [sp_getD hm]; exact b2⟩
  refine rv_aload_n hX dX4_findNext_0 rfl ?_
  refine mv_ga hX (k := 1) (j := 1) gX4_7_X4 (by decide) rfl (by decide) dX4_findNext_1 ?_
  refine nv_bipush hX (m := 8) (by decide) dX4_findNext_4 ?_
  refine mv_ld hX (j := 1) (by decide) (by decide) rfl (by decide) (show _ < 11 by omega) dX4_findNext_6 ?_
  rw [hK.1]
  refine nv_iconst hX (m := 1) (by decide) dX4_findNext_7 ?_
  first | refine nv_isub hX (by omega) dX4_findNext_8 ?_ | refine rv_isub hX dX4_findNext_8 ?_
  refine rv_istore_n hX dX4_findNext_9 (rv_st_1 rfl) ?_
  exact loop (K.length - 1) σ (by omega) .rf (by rw [show K.length - 1 + 1 = K.length by omega])
