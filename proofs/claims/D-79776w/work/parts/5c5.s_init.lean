/-! THE START: nothing is there -/
set_option maxRecDepth 100000
def wW0 : wW := w_mk [] [] [] 0 0 [] [] [] 0 [0] 0 []
def wD0 : wDr := (0, 0, 0, false, 0, [], [])
def wS0 : wS := (wW0, wD0, [])
theorem sp_chain_nil {st : Nat → Nat} : ∀ n, sp_chain [] st n [] [] := by
  intro n
  induction n with
  | zero => rfl
  | succ n ih =>
    refine ⟨[], ih, ?_, Nat.zero_le _, fun C hC => (by cases hC), fun G' _ _ f hf => (by cases hf)⟩
    exact ⟨List.Pairwise.nil, fun f hf => hf, fun f hf => (by cases hf)⟩
theorem sp_set_nil : sp_set [] [] = some [] := by
  have h1 : sp_strata [] = some (fun _ => 0) := rfl
  exact sp_set_some h1 ⟨[], List.Pairwise.nil, Nat.zero_le _, fun x => Iff.rfl, sp_chain_nil 8⟩
theorem wf0 : wfS 0 wS0 := by
  refine ⟨⟨⟨Nat.zero_le _, fun n hn => (by cases hn)⟩, ⟨Nat.zero_le _, fun C hC => (by cases hC), List.nodup_nil, Nat.le_refl _⟩, ⟨Nat.zero_le _, fun C hC => (by cases hC), List.nodup_nil, Nat.le_refl _⟩, ⟨List.nodup_nil, fun p hp => (by cases hp)⟩, sp_set_nil, ⟨rfl, List.nodup_nil, fun t ht => (by cases ht), Nat.le_refl _⟩, ⟨by decide, by decide, fun m hm => ?_⟩, Nat.le_refl _, ⟨Nat.le_refl _, fun e he => (by cases he)⟩⟩, ⟨Nat.zero_le _, by decide, by decide, fun h => absurd rfl h⟩, Nat.zero_le _, fun w hw => (by cases hw), fun w hw => (by cases hw), fun i j w v _ h => (by cases h)⟩
  rw [List.mem_singleton.mp hm]
  decide
theorem m_st0 : mSt (rv_sU rv_σ0 1 8 (nI 1)) wS0 := by
  have h1 : ∀ i, i ≠ 8 → (rv_sU rv_σ0 1 8 (nI 1)).2.1 1 i = 0 := fun i hi => by
    rw [rv_sU_2, if_neg (fun q => hi q.2)]
    rfl
  have hrel : mRel (rv_sU rv_σ0 1 8 (nI 1)) [] := ⟨h1 0 (by decide), Nat.zero_le _, fun n hn => (by cases hn), fun k n e => (by cases e)⟩
  refine ⟨⟨⟨⟨hrel, h1 1 (by decide), Nat.zero_le _, fun i C e => (by cases e)⟩, ⟨hrel, h1 2 (by decide), Nat.zero_le _, fun i C e => (by cases e)⟩, h1 3 (by decide), h1 4 (by decide), ⟨h1 5 (by decide), Nat.zero_le _, fun k p e => (by cases e)⟩, ⟨h1 6 (by decide), Nat.zero_le _, fun f hf => (by cases hf), fun k f e => (by cases e)⟩, fun k t e => (by cases e), h1 7 (by decide), ⟨?_, by decide, by decide, fun k m e => ?_⟩, h1 9 (by decide), h1 10 (by decide), Nat.zero_le _⟩, fun k e h => (by cases h)⟩, ⟨rfl, Nat.zero_le _, rfl, rfl, rfl, fun h => absurd rfl h⟩, ⟨rfl, Nat.zero_le _, fun i w e => (by cases e)⟩, fun _ => 0, fun k _ => rfl, fun k => Nat.zero_le _⟩
  · rw [rv_sU_2, if_pos ⟨rfl, rfl⟩]
    rfl
  · cases k with
    | zero =>
      cases e
      exact ⟨rfl, by decide⟩
    | succ k => cases e
