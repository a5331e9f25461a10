/-! THE REFERENCE: copying rows of numbers -/
set_option maxRecDepth 100000
def rv_sA (σ : rv_S) (j : Nat) (f : Nat → Int32) : rv_S := (σ.1, (fun i => if i = j then f else σ.2.1 i), σ.2.2)
theorem rv_sA_1 (σ : rv_S) (j : Nat) (f : Nat → Int32) : (rv_sA σ j f).1 = σ.1 := rfl
theorem rv_sA_2 (σ : rv_S) (j : Nat) (f : Nat → Int32) (i : Nat) : (rv_sA σ j f).2.1 i = if i = j then f else σ.2.1 i := rfl
theorem rv_sA_3 (σ : rv_S) (j : Nat) (f : Nat → Int32) : (rv_sA σ j f).2.2 = σ.2.2 := rfl
theorem rv_same.a {fs js : List Nat} {σ : rv_S} {j : Nat} {f : Nat → Int32} (hj : j ∈ js) : rv_same fs js σ (rv_sA σ j f) := ⟨fun _ _ => rfl, fun i hi => by rw [rv_sA_2, if_neg (fun e => hi (by rw [e]; exact hj))], fun _ _ => rfl⟩
/-- n numbers of A from p on, laid into B from q on -/
def sp_cp (A B : Nat → Int32) (p q n : Nat) : Nat → Int32 := fun i => if q ≤ i ∧ i < q + n then A (p + (i - q)) else B i
def rv_ia (j : Nat) : Prop := j ≤ 40 ∧ ¬ j = 0 ∧ rv_lg j = false ∧ rv_s j < 30000
theorem m_copy {G : rv_G} (hG : rv_GK G) {d : Nat} {σ : rv_S} {j1 j2 p q n : Nat} (h1 : rv_ia j1) (h2 : rv_ia j2) (hp : p + n ≤ rv_s j1) (hq : q + n ≤ rv_s j2) (hdis : j1 ≠ j2 ∨ p + n ≤ q ∨ q + n ≤ p) (hb : rv_H) (o : Nat) : rv_Call G d yX4_copy wX4_copy [.ref (o + j1), .int (nI p), .ref (o + j2), .int (nI q), .int (nI n)] (rv_mh hb o σ) (mQ hb o (mPi (fun r τ => r = nI (q + n) ∧ τ = rv_sA σ j2 (sp_cp (σ.2.1 j1) (σ.2.1 j2) p q n)))) := by
  refine rv_start hG (by decide +kernel) rfl (Nat.le_of_ble_eq_true rfl) (fun X hX1 hX hE => ?_)
  subst hX1
  show rv_V X (rv_mh hb o σ) 0 [some (.ref (o + j1)), some (.int (nI p)), some (.ref (o + j2)), some (.int (nI q)), some (.int (nI n)), none] []
  have h1s := h1.2.2.2
  have h2s := h2.2.2.2
  have loop : ∀ (m k : Nat), k ≤ n → n - k < m → rv_V X (rv_mh hb o (rv_sA σ j2 (sp_cp (σ.2.1 j1) (σ.2.1 j2) p q k))) 3 [some (.ref (o + j1)), some (.int (nI p)), some (.ref (o + j2)), some (.int (nI q)), some (.int (nI n)), some (.int (nI k))] [] := by
    intro m
    induction m with
    | zero => intro k h3 h4; omega
    | succ m ih =>
      intro k h3 h4
      refine rv_iload hX dX4_copy_3 rfl ?_
      refine rv_iload hX dX4_copy_5 rfl ?_
      refine nv_icmp_ge hX 28 (by omega) (by omega) dX4_copy_7 (by decide) (fun c => ?_) (fun c => ?_)
      · have hk : k = n := by omega
        subst hk
        refine rv_iload_n hX dX4_copy_28 rfl ?_
        refine rv_iload hX dX4_copy_29 rfl ?_
        refine nv_iadd hX dX4_copy_31 ?_
        exact rv_ireturn hX hE rfl ⟨_, _, rfl, rfl, _, rfl, rfl, rfl⟩ dX4_copy_32
      · refine rv_aload_n hX dX4_copy_10 rfl ?_
        refine rv_iload_n hX dX4_copy_11 rfl ?_
        refine rv_iload hX dX4_copy_12 rfl ?_
        refine nv_iadd hX dX4_copy_14 ?_
        refine rv_aload_n hX dX4_copy_15 rfl ?_
        refine rv_iload_n hX dX4_copy_16 rfl ?_
        refine rv_iload hX dX4_copy_17 rfl ?_
        refine nv_iadd hX dX4_copy_19 ?_
        refine mv_ld hX (j := j1) h1.1 h1.2.1 h1.2.2.1 h1.2.2.2 (by omega) dX4_copy_20 ?_
        refine mv_st hX (j := j2) h2.1 h2.2.1 h2.2.2.1 h2.2.2.2 (by omega) dX4_copy_21 ?_
        refine nv_iinc hX (m := 1) dX4_copy_22 rfl (by decide) (rv_st_5 rfl) ?_
        refine rv_goto hX 3 dX4_copy_25 (by decide) ?_
        have hrd : (rv_sA σ j2 (sp_cp (σ.2.1 j1) (σ.2.1 j2) p q k)).2.1 j1 (p + k) = σ.2.1 j1 (p + k) := by
          rw [rv_sA_2]
          by_cases e : j1 = j2
          · subst e
            rw [if_pos rfl]
            unfold sp_cp
            rw [if_neg (by omega)]
          · rw [if_neg e]
        have he : rv_sU (rv_sA σ j2 (sp_cp (σ.2.1 j1) (σ.2.1 j2) p q k)) j2 (q + k) (σ.2.1 j1 (p + k)) = rv_sA σ j2 (sp_cp (σ.2.1 j1) (σ.2.1 j2) p q (k + 1)) := by
          unfold rv_sU rv_sA
          simp only
          congr 2
          funext i s
          by_cases e : i = j2
          · subst e
            by_cases e2 : s = q + k
            · subst e2
              rw [if_pos ⟨rfl, rfl⟩, if_pos rfl]
              unfold sp_cp
              rw [if_pos (by omega), show q + k - q = k by omega]
            · rw [if_neg (by omega), if_pos rfl, if_pos rfl]
              unfold sp_cp
              by_cases e3 : q ≤ s ∧ s < q + k
              · rw [if_pos e3, if_pos (by omega)]
              · rw [if_neg e3, if_neg (by omega)]
          · rw [if_neg (fun h => e h.1), if_neg e, if_neg e]
        rw [hrd, he]
        exact ih (k + 1) (by omega) (by omega)
  refine nv_iconst hX (m := 0) (by decide) dX4_copy_0 ?_
  refine rv_istore hX dX4_copy_1 (rv_st_5 rfl) ?_
  have e0 : rv_sA σ j2 (sp_cp (σ.2.1 j1) (σ.2.1 j2) p q 0) = σ := by
    unfold rv_sA sp_cp
    have : (fun i => if i = j2 then (fun i => if q ≤ i ∧ i < q + 0 then σ.2.1 j1 (p + (i - q)) else σ.2.1 j2 i) else σ.2.1 i) = σ.2.1 := by
      funext i
      by_cases e : i = j2
      · rw [if_pos e]
        funext s
        rw [if_neg (by omega), e]
      · rw [if_neg e]
    rw [this]
  have := loop (n + 1) 0 (Nat.zero_le _) (by omega)
  rw [e0] at this
  exact this
theorem mv_copy {X : rv_X} {y : MethodName} {cc : ByteArray} {d ix : Nat} {hb : rv_H} {o : Nat} {σ : rv_S} {pc : Nat} {L : List (Option Value)} {st stk : List Value} (hX : rv_K X y cc d) (hl : rv_ls y.cls ix yX4_copy) (hG : rv_GK X.1) {j1 j2 p q n : Nat} (h1 : rv_ia j1) (h2 : rv_ia j2) (hp : p + n ≤ rv_s j1) (hq : q + n ≤ rv_s j2) (hdis : j1 ≠ j2 ∨ p + n ≤ q ∨ q + n ≤ p) (hd : 1 ≤ d) (hst : stk = .int (nI n) :: .int (nI q) :: .ref (o + j2) :: .int (nI p) :: .ref (o + j1) :: st) (hroom : (st.map fun v => v.category).sum ≤ 8) (dg : decode cc pc = .ok (.invokestatic ix, 3)) (kk : rv_V X (rv_mh hb o (rv_sA σ j2 (sp_cp (σ.2.1 j1) (σ.2.1 j2) p q n))) (pc + 3) L (.int (nI (q + n)) :: st)) : rv_V X (rv_mh hb o σ) pc L stk :=
  rv_invS hX hl mdX4_copy (m_copy hG (d := 0) h1 h2 hp hq hdis hb o) hd rfl hst hroom dg (fun v h' hq => by
    obtain ⟨v2, τ, e1, e2, r, e3, e4, e5⟩ := hq
    cases e1
    subst e2 e3 e4 e5
    exact kk) (fun E h' hq => by
    obtain ⟨v2, τ, e1, -⟩ := hq
    cases e1)
