/-! EVERY CALL KEEPS SOUNDNESS, 2: the draft; done -/
set_option maxRecDepth 100000
theorem wfD.rule {S : List Nat} {k m rel : Nat} {sal : Int32} {t : Bool} (hk : k ≤ 2) (hm : m < 4) (hs : -10 ≤ sal.toInt ∧ sal.toInt ≤ 10) (hr : rel < S.length) : wfD S (d_mk k m sal t rel [] []) := ⟨hk, hm, hs, fun _ => ⟨hr, Nat.zero_le _, ⟨fun t ht => (by cases ht), fun i j a b h => (by cases h)⟩, fun _ t ht => (by cases ht), Nat.zero_le _, Nat.zero_le _, fun q => absurd rfl q, fun it hi => (by cases hi), fun it hi => (by cases hi)⟩⟩
theorem wfD.addT {S : List Nat} {d : wDr} (h : wfD S d) (hk : d.k ≠ 0) (hl : d.lacks S = true) {t : Nat} (ht : t < 108 ∨ (d.its = [] ∧ d.k = 1 ∧ 200 ≤ t ∧ t < 232 ∧ sp_gslot d.hts 0 = none)) : wfD S (d.addT t) := by
  obtain ⟨a, b, c, e⟩ := h
  obtain ⟨w1, w2, w3, w4, w5, w6, w7, w8, w9⟩ := e hk
  unfold wDr.lacks at hl
  have hl := of_decide_eq_true hl
  cases hi : d.its.getLast? with
  | none =>
    have hn : d.its = [] := List.getLast?_eq_none_iff.mp hi
    have e1 : d.addT t = d_mk d.k d.mod d.sal d.tells d.rel (d.hts ++ [t]) d.its := by unfold wDr.addT; rw [hi]
    have e2 : d.typed = d.hts.length := by unfold wDr.typed; rw [hi]
    have e3 : d.want S = S.getD d.rel 0 := by unfold wDr.want; rw [hi]
    rw [e1]
    refine ⟨a, b, c, fun _ => ⟨w1, ?_, ⟨fun x hx => ?_, fun i j x y hx hy h1 h2 => ?_⟩, fun q x hx => ?_, w5, w6, fun q => absurd hn q, w8, w9⟩⟩
    · show (d.hts ++ [t]).length ≤ _
      rw [List.length_append]
      show d.hts.length + 1 ≤ S.getD d.rel 0
      omega
    · rcases List.mem_append.mp (show x ∈ d.hts ++ [t] from hx) with hx | hx
      · exact w3.1 x hx
      · rw [List.mem_singleton.mp hx]
        rcases ht with ht | ht
        · exact Or.inl ht
        · exact Or.inr ⟨ht.2.2.1, ht.2.2.2.1⟩
    · have get : ∀ (i x : Nat), (d.hts ++ [t])[i]? = some x → 200 ≤ x → (i < d.hts.length ∧ d.hts[i]? = some x ∧ sp_gslot d.hts 0 ≠ none) ∨ (i = d.hts.length ∧ x = t) := fun i x hx h1 => by
        by_cases q : i < d.hts.length
        · rw [List.getElem?_append_left q] at hx
          refine Or.inl ⟨q, hx, fun g => ?_⟩
          have := sp_gslot_none g x (List.mem_of_getElem? hx)
          omega
        · have hil := (List.getElem?_eq_some_iff.mp hx).1
          rw [List.length_append] at hil
          have hil : i < d.hts.length + 1 := hil
          have : i = d.hts.length := by omega
          subst this
          rw [List.getElem?_append_right (Nat.le_refl _), Nat.sub_self] at hx
          cases hx
          exact Or.inr ⟨rfl, rfl⟩
      have hgs : 200 ≤ t → sp_gslot d.hts 0 = none := fun q => by
        rcases ht with ht | ht
        · omega
        · exact ht.2.2.2.2
      rcases get i x hx h1 with g | g <;> rcases get j y hy h2 with g' | g'
      · exact w3.2 i j x y g.2.1 g'.2.1 h1 h2
      · exact absurd (hgs (by rw [← g'.2]; exact h2)) g.2.2
      · exact absurd (hgs (by rw [← g.2]; exact h1)) g'.2.2
      · rw [g.1, g'.1]
    · rcases List.mem_append.mp (show x ∈ d.hts ++ [t] from hx) with hx | hx
      · exact w4 q x hx
      · rw [List.mem_singleton.mp hx]
        have q' : d.k = 2 := q
        rcases ht with ht | ht
        · omega
        · omega
  | some it =>
    have hne : d.its ≠ [] := fun q => by rw [q] at hi; cases hi
    have hm : it ∈ d.its := List.mem_of_getLast? hi
    have e1 : d.addT t = d_mk d.k d.mod d.sal d.tells d.rel d.hts (d.its.dropLast ++ [(it.1, it.2.1, it.2.2 ++ [t])]) := by unfold wDr.addT; rw [hi]
    have e2 : d.typed = it.2.2.length := by unfold wDr.typed; rw [hi]
    have e3 : d.want S = sp_tof S it := by unfold wDr.want; rw [hi]
    have ht' : t < 108 := by
      rcases ht with ht | ht
      · exact ht
      · exact absurd ht.1 hne
    have hsp : d.its = d.its.dropLast ++ [it] := by
      have h9 := List.dropLast_concat_getLast hne
      rw [List.getLast?_eq_some_getLast hne] at hi
      rw [Option.some.inj hi] at h9
      exact h9.symm
    have hpi := w8 it hm
    rw [e1]
    refine ⟨a, b, c, fun _ => ⟨w1, w2, w3, w4, ?_, ?_, fun _ => w7 hne, fun jt hj => ?_, fun jt hj => ?_⟩⟩
    · show (d.its.dropLast ++ [(it.1, it.2.1, it.2.2 ++ [t])]).length ≤ 6
      rw [hsp, List.length_append] at w5
      rw [List.length_append]
      exact w5
    · show ((d.its.dropLast ++ [(it.1, it.2.1, it.2.2 ++ [t])]).filter (fun it => it.1 == 0)).length ≤ 3
      rw [hsp, List.filter_append, List.length_append] at w6
      rw [List.filter_append, List.length_append]
      have : ([(it.1, it.2.1, it.2.2 ++ [t])].filter (fun it => it.1 == 0)).length = ([it].filter (fun it => it.1 == 0)).length := by
        by_cases q : it.1 = 0
        · rw [List.filter_cons_of_pos (by simpa using q), List.filter_cons_of_pos (by simpa using q)]
          rfl
        · rw [List.filter_cons_of_neg (by simpa using q), List.filter_cons_of_neg (by simpa using q)]
          try rfl
      rw [this]
      exact w6
    · rcases List.mem_append.mp (show jt ∈ d.its.dropLast ++ [(it.1, it.2.1, it.2.2 ++ [t])] from hj) with hj | hj
      · exact w8 jt ((List.dropLast_sublist _).mem hj)
      · rw [List.mem_singleton.mp hj]
        obtain ⟨p1, p2, p3, p4, p5, p6⟩ := hpi
        refine ⟨p1, p2, p3, p4, ?_, fun x hx => ?_⟩
        · show (it.2.2 ++ [t]).length ≤ sp_tof S it
          rw [List.length_append]
          show it.2.2.length + 1 ≤ _
          omega
        · rcases List.mem_append.mp (show x ∈ it.2.2 ++ [t] from hx) with hx | hx
          · exact p6 x hx
          · rw [List.mem_singleton.mp hx]; exact ht'
    · have hj' : jt ∈ (d.its.dropLast ++ [(it.1, it.2.1, it.2.2 ++ [t])]).dropLast := hj
      rw [List.dropLast_concat] at hj'
      exact w9 jt hj'
theorem wfD.addI {S : List Nat} {d : wDr} (h : wfD S d) (hc : d.can S = true) {kind what : Nat} (hp : sp_pre S (kind, what, [])) (hn : kind = 0 → d.nat < 3) : wfD S (d.addI kind what) := by
  obtain ⟨hk, h6, hl⟩ := wDr.can_spec hc
  obtain ⟨a, b, c, e⟩ := h
  obtain ⟨w1, w2, w3, w4, w5, w6, w7, w8, w9⟩ := e hk
  unfold wDr.lacks at hl
  have hl := of_decide_eq_false hl
  have hall : ∀ jt, jt ∈ d.its → jt.2.2.length = sp_tof S jt := fun jt hj => by
    cases hi : d.its.getLast? with
    | none => rw [List.getLast?_eq_none_iff.mp hi] at hj; cases hj
    | some it =>
      have hne : d.its ≠ [] := fun q => by rw [q] at hi; cases hi
      have e2 : d.typed = it.2.2.length := by unfold wDr.typed; rw [hi]
      have e3 : d.want S = sp_tof S it := by unfold wDr.want; rw [hi]
      have hsp : d.its = d.its.dropLast ++ [it] := by
        have h9 := List.dropLast_concat_getLast hne
        rw [List.getLast?_eq_some_getLast hne] at hi
        rw [Option.some.inj hi] at h9
        exact h9.symm
      rw [hsp] at hj
      rcases List.mem_append.mp hj with hj | hj
      · exact w9 jt hj
      · rw [List.mem_singleton.mp hj]
        have := (w8 it (List.mem_of_getLast? hi)).2.2.2.2.1
        omega
  have hh : d.hts.length = S.getD d.rel 0 := by
    by_cases q : d.its = []
    · have e2 : d.typed = d.hts.length := by unfold wDr.typed; rw [q]; rfl
      have e3 : d.want S = S.getD d.rel 0 := by unfold wDr.want; rw [q]; rfl
      omega
    · exact w7 q
  refine ⟨a, b, c, fun _ => ⟨w1, w2, w3, w4, ?_, ?_, fun _ => hh, fun jt hj => ?_, fun jt hj => ?_⟩⟩
  · show (d.its ++ [(kind, what, [])]).length ≤ 6
    rw [List.length_append]
    exact h6
  · show ((d.its ++ [((kind, what, []) : sp_I)]).filter (fun it : sp_I => it.1 == 0)).length ≤ 3
    rw [List.filter_append, List.length_append]
    by_cases q : kind = 0
    · have := hn q
      have h1 := List.length_filter_le (fun it : sp_I => it.1 == 0) [(kind, what, [])]
      have h2 : (d.its.filter (fun it => it.1 == 0)).length < 3 := this
      have h3 : ([(kind, what, ([] : List Nat))] : List sp_I).length = 1 := rfl
      omega
    · have e0 : [((kind, what, []) : sp_I)].filter (fun it : sp_I => it.1 == 0) = [] := List.filter_cons_of_neg (p := fun it : sp_I => it.1 == 0) (by simpa using q)
      rw [e0]
      exact w6
  · rcases List.mem_append.mp (show jt ∈ d.its ++ [(kind, what, [])] from hj) with hj | hj
    · exact w8 jt hj
    · rw [List.mem_singleton.mp hj]; exact hp
  · have hj' : jt ∈ (d.its ++ [(kind, what, [])]).dropLast := hj
    rw [List.dropLast_concat] at hj'
    exact hall jt hj'
theorem wfD.off {S : List Nat} {d : wDr} (h : wfD S d) : wfD S d.off := ⟨Nat.zero_le _, h.2.1, h.2.2.1, fun q => absurd rfl q⟩
theorem k_rule {N : Nat} {s : wS} (h : wfS N s) {r : Int32} : wfS (N + 1) (o_rule s r).2.2 := by
  unfold o_rule
  cases hk : w_idx r s.w.S.length with
  | none => exact h.mn
  | some k =>
    have hS8 := h.1.S.1
    have := (w_idx_some (by omega) hk).1
    show wfS (N + 1) (if 0 < s.d.k then ((2, 0, s) : wA) else (0, 0, s.setd (d_mk 1 s.d.mod s.d.sal s.d.tells k [] []))).2.2
    split
    · exact h.mn
    · exact h.setd (.rule (by decide) h.2.1.2.1 h.2.1.2.2.1 this)
theorem k_deed {N : Nat} {s : wS} (h : wfS N s) {m sal r : Int32} {t : Bool} : wfS (N + 1) (o_deed s m sal t r).2.2 := by
  unfold o_deed
  cases hk : w_idx r s.w.S.length with
  | none => exact h.mn
  | some k =>
    have hS8 := h.1.S.1
    have h1 := (w_idx_some (by omega) hk).1
    show wfS (N + 1) (if ¬ (w_rng 0 3 m ∧ -10 ≤ sal ∧ sal ≤ nI 10) then ((2, 0, s) : wA) else if 0 < s.d.k then (3, 0, s) else (0, 0, s.setd (d_mk 2 m.toNatClampNeg sal t k [] []))).2.2
    split
    · exact h.mn
    · rename_i hm
      obtain ⟨m1, m2, m3⟩ := Classical.not_not.mp hm
      obtain ⟨n, n1, n2, rfl, n3⟩ := w_rng_nat (by decide) (by decide) m1
      split
      · exact h.mn
      · refine h.setd (.rule (by decide) (by omega) ⟨?_, ?_⟩ h1)
        · have := Int32.le_iff_toInt_le.mp m2
          simpa using this
        · have := Int32.le_iff_toInt_le.mp m3
          rw [nI_toInt (by decide)] at this
          exact this
theorem k_variable {N : Nat} {s : wS} (h : wfS N s) {v : Int32} : wfS (N + 1) (o_variable s v).2.2 := by
  unfold o_variable
  split
  · exact h.mn
  · rename_i hv
    obtain ⟨n, n1, n2, rfl, n3⟩ := w_rng_nat (by decide) (by decide) (Classical.not_not.mp hv)
    split
    · exact h.mn
    · rename_i hc
      have hc1 : s.d.k ≠ 0 := fun q => hc (Or.inl q)
      have hc2 : s.d.lacks s.w.S = true := by
        cases e : s.d.lacks s.w.S with
        | true => rfl
        | false => exact absurd (Or.inr e) hc
      exact h.setd (h.2.1.addT hc1 hc2 (Or.inl (by rw [n3]; omega)))
theorem k_value {N : Nat} {s : wS} (h : wfS N s) {v : Int32} : wfS (N + 1) (o_value s v).2.2 := by
  unfold o_value
  split
  · exact h.mn
  · rename_i hv
    obtain ⟨n, n1, n2, rfl, n3⟩ := w_rng_nat (by decide) (by decide) (Classical.not_not.mp hv)
    split
    · exact h.mn
    · rename_i hc
      have hc1 : s.d.k ≠ 0 := fun q => hc (Or.inl q)
      have hc2 : s.d.lacks s.w.S = true := by
        cases e : s.d.lacks s.w.S with
        | true => rfl
        | false => exact absurd (Or.inr e) hc
      exact h.setd (h.2.1.addT hc1 hc2 (Or.inl (by rw [n3]; omega)))
theorem k_gather {N : Nat} {s : wS} (h : wfS N s) {kd v : Int32} : wfS (N + 1) (o_gather s kd v).2.2 := by
  unfold o_gather
  split
  · exact h.mn
  · rename_i hv
    obtain ⟨hv1, hv2⟩ := Classical.not_not.mp hv
    obtain ⟨n, n1, n2, rfl, n3⟩ := w_rng_nat (by decide) (by decide) hv1
    obtain ⟨m, m1, m2, rfl, m3⟩ := w_rng_nat (by decide) (by decide) hv2
    split
    · exact h.mn
    · rename_i hc
      obtain ⟨c1, c2, c3, c4⟩ := Classical.not_not.mp hc
      exact h.setd (h.2.1.addT (by omega) c3 (Or.inr ⟨List.eq_nil_of_length_eq_zero c2, c1, by rw [n3, m3]; omega, by rw [n3, m3]; omega, c4⟩))
theorem k_atom {N : Nat} {s : wS} (h : wfS N s) {r : Int32} : wfS (N + 1) (o_atom s r).2.2 := by
  unfold o_atom
  cases hk : w_idx r s.w.S.length with
  | none => exact h.mn
  | some k =>
    have hS8 := h.1.S.1
    have h1 := (w_idx_some (by omega) hk).1
    show wfS (N + 1) (if ¬ (s.d.can s.w.S = true ∧ s.d.nat < 3) then ((2, 0, s) : wA) else (0, 0, s.setd (s.d.addI 0 k))).2.2
    split
    · exact h.mn
    · rename_i hc
      obtain ⟨c1, c2⟩ := Classical.not_not.mp hc
      exact h.setd (h.2.1.addI c1 ⟨show (0 : Nat) ≤ 3 by decide, fun _ => h1, fun q => absurd q (show ¬ (0 : Nat) = 2 by decide), fun q => absurd q (show ¬ (0 : Nat) = 3 by decide), Nat.zero_le _, fun t ht => (by cases ht)⟩ (fun _ => c2))
theorem k_not {N : Nat} {s : wS} (h : wfS N s) {r : Int32} : wfS (N + 1) (o_not s r).2.2 := by
  unfold o_not
  cases hk : w_idx r s.w.S.length with
  | none => exact h.mn
  | some k =>
    have hS8 := h.1.S.1
    have h1 := (w_idx_some (by omega) hk).1
    show wfS (N + 1) (if s.d.can s.w.S = false then ((2, 0, s) : wA) else (0, 0, s.setd (s.d.addI 1 k))).2.2
    split
    · exact h.mn
    · rename_i hc
      have c1 : s.d.can s.w.S = true := by
        cases e : s.d.can s.w.S with
        | true => rfl
        | false => exact absurd e hc
      exact h.setd (h.2.1.addI c1 ⟨show (1 : Nat) ≤ 3 by decide, fun _ => h1, fun q => absurd q (show ¬ (1 : Nat) = 2 by decide), fun q => absurd q (show ¬ (1 : Nat) = 3 by decide), Nat.zero_le _, fun t ht => (by cases ht)⟩ (fun q => absurd q (by decide)))
theorem k_test {N : Nat} {s : wS} (h : wfS N s) {r : Int32} : wfS (N + 1) (o_test s r).2.2 := by
  unfold o_test
  split
  · exact h.mn
  · rename_i hv
    obtain ⟨n, n1, n2, rfl, n3⟩ := w_rng_nat (by decide) (by decide) (Classical.not_not.mp hv)
    split
    · exact h.mn
    · rename_i hc
      have c1 : s.d.can s.w.S = true := by
        cases e : s.d.can s.w.S with
        | true => rfl
        | false => exact absurd e hc
      exact h.setd (h.2.1.addI c1 ⟨show (2 : Nat) ≤ 3 by decide, fun q => absurd q (show ¬ (2 : Nat) ≤ 1 by decide), fun _ => by rw [n3]; exact n2, fun q => absurd q (show ¬ (2 : Nat) = 3 by decide), Nat.zero_le _, fun t ht => (by cases ht)⟩ (fun q => absurd q (by decide)))
theorem k_plus {N : Nat} {s : wS} (h : wfS N s) : wfS (N + 1) (o_plus s).2.2 := by
  unfold o_plus
  split
  · exact h.mn
  · rename_i hc
    have c1 : s.d.can s.w.S = true := by
      cases e : s.d.can s.w.S with
      | true => rfl
      | false => exact absurd e hc
    exact h.setd (h.2.1.addI c1 ⟨show (3 : Nat) ≤ 3 by decide, fun q => absurd q (show ¬ (3 : Nat) ≤ 1 by decide), fun q => absurd q (show ¬ (3 : Nat) = 2 by decide), fun _ => rfl, Nat.zero_le _, fun t ht => (by cases ht)⟩ (fun q => absurd q (by decide)))
theorem k_cancel {N : Nat} {s : wS} (h : wfS N s) : wfS (N + 1) (o_cancel s).2.2 := h.setd h.2.1.off
theorem sp_ndC_snoc {Cs : List sp_C} {C : sp_C} {n : Nat} (h : (Cs.map (fun C => C.num)).Nodup) (hb : ∀ E, E ∈ Cs → E.num < n) (hC : C.num = n) : ((Cs ++ [C]).map (fun C => C.num)).Nodup := by
  rw [List.map_append, List.nodup_append]
  refine ⟨h, by simp, fun x hx y hy e => ?_⟩
  obtain ⟨E, hE, rfl⟩ := List.mem_map.mp hx
  have hy' : y = C.num := by simpa using hy
  have := hb E hE
  omega
theorem k_done {N : Nat} {s : wS} (hN : N < 24) (h : wfS N s) : wfS (N + 1) (o_done s).2.2 := by
  unfold o_done
  split
  · exact h.mn
  · rename_i hr
    have hr : wDr.ready s = true := by
      cases e : wDr.ready s with
      | true => rfl
      | false => exact absurd e hr
    obtain ⟨r1, r2, r3, r4, r5, r6, r7⟩ := wDr.ready_spec.mp hr
    have hS3 := h.1.S.2
    have hC : ∀ n, n < 100 → sp_wfC s.w.S (s.d.C n) := fun n hn => wDr.C_wf hS3 h.2.1 ⟨r1, r2, r3⟩ r5 hn
    have hm := h.1.mn
    obtain ⟨hS, hR, hD, hT, hset, hA, hK, hNw, hE⟩ := hm
    have hR0 := h.1.R.2.2.2
    have hD0 := h.1.D.2.2.2
    split
    · rename_i hk
      have h9 : wfS (N + 1) (s.setw (s.w.setD (s.w.D ++ [s.d.C s.w.nd]) (s.w.nd + 1))) := by
        refine wfS.toS h ?_ ?_ ?_
        rotate_left
        · rfl
        · exact Nat.le_refl _
        refine ⟨hS, hR, ⟨?_, fun C hC9 => ?_, sp_ndC_snoc hD.2.2.1 (fun E hE9 => (hD.2.1 E hE9).2.1) rfl, ?_⟩, hT, hset, hA, hK, hNw, hE.1, fun e he => ⟨?_, (hE.2 e he).2.1, (hE.2 e he).2.2.1, (hE.2 e he).2.2.2.1, fun C hC9 hn => ?_⟩⟩
        · show (s.w.D ++ [s.d.C s.w.nd]).length ≤ 6
          rw [List.length_append]
          exact r7 (by omega)
        · rcases List.mem_append.mp (show C ∈ s.w.D ++ [s.d.C s.w.nd] from hC9) with q | q
          · have := hD.2.1 C q
            exact ⟨this.1, by show C.num < s.w.nd + 1; omega, this.2.2⟩
          · rw [List.mem_singleton.mp q]
            refine ⟨hC _ (by omega), Nat.lt_succ_self _, ?_⟩
            show sp_gslot s.d.hts 0 = none
            cases e : sp_gslot s.d.hts 0 with
            | none => rfl
            | some x =>
              obtain ⟨-, t, g1, g2⟩ := sp_gslot_get e
              have := (h.2.1.2.2.2 r1).2.2.2.1 hk t (List.mem_of_getElem? g1)
              omega
        · show s.w.nd + 1 ≤ N + 1
          omega
        · have := (hE.2 e he).1
          show e.1 < s.w.nd + 1
          omega
        · rcases List.mem_append.mp (show C ∈ s.w.D ++ [s.d.C s.w.nd] from hC9) with q | q
          · exact (hE.2 e he).2.2.2.2 C q hn
          · rw [List.mem_singleton.mp q] at hn
            have h1 := (hE.2 e he).1
            have h2 : s.w.nd = e.1 := hn
            omega
      exact ⟨h9.1, h9.2.1.off, h9.2.2⟩
    · rename_i hk
      cases hs : (s.w.setR (s.w.R ++ [s.d.C s.w.nr]) (s.w.nr + 1)).stl with
      | none => exact h.mn
      | some w' =>
        have hX := h.P.mn (Nat.le_succ N) (Nat.le_refl _) (Nat.le_refl _) (Nat.le_refl _)
        obtain ⟨⟨xS, xR, xD, xT, xF, xA, xK, xN, xE⟩, -⟩ := hX
        have hP : wfP (N + 1) (1200 * N) (10 * N) (20 * N) (s.w.setR (s.w.R ++ [s.d.C s.w.nr]) (s.w.nr + 1)) := by
          refine ⟨xS, ⟨?_, fun C hC9 => ?_, sp_ndC_snoc xR.2.2.1 (fun E hE9 => (xR.2.1 E hE9).2) rfl, ?_⟩, xD, xT, xF, xA, xK, xN, xE⟩
          · show (s.w.R ++ [s.d.C s.w.nr]).length ≤ 10
            rw [List.length_append]
            exact r6 (by have := h.2.1.1; omega)
          · rcases List.mem_append.mp (show C ∈ s.w.R ++ [s.d.C s.w.nr] from hC9) with q | q
            · have := xR.2.1 C q
              exact ⟨this.1, by show C.num < s.w.nr + 1; omega⟩
            · rw [List.mem_singleton.mp q]
              exact ⟨hC _ (by omega), Nat.lt_succ_self _⟩
          · show s.w.nr + 1 ≤ N + 1
            omega
        have hx := hP.stl hs
        obtain ⟨F, -, rfl⟩ := wW.stl_spec hs
        have h9 := wfS.toS h (wfW.of hx (by omega) (by omega) (by omega)) rfl (Nat.le_refl _)
        exact ⟨h9.1, h9.2.1.off, h9.2.2⟩
