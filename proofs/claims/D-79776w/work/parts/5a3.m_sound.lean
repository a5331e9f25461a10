/-! THE REFERENCE: whether a draft is sound -/
set_option maxRecDepth 100000
/-! bits of ints -/
def ib (w : Int32) (k : Nat) : Bool := w.toBitVec.getLsbD k
theorem ib_or (a b : Int32) (k : Nat) : ib (a ||| b) k = (ib a k || ib b k) := by
  unfold ib
  rw [Int32.toBitVec_or, BitVec.getLsbD_or]
theorem ib_0 (k : Nat) : ib 0 k = false := by
  show (BitVec.ofNat 32 0).getLsbD k = false
  simp
theorem ib_sm : ∀ v : Fin 32, ((nI v.1 &&& 31).toBitVec.smod 32).toNat = v.1 := by decide +kernel
theorem ib_e3 (j : Nat) : (1 : BitVec 32).getLsbD j = decide (j = 0) := by
  have := BitVec.getLsbD_one (w := 32) (i := j)
  simpa using this
theorem ib_one {v : Nat} (hv : v < 32) (k : Nat) : ib (nI 1 <<< (nI v &&& 31)) k = decide (k = v) := by
  unfold ib
  rw [Int32.toBitVec_shiftLeft]
  show ((1 : BitVec 32) <<< ((nI v &&& 31).toBitVec.smod 32).toNat).getLsbD k = _
  rw [ib_sm ⟨v, hv⟩]
  show ((1 : BitVec 32) <<< v).getLsbD k = _
  rw [BitVec.getLsbD_shiftLeft, ib_e3]
  by_cases h : k = v
  · subst h
    simp [hv]
  · by_cases g : k < v
    · simp [g, h]
    · have : ¬ k - v = 0 := by omega
      simp [this, h]
theorem ib_test {v : Nat} (hv : v < 32) (w : Int32) : (w >>> (nI v &&& 31)) &&& nI 1 = nI 1 ↔ ib w v = true := by
  unfold ib
  rw [← Int32.toBitVec_inj, Int32.toBitVec_and, Int32.toBitVec_shiftRight]
  show (w.toBitVec.sshiftRight ((nI v &&& 31).toBitVec.smod 32).toNat) &&& (1 : BitVec 32) = (1 : BitVec 32) ↔ _
  rw [ib_sm ⟨v, hv⟩]
  show (w.toBitVec.sshiftRight v) &&& (1 : BitVec 32) = (1 : BitVec 32) ↔ _
  have h0 : (w.toBitVec.sshiftRight v).getLsbD 0 = w.toBitVec.getLsbD v := by
    rw [BitVec.getLsbD_sshiftRight]
    simp [hv]
  constructor
  · intro h
    have := congrArg (fun x => BitVec.getLsbD x 0) h
    simp only [BitVec.getLsbD_and, ib_e3, h0] at this
    simpa using this
  · intro h
    apply BitVec.eq_of_getLsbD_eq
    intro i hi
    rw [BitVec.getLsbD_and, ib_e3]
    by_cases q : i = 0
    · subst q
      rw [h0, h]
      rfl
    · simp [q]
theorem ib_test0 {v : Nat} (hv : v < 32) (w : Int32) : (w >>> (nI v &&& 31)) &&& nI 1 = nI 0 ↔ ib w v = false := by
  have h1 := ib_test hv w
  have h2 : (w >>> (nI v &&& 31)) &&& nI 1 = nI 0 ∨ (w >>> (nI v &&& 31)) &&& nI 1 = nI 1 := by
    by_cases q : ib w v = true
    · exact Or.inr (h1.mpr q)
    · refine Or.inl ?_
      rw [← Int32.toBitVec_inj, Int32.toBitVec_and]
      apply BitVec.eq_of_getLsbD_eq
      intro i hi
      have hn : ¬ ((w >>> (nI v &&& 31)).toBitVec.getLsbD 0 = true) := fun h => q (h1.mp (by
        rw [← Int32.toBitVec_inj, Int32.toBitVec_and]
        apply BitVec.eq_of_getLsbD_eq
        intro i hi
        show (_ &&& (1 : BitVec 32)).getLsbD i = (1 : BitVec 32).getLsbD i
        rw [BitVec.getLsbD_and, ib_e3]
        by_cases q : i = 0
        · subst q; rw [h]; rfl
        · simp [q]))
      show (_ &&& (1 : BitVec 32)).getLsbD i = (0 : BitVec 32).getLsbD i
      rw [BitVec.getLsbD_and, ib_e3]
      by_cases q : i = 0
      · subst q
        simpa using hn
      · simp [q]
  rcases h2 with h2 | h2
  · refine ⟨fun _ => ?_, fun _ => h2⟩
    cases e : ib w v with
    | false => rfl
    | true => rw [h1.mpr e] at h2; exact absurd h2 (by decide)
  · refine ⟨fun h => ?_, fun h => ?_⟩
    · rw [h2] at h; exact absurd h (by decide)
    · rw [h1.mp h2] at h; cases h
/-! soundness, a term at a time -/
def sp_bnd (it : sp_I) (i : Nat) : Bool := decide (it.1 = 0) || (decide (it.1 = 3) && decide (i = 2))
def sp_okj (kn : Nat → Bool) (it : sp_I) (j : Nat) : Bool := (List.range j).all (fun i => sp_bnd it i || sp_knT kn (it.2.2.getD i 0))
def sp_ownj (it : sp_I) (j x : Nat) : Bool := (List.range j).any (fun i => sp_bnd it i && decide (it.2.2.getD i 0 = 100 + x))
theorem sp_okj_succ (kn : Nat → Bool) (it : sp_I) (j : Nat) : sp_okj kn it (j + 1) = (sp_okj kn it j && (sp_bnd it j || sp_knT kn (it.2.2.getD j 0))) := by
  unfold sp_okj
  rw [List.range_succ, List.all_append]
  simp
theorem sp_ownj_succ (it : sp_I) (j x : Nat) : sp_ownj it (j + 1) x = (sp_ownj it j x || (sp_bnd it j && decide (it.2.2.getD j 0 = 100 + x))) := by
  unfold sp_ownj
  rw [List.range_succ, List.any_append]
  simp
theorem sp_okj_all {S : List Nat} {it : sp_I} (hw : sp_wfI S it) (kn : Nat → Bool) : sp_okj kn it it.2.2.length = sp_okI kn it := by
  obtain ⟨w1, w2, w3, w4, w5⟩ := hw
  rw [Bool.eq_iff_iff]
  unfold sp_okj sp_okI
  rw [List.all_eq_true, Bool.or_eq_true]
  have get : ∀ i, i < it.2.2.length → it.2.2[i]? = some (it.2.2.getD i 0) := fun i hi => sp_S_getD hi
  by_cases h0 : it.1 = 0
  · refine ⟨fun _ => Or.inl (by simp [h0]), fun _ i _ => ?_⟩
    unfold sp_bnd
    rw [decide_eq_true h0]
    rfl
  · have hf : (it.1 == 0) = false := by simpa using h0
    by_cases h3 : it.1 = 3
    · have hl := (w4 h3).2
      rw [if_neg (by omega), List.all_eq_true]
      constructor
      · intro h
        refine Or.inr (fun t ht => ?_)
        obtain ⟨i, hi⟩ := List.getElem?_of_mem ht
        rw [List.getElem?_take] at hi
        split at hi
        · rename_i q
          have := h i (List.mem_range.mpr (by omega))
          unfold sp_bnd at this
          rw [decide_eq_false h0, decide_eq_false (show ¬ i = 2 by omega), sp_getD hi] at this
          simpa using this
        · cases hi
      · rintro (h | h) i hi
        · rw [hf] at h; cases h
        · have hi3 := List.mem_range.mp hi
          unfold sp_bnd
          by_cases q : i = 2
          · rw [decide_eq_true h3, decide_eq_true q]
            simp
          · rw [h (it.2.2.getD i 0) (List.mem_of_getElem? (i := i) (by rw [List.getElem?_take, if_pos (by omega)]; exact get i hi3))]
            simp
    · rw [if_pos (by omega), List.all_eq_true]
      constructor
      · intro h
        refine Or.inr (fun t ht => ?_)
        obtain ⟨i, hi⟩ := List.getElem?_of_mem ht
        have := h i (List.mem_range.mpr (List.getElem?_eq_some_iff.mp hi).1)
        unfold sp_bnd at this
        rw [decide_eq_false h0, decide_eq_false h3, sp_getD hi] at this
        simpa using this
      · rintro (h | h) i hi
        · rw [hf] at h; cases h
        · rw [h (it.2.2.getD i 0) (List.mem_of_getElem? (get i (List.mem_range.mp hi)))]
          simp
theorem sp_ownj_all {S : List Nat} {it : sp_I} (hw : sp_wfI S it) (kn : Nat → Bool) (x : Nat) : (kn x || sp_ownj it it.2.2.length x) = sp_knI kn it x := by
  obtain ⟨w1, w2, w3, w4, w5⟩ := hw
  unfold sp_knI
  rw [Bool.or_assoc]
  congr 1
  rw [Bool.eq_iff_iff]
  unfold sp_ownj
  rw [List.any_eq_true]
  constructor
  · rintro ⟨i, hi, h⟩
    have hil := List.mem_range.mp hi
    obtain ⟨h1, h2⟩ := Bool.and_eq_true_iff.mp h
    have h2 := of_decide_eq_true h2
    unfold sp_bnd at h1
    rcases Bool.or_eq_true_iff.mp h1 with q | q
    · rw [q, Bool.true_and]
      refine Bool.or_eq_true_iff.mpr (Or.inl (List.any_eq_true.mpr ⟨it.2.2.getD i 0, List.mem_of_getElem? (sp_S_getD hil), decide_eq_true h2⟩))
    · obtain ⟨q1, q2⟩ := Bool.and_eq_true_iff.mp q
      have q2 := of_decide_eq_true q2
      subst q2
      rw [q1, decide_eq_true h2]
      simp
  · intro h
    rcases Bool.or_eq_true_iff.mp h with q | q
    · obtain ⟨q1, q2⟩ := Bool.and_eq_true_iff.mp q
      obtain ⟨t, ht, q3⟩ := List.any_eq_true.mp q2
      obtain ⟨i, hi⟩ := List.getElem?_of_mem ht
      refine ⟨i, List.mem_range.mpr (List.getElem?_eq_some_iff.mp hi).1, ?_⟩
      unfold sp_bnd
      rw [q1, sp_getD hi, q3]
      rfl
    · obtain ⟨q1, q2⟩ := Bool.and_eq_true_iff.mp q
      have q3 := of_decide_eq_true q1
      refine ⟨2, List.mem_range.mpr (by rw [(w4 q3).2]; decide), ?_⟩
      unfold sp_bnd
      rw [q1, q2]
      simp
/-- a whole draft -/
def wDr.whole (S : List Nat) (d : wDr) : Prop := d.k ≠ 0 ∧ d.its ≠ [] ∧ d.lacks S = false
theorem wDr.whole_wf {S : List Nat} (hS : ∀ n, n ∈ S → 1 ≤ n ∧ n ≤ 3) {d : wDr} (h : d.whole S) (hw : wfD S d) : (∀ it, it ∈ d.its → sp_wfI S it) ∧ d.hts.length = S.getD d.rel 0 := by
  obtain ⟨h1, h2, h3⟩ := h
  obtain ⟨w1, w2, w3, w4, w5, w6, w7, w8, w9⟩ := hw.2.2.2 h1
  refine ⟨fun it hit => ?_, w7 h2⟩
  have hlen : it.2.2.length = sp_tof S it := by
    obtain ⟨x, x1, x2⟩ := sp_last_get h2
    have hcat := List.dropLast_concat_getLast h2
    rw [← hcat] at hit
    rcases List.mem_append.mp hit with q | q
    · exact w9 it q
    · have e := List.mem_singleton.mp q
      have e2 : d.its.getLast? = some it := by rw [e]; exact List.getLast?_eq_some_getLast h2
      unfold wDr.lacks at h3
      have h3 := of_decide_eq_false h3
      have ht : d.typed = it.2.2.length := by unfold wDr.typed; rw [e2]
      have hwt : d.want S = sp_tof S it := by unfold wDr.want; rw [e2]
      have hm : it ∈ d.its := List.mem_of_getLast? e2
      have := (w8 it hm).2.2.2.2.1
      omega
  obtain ⟨p1, p2, p3, p4, p5, p6⟩ := w8 it hit
  unfold sp_tof at hlen
  refine ⟨p1, fun q => ?_, fun q => ⟨p3 q, ?_⟩, fun q => ⟨p4 q, ?_⟩, p6⟩
  · rw [if_pos q] at hlen
    rw [hlen]
    exact sp_S_getD (p2 q)
  · rw [if_neg (by omega), if_pos q] at hlen
    exact hlen
  · rw [if_neg (by omega), if_neg (by omega)] at hlen
    exact hlen
def sp_knb (K : Int32) (kn : Nat → Bool) : Prop := ∀ x, x < 8 → ib K x = kn x
def wDr.sound (d : wDr) : Bool := sp_snd sp_none d.its && d.hts.all (sp_hknT (sp_kn sp_none d.its))
