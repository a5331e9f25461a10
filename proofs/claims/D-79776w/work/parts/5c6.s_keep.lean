/-! EVERY CALL KEEPS SOUNDNESS, 1: worlds -/
set_option maxRecDepth 100000
theorem wfW.mn {N : Nat} {w : wW} (h : wfW N w) : wfW (N + 1) w := (h.x.mn (by omega) (by omega) (by omega) (by omega)).w
theorem wfS.mn {N : Nat} {s : wS} (h : wfS N s) : wfS (N + 1) s := ⟨h.1.mn, h.2.1, h.2.2.1, fun w hw => (h.2.2.2.1 w hw).mn, h.2.2.2.2⟩
theorem wfS.to {N : Nat} {s : wS} {w : wW} (h : wfS N s) (hw : wfW (N + 1) w) (hd : wfD w.S s.d) (hE : s.w.E.length ≤ w.E.length) : wfS (N + 1) (s.setw w) := ⟨hw, hd, h.2.2.1, fun v hv => (h.2.2.2.1 v hv).mn, fun v hv => Nat.le_trans (h.2.2.2.2.1 v hv) hE, h.2.2.2.2.2⟩
theorem wfS.toS {N : Nat} {s : wS} {w : wW} (h : wfS N s) (hw : wfW (N + 1) w) (hS : w.S = s.w.S) (hE : s.w.E.length ≤ w.E.length) : wfS (N + 1) (s.setw w) := h.to hw (by rw [hS]; exact h.2.1) hE
theorem wfS.setd {N : Nat} {s : wS} {d : wDr} (h : wfS N s) (hd : wfD s.w.S d) : wfS (N + 1) (s.setd d) := ⟨h.1.mn, hd, h.2.2.1, fun v hv => (h.2.2.2.1 v hv).mn, h.2.2.2.2⟩
theorem wfW.of {N ng ne nn : Nat} {w : wW} (h : wfX (N + 1) ng ne nn w) (h1 : ng ≤ 1200 * (N + 1)) (h2 : ne ≤ 10 * (N + 1)) (h3 : nn ≤ 20 * (N + 1)) : wfW (N + 1) w := (h.mn (Nat.le_refl _) h1 h2 h3).w
/-- a step keeps soundness -/
theorem wfS.step {N : Nat} {s : wS} {w : wW} (h : wfS N s) (hP : wfP (N + 1) (1200 * N) (10 * N) (20 * N + 20) w) (hS : w.S = s.w.S) (hE : w.E = s.w.E) {p : Nat} : wfS (N + 1) (s.step p w).2.2 := by
  unfold wS.step
  cases hs : w.stl with
  | none => exact h.mn
  | some w' =>
    have hx := hP.stl hs
    obtain ⟨F, -, rfl⟩ := wW.stl_spec hs
    exact h.toS (wfW.of hx (by omega) (by omega) (by omega)) hS (by show _ ≤ w.E.length; rw [hE]; exact Nat.le_refl _)
theorem wfS.P {N : Nat} {s : wS} (h : wfS N s) : wfX N (1200 * N) (10 * N) (20 * N) s.w := h.1.x
theorem k_tell {N : Nat} {s : wS} (h : wfS N s) {f t : Int32} : wfS (N + 1) (o_tell s f t).2.2 := by
  unfold o_tell
  split
  · exact h.mn
  · rename_i hf
    split
    · exact h.mn
    · rename_i ht
      have ht := Classical.not_not.mp ht
      have hf := Classical.not_not.mp hf
      obtain ⟨n, n1, n2, rfl, n3⟩ := w_rng_nat (by decide) (by decide) ht
      obtain ⟨m, m1, rfl, m2, m3⟩ := sp_fault_0 h.1.S.1 hf
      have hX := h.P.mn (Nat.le_succ N) (Nat.le_refl _) (Nat.le_refl _) (Nat.le_add_right _ 20)
      obtain ⟨⟨hS, hR, hD, hT, hF, hA, hK, hN, hE⟩, -⟩ := hX
      have hN0 := h.1.now
      refine wfS.step h ?_ ?_ ?_
      rotate_left
      · rfl
      · rfl
      refine ⟨hS, hR, hD, ?_, hF, hA, hK, hN, hE⟩
      refine sp_tellF_ok hT.1 hT.2 ⟨?_, ?_⟩
      · rw [nI_clamp (by omega)]; exact m3
      · show (if nI n = 0 then 0 else s.w.now + (nI n).toNatClampNeg) ≤ 20 * N + 20 + 100
        rw [n3]
        split
        · omega
        · omega
theorem k_take {N : Nat} {s : wS} (h : wfS N s) {f : Int32} : wfS (N + 1) (o_take s f).2.2 := by
  unfold o_take
  split
  · exact h.mn
  · split
    · exact h.mn
    · have hX := h.P.mn (Nat.le_succ N) (Nat.le_refl _) (Nat.le_refl _) (Nat.le_add_right _ 20)
      obtain ⟨⟨hS, hR, hD, hT, hF, hA, hK, hN, hE⟩, -⟩ := hX
      refine wfS.step h ?_ ?_ ?_
      rotate_left
      · rfl
      · rfl
      exact ⟨hS, hR, hD, sp_erase_ok hT.1 hT.2, hF, hA, hK, hN, hE⟩
theorem k_fire {N : Nat} {s : wS} (h : wfS N s) : wfS (N + 1) (o_fire s).2.2 := by
  unfold o_fire
  split
  · exact h.mn
  · obtain ⟨f1, f2, f3, -⟩ := h.P.fire1
    exact h.toS (wfW.of (f1.mn (Nat.le_succ N) (Nat.le_refl _) (Nat.le_refl _) (Nat.le_refl _)) (by omega) (by omega) (by omega)) f2 f3
theorem k_run {N : Nat} {s : wS} (h : wfS N s) {m : Int32} : wfS (N + 1) (o_run s m).2.2 := by
  unfold o_run
  split
  · exact h.mn
  · rename_i hm
    obtain ⟨n, n1, n2, rfl, n3⟩ := w_rng_nat (by decide) (by decide) (Classical.not_not.mp hm)
    obtain ⟨f1, f2, f3, -⟩ := wfX.runs (c := n) (m := 0) h.P
    rw [n3]
    exact h.toS (wfW.of (f1.mn (Nat.le_succ N) (Nat.le_refl _) (Nat.le_refl _) (Nat.le_refl _)) (by omega) (by omega) (by omega)) f2 f3
theorem k_tick {N : Nat} {s : wS} (h : wfS N s) {t : Int32} : wfS (N + 1) (o_tick s t).2.2 := by
  unfold o_tick
  split
  · exact h.mn
  · rename_i ht
    obtain ⟨n, n1, n2, rfl, n3⟩ := w_rng_nat (by decide) (by decide) (Classical.not_not.mp ht)
    rw [n3]
    cases hs : s.w.ticks n 0 with
    | none => exact h.mn
    | some x =>
      obtain ⟨m, w⟩ := x
      obtain ⟨f1, f2, f3, -⟩ := h.P.ticks hs
      exact h.toS (wfW.of (f1.mn (Nat.le_succ N) (Nat.le_refl _) (Nat.le_refl _) (Nat.le_refl _)) (by omega) (by omega) (by omega)) f2 (by rw [f3]; exact Nat.le_refl _)
theorem k_focus {N : Nat} {s : wS} (h : wfS N s) {m : Int32} : wfS (N + 1) (o_focus s m).2.2 := by
  unfold o_focus
  split
  · exact h.mn
  · rename_i hm
    split
    · exact h.mn
    · rename_i h8
      obtain ⟨n, n1, n2, rfl, n3⟩ := w_rng_nat (by decide) (by decide) (Classical.not_not.mp hm)
      rw [n3]
      obtain ⟨hS, hR, hD, hT, hset, hA, hK, hN, hE⟩ := h.1.mn
      have hK8 := hK.2.1
      refine h.toS ⟨hS, hR, hD, hT, hset, hA, ⟨?_, ?_, fun x hx => ?_⟩, hN, hE⟩ rfl (Nat.le_refl _)
      · show 1 ≤ (s.w.K ++ [n]).length
        rw [List.length_append]
        exact Nat.le_add_left _ _
      · show (s.w.K ++ [n]).length ≤ 8
        rw [List.length_append]
        show s.w.K.length + 1 ≤ 8
        omega
      · rcases List.mem_append.mp (show x ∈ s.w.K ++ [n] from hx) with hx | hx
        · exact hK.2.2 x hx
        · rw [List.mem_singleton.mp hx]; omega
theorem k_begin {N : Nat} {s : wS} (h : wfS N s) : wfS (N + 1) (o_begin s).2.2 := by
  unfold o_begin
  split
  · exact h.mn
  · rename_i hb
    have hm := h.mn
    obtain ⟨a, b, c, d, e, f⟩ := h.mn
    refine ⟨a, b, ?_, fun w hw => ?_, fun w hw => ?_, fun i j w v hij hi hj => ?_⟩
    · show (s.b ++ [s.w]).length ≤ 3
      rw [List.length_append]
      show s.b.length + 1 ≤ 3
      omega
    · rcases List.mem_append.mp (show w ∈ s.b ++ [s.w] from hw) with hw | hw
      · exact d w hw
      · rw [List.mem_singleton.mp hw]; exact a
    · rcases List.mem_append.mp (show w ∈ s.b ++ [s.w] from hw) with hw | hw
      · exact e w hw
      · rw [List.mem_singleton.mp hw]; exact Nat.le_refl _
    · have hi' : (s.b ++ [s.w])[i]? = some w := hi
      have hj' : (s.b ++ [s.w])[j]? = some v := hj
      have hjl := (List.getElem?_eq_some_iff.mp hj').1
      rw [List.length_append] at hjl
      have hjl : j < s.b.length + 1 := hjl
      by_cases q : j = s.b.length
      · rw [q, List.getElem?_append_right (Nat.le_refl _), Nat.sub_self] at hj'
        cases hj'
        by_cases q2 : i = s.b.length
        · rw [q2, List.getElem?_append_right (Nat.le_refl _), Nat.sub_self] at hi'
          cases hi'
          exact Nat.le_refl _
        · rw [List.getElem?_append_left (by omega)] at hi'
          exact e w (List.mem_of_getElem? hi')
      · rw [List.getElem?_append_left (by omega)] at hi' hj'
        exact f i j w v hij hi' hj'
theorem sp_dl_get {α : Type} {l : List α} {i : Nat} {a : α} (h : l.dropLast[i]? = some a) : l[i]? = some a ∧ i + 1 < l.length := by
  have hl := (List.getElem?_eq_some_iff.mp h).1
  rw [List.length_dropLast] at hl
  refine ⟨?_, by omega⟩
  rw [List.dropLast_eq_take, List.getElem?_take, if_pos hl] at h
  exact h
theorem wfS.dl {N : Nat} {s : wS} (h : wfS N s) : wfS N (s.setb s.b.dropLast) := ⟨h.1, h.2.1, by show s.b.dropLast.length ≤ 3; rw [List.length_dropLast]; have := h.2.2.1; omega, fun w hw => h.2.2.2.1 w ((List.dropLast_sublist _).mem hw), fun w hw => h.2.2.2.2.1 w ((List.dropLast_sublist _).mem hw), fun i j w v hij hi hj => h.2.2.2.2.2 i j w v hij (sp_dl_get hi).1 (sp_dl_get hj).1⟩
theorem k_commit {N : Nat} {s : wS} (h : wfS N s) : wfS (N + 1) (o_commit s).2.2 := by
  unfold o_commit
  split
  · exact h.mn
  · exact h.mn.dl
theorem k_rollBack {N : Nat} {s : wS} (h : wfS N s) : wfS (N + 1) (o_rollBack s).2.2 := by
  unfold o_rollBack
  split
  · exact h.mn
  · rename_i hk
    cases hl : s.b.getLast? with
    | none => exact h.mn
    | some w =>
      obtain ⟨a, b, c, d, e, f⟩ := h.mn
      have hwm : w ∈ s.b := List.mem_of_getLast? hl
      have hlast : s.b[s.b.length - 1]? = some w := by rw [← List.getLast?_eq_getElem?]; exact hl
      refine ⟨d w hwm, ⟨b.1, b.2.1, b.2.2.1, fun q => absurd (show s.d.k = 0 by omega) q⟩, ?_, fun v hv => d v ((List.dropLast_sublist _).mem hv), fun v hv => ?_, fun i j w v hij hi hj => f i j w v hij (sp_dl_get hi).1 (sp_dl_get hj).1⟩
      · show s.b.dropLast.length ≤ 3
        rw [List.length_dropLast]
        omega
      · obtain ⟨i, hi⟩ := List.getElem?_of_mem (show v ∈ s.b.dropLast from hv)
        obtain ⟨h1, h2⟩ := sp_dl_get hi
        exact f i (s.b.length - 1) v w (by omega) h1 hlast
theorem wfD.app {S : List Nat} {d : wDr} (h : wfD S d) (k : Nat) : wfD (S ++ [k]) d := by
  obtain ⟨a, b, c, e⟩ := h
  refine ⟨a, b, c, fun hk => ?_⟩
  obtain ⟨w1, w2, w3, w4, w5, w6, w7, w8, w9⟩ := e hk
  have hg : ∀ r, r < S.length → (S ++ [k]).getD r 0 = S.getD r 0 := fun r hr => by
    rw [List.getD_eq_getElem?_getD, List.getD_eq_getElem?_getD, List.getElem?_append_left hr]
  have ht : ∀ it, it ∈ d.its → sp_tof (S ++ [k]) it = sp_tof S it := fun it hi => by
    unfold sp_tof
    split
    · rename_i q
      exact hg _ ((w8 it hi).2.1 q)
    · rfl
  have hl : (S ++ [k]).length = S.length + 1 := by rw [List.length_append]; rfl
  refine ⟨by omega, by rw [hg _ w1]; exact w2, w3, w4, w5, w6, by rw [hg _ w1]; exact w7, fun it hi => ?_, fun it hi => by rw [ht it ((List.dropLast_sublist _).mem hi)]; exact w9 it hi⟩
  obtain ⟨p1, p2, p3, p4, p5, p6⟩ := w8 it hi
  exact ⟨p1, fun q => by have := p2 q; omega, p3, p4, by rw [ht it hi]; exact p5, p6⟩
theorem sp_faultN_app {S : List Nat} {f k : Nat} (h : sp_faultN S f = 0) : sp_faultN (S ++ [k]) f = 0 := by
  unfold sp_faultN at h ⊢
  cases e : S[f / 1000000]? with
  | none => rw [e] at h; cases h
  | some n =>
    rw [List.getElem?_append_left (List.getElem?_eq_some_iff.mp e).1, e]
    rw [e] at h
    exact h
theorem k_relation {N : Nat} {s : wS} (h : wfS N s) {k : Int32} : wfS (N + 1) (o_relation s k).2.2 := by
  unfold o_relation
  split
  · exact h.mn
  · rename_i hm
    split
    · exact h.mn
    · rename_i h8
      obtain ⟨n, n1, n2, rfl, n3⟩ := w_rng_nat (by decide) (by decide) (Classical.not_not.mp hm)
      rw [n3]
      obtain ⟨hS, hR, hD, hT, hset, hA, hK, hN, hE⟩ := h.1.mn
      have hS8 := hS.1
      refine h.to ⟨⟨?_, fun x hx => ?_⟩, ⟨hR.1, fun C hC => ⟨(hR.2.1 C hC).1.app n, (hR.2.1 C hC).2⟩, hR.2.2⟩, ⟨hD.1, fun C hC => ⟨(hD.2.1 C hC).1.app n, (hD.2.1 C hC).2⟩, hD.2.2⟩, ⟨hT.1, fun p hp => ⟨sp_faultN_app (hT.2 p hp).1, (hT.2 p hp).2⟩⟩, hset, hA, hK, hN, hE⟩ (h.2.1.app n) (Nat.le_refl _)
      · show (s.w.S ++ [n]).length ≤ 8
        rw [List.length_append]
        show s.w.S.length + 1 ≤ 8
        omega
      · rcases List.mem_append.mp (show x ∈ s.w.S ++ [n] from hx) with hx | hx
        · exact hS.2 x hx
        · rw [List.mem_singleton.mp hx]; omega
theorem k_drop {N : Nat} {s : wS} (h : wfS N s) {r : Int32} : wfS (N + 1) (o_drop s r).2.2 := by
  unfold o_drop
  split
  · exact h.mn
  · rename_i k hk
    have hX := h.P.mn (Nat.le_succ N) (Nat.le_refl _) (Nat.le_refl _) (Nat.le_add_right _ 20)
    obtain ⟨⟨hS, hR, hD, hT, hF, hA, hK, hN, hE⟩, -⟩ := hX
    have hsub := List.eraseIdx_sublist s.w.R k
    refine wfS.step h ?_ ?_ ?_
    rotate_left
    · rfl
    · rfl
    exact ⟨hS, ⟨Nat.le_trans hsub.length_le hR.1, fun C hC => hR.2.1 C (hsub.mem hC), (hsub.map _).nodup hR.2.2.1, hR.2.2.2⟩, hD, hT, hF, hA, hK, hN, hE⟩
theorem k_dropDeed {N : Nat} {s : wS} (h : wfS N s) {r : Int32} : wfS (N + 1) (o_dropDeed s r).2.2 := by
  unfold o_dropDeed
  split
  · exact h.mn
  · rename_i k hk
    obtain ⟨hS, hR, hD, hT, hset, hA, hK, hN, hE⟩ := h.1.mn
    have hsub := List.eraseIdx_sublist s.w.D k
    refine wfS.toS h ?_ ?_ ?_
    rotate_left
    · rfl
    · exact Nat.le_refl _
    exact ⟨hS, hR, ⟨Nat.le_trans hsub.length_le hD.1, fun C hC => hD.2.1 C (hsub.mem hC), (hsub.map _).nodup hD.2.2.1, hD.2.2.2⟩, hT, hset, hA, hK, hN, hE.1, fun e he => ⟨(hE.2 e he).1, (hE.2 e he).2.1, (hE.2 e he).2.2.1, (hE.2 e he).2.2.2.1, fun C hC => (hE.2 e he).2.2.2.2 C (hsub.mem hC)⟩⟩
