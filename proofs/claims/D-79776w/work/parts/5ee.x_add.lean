/-! THE SYSTEM: checks, facts added -/
set_option maxRecDepth 100000
theorem x_checkArgument {G : rv_G} (hG : rv_GK G) {d n m : Nat} (hd : 6 ≤ d) {F : xF} {b : Bool} {h : rv_H} (hn : 1 ≤ n) (hm : 6 ≤ m) (hH : xH G F [] n m h) : rv_Call G d yX1_checkArgument wX1_checkArgument [.int (rv_z b)] h (xT (fun u h' => b = true ∧ u = none ∧ h' = h) (fun E h' => E = RJ6 ∧ b = false ∧ xS G F h [] [] (n - 1) (m - 6) h')) := by
  refine rv_start hG (by decide +kernel) (L := [some (.int (rv_z b))]) rfl (Nat.le_of_ble_eq_true rfl) (fun X hX1 hX hE => ?_)
  subst hX1
  have hS := hH.start
  refine rv_iload_n hX dX1_checkArgument_0 rfl ?_
  first | refine zv_if_ne hX 12 dX1_checkArgument_1 (by decide) (fun c_1 => ?_) (fun c_1 => ?_) | refine rv_if_ne hX 12 dX1_checkArgument_1 (by decide) (fun c_1 => ?_) (fun c_1 => ?_)
  · skip
    refine rv_return hX hE ?_ dX1_checkArgument_12
    exact ⟨c_1, rfl, rfl⟩
  · skip
    refine rv_throw0 hX hE (names := ["java/lang/RuntimeException", "java/lang/Exception"]) (by decide +kernel) (by decide +kernel) q1113 q132 (tw_IAE q1114) dX1_checkArgument_4 dX1_checkArgument_7 dX1_checkArgument_8 dX1_checkArgument_11 (by first | exact fun x hx => by cases hx | decide) (by show _ + 4 ≤ _; simp; omega) (by decide) (Nat.le_of_ble_eq_true rfl) (hS.1.cN (by omega)) (hS.1.cS (by omega)) (fun h_4 e1 e2 e3 e4 => ?_)
    have hS := hS.thrown (by omega) (by omega) e1 e2 e3 e4
    exact ⟨rfl, c_1, hS⟩
theorem x_checkState {G : rv_G} (hG : rv_GK G) {d n m : Nat} (hd : 6 ≤ d) {F : xF} {b : Bool} {h : rv_H} (hn : 1 ≤ n) (hm : 6 ≤ m) (hH : xH G F [] n m h) : rv_Call G d yX1_checkState wX1_checkState [.int (rv_z b)] h (xT (fun u h' => b = true ∧ u = none ∧ h' = h) (fun E h' => E = RJ18 ∧ b = false ∧ xS G F h [] [] (n - 1) (m - 6) h')) := by
  refine rv_start hG (by decide +kernel) (L := [some (.int (rv_z b))]) rfl (Nat.le_of_ble_eq_true rfl) (fun X hX1 hX hE => ?_)
  subst hX1
  have hS := hH.start
  refine rv_iload_n hX dX1_checkState_0 rfl ?_
  first | refine zv_if_ne hX 12 dX1_checkState_1 (by decide) (fun c_1 => ?_) (fun c_1 => ?_) | refine rv_if_ne hX 12 dX1_checkState_1 (by decide) (fun c_1 => ?_) (fun c_1 => ?_)
  · skip
    refine rv_return hX hE ?_ dX1_checkState_12
    exact ⟨c_1, rfl, rfl⟩
  · skip
    refine rv_throw0 hX hE (names := ["java/lang/RuntimeException", "java/lang/Exception"]) (by decide +kernel) (by decide +kernel) q1066 q148 (tw_ISE q1127) dX1_checkState_4 dX1_checkState_7 dX1_checkState_8 dX1_checkState_11 (by first | exact fun x hx => by cases hx | decide) (by show _ + 4 ≤ _; simp; omega) (by decide) (Nat.le_of_ble_eq_true rfl) (hS.1.cN (by omega)) (hS.1.cS (by omega)) (fun h_4 e1 e2 e3 e4 => ?_)
    have hS := hS.thrown (by omega) (by omega) e1 e2 e3 e4
    exact ⟨rfl, c_1, hS⟩
theorem x_checkIndex {G : rv_G} (hG : rv_GK G) {d n m z : Nat} {p : Int32} (hd : 6 ≤ d) {F : xF} {h : rv_H} (hz : z < 2147483648) (hn : 1 ≤ n) (hm : 6 ≤ m) (hH : xH G F [] n m h) : rv_Call G d yX1_checkIndex wX1_checkIndex [.int p, .int (nI z)] h (xT (fun u h' => (∃ k, w_idx p z = some k) ∧ u = none ∧ h' = h) (fun E h' => E = RJ19 ∧ w_idx p z = none ∧ xS G F h [] [] (n - 1) (m - 6) h')) := by
  have hno : ∀ q : ¬ ∃ k, k < z ∧ p = nI k, w_idx p z = none := fun q => w_idx_no hz q
  by_cases hneg : p < 0
  · skip
    refine rv_start hG (by decide +kernel) (L := [some (.int p), some (.int (nI z))]) rfl (Nat.le_of_ble_eq_true rfl) (fun X hX1 hX hE => ?_)
    subst hX1
    have hS := hH.start
    have hx := hno (fun ⟨k, h1, h2⟩ => by rw [h2] at hneg; exact nI_pos (by omega) hneg)
    refine rv_iload_n hX dX1_checkIndex_0 rfl ?_
    refine rv_if_lt hX 9 dX1_checkIndex_1 (by decide) (fun c_1 => ?_) (fun q => absurd hneg q)
    refine rv_throw0 hX hE (names := ["java/lang/RuntimeException", "java/lang/Exception"]) (by decide +kernel) (by decide +kernel) q1186 q149 (tw_IOB q1195) dX1_checkIndex_9 dX1_checkIndex_12 dX1_checkIndex_13 dX1_checkIndex_16 (by first | exact fun x hx => by cases hx | decide) (by show _ + 4 ≤ _; simp; omega) (by decide) (Nat.le_of_ble_eq_true rfl) (hS.1.cN (by omega)) (hS.1.cS (by omega)) (fun h_9 e1 e2 e3 e4 => ?_)
    have hS := hS.thrown (by omega) (by omega) e1 e2 e3 e4
    exact ⟨rfl, hx, hS⟩
  · obtain ⟨j, hj, rfl⟩ := nI_of hneg
    refine rv_start hG (by decide +kernel) (L := [some (.int (nI j)), some (.int (nI z))]) rfl (Nat.le_of_ble_eq_true rfl) (fun X hX1 hX hE => ?_)
    subst hX1
    have hS := hH.start
    refine rv_iload_n hX dX1_checkIndex_0 rfl ?_
    refine rv_if_lt hX 9 dX1_checkIndex_1 (by decide) (fun q => absurd q (nI_pos (by omega))) (fun c_1 => ?_)
    refine rv_iload_n hX dX1_checkIndex_4 rfl ?_
    refine rv_iload_n hX dX1_checkIndex_5 rfl ?_
    first | refine nv_icmp_lt hX 17 (by omega) (by omega) dX1_checkIndex_6 (by decide) (fun c_6 => ?_) (fun c_6 => ?_) | refine rv_icmp_lt hX 17 dX1_checkIndex_6 (by decide) (fun c_6 => ?_) (fun c_6 => ?_)
    · skip
      refine rv_return hX hE ?_ dX1_checkIndex_17
      exact ⟨⟨j, w_idx_nI (by omega) hz⟩, rfl, rfl⟩
    · skip
      refine rv_throw0 hX hE (names := ["java/lang/RuntimeException", "java/lang/Exception"]) (by decide +kernel) (by decide +kernel) q1186 q149 (tw_IOB q1195) dX1_checkIndex_9 dX1_checkIndex_12 dX1_checkIndex_13 dX1_checkIndex_16 (by first | exact fun x hx => by cases hx | decide) (by show _ + 4 ≤ _; simp; omega) (by decide) (Nat.le_of_ble_eq_true rfl) (hS.1.cN (by omega)) (hS.1.cS (by omega)) (fun h_9 e1 e2 e3 e4 => ?_)
      have hS := hS.thrown (by omega) (by omega) e1 e2 e3 e4
      exact ⟨rfl, hno (fun ⟨k, h1, h2⟩ => by have := (nI_eq hj (by omega)).mp h2; omega), hS⟩
/-- a fact added -/
def xadd (F : List Nat) (f : Nat) : List Nat := if f ∈ F then F else F.take (sf_pl F f) ++ f :: F.drop (sf_pl F f)
def xrad (F : List Nat) (r : Nat → Nat) (f q : Nat) : Nat → Nat := if f ∈ F then r else fun x => if x = f then q else r x
theorem xadd_mem {F : List Nat} {f x : Nat} : x ∈ xadd F f ↔ x = f ∨ x ∈ F := by
  unfold xadd
  by_cases h : f ∈ F
  · rw [if_pos h]
    exact ⟨Or.inr, fun q => q.elim (fun e => e ▸ h) id⟩
  · rw [if_neg h]
    have e : x ∈ F ↔ x ∈ F.take (sf_pl F f) ++ F.drop (sf_pl F f) := by rw [List.take_append_drop]
    rw [e]
    simp only [List.mem_append, List.mem_cons]
    constructor
    · rintro (q | q | q)
      · exact Or.inr (Or.inl q)
      · exact Or.inl q
      · exact Or.inr (Or.inr q)
    · rintro (q | q | q)
      · exact Or.inr (Or.inl q)
      · exact Or.inl q
      · exact Or.inr (Or.inr q)
theorem xadd_srt {F : List Nat} (h : sp_srt F) (f : Nat) : sp_srt (xadd F f) := by
  unfold xadd
  by_cases hf : f ∈ F
  · rw [if_pos hf]
    exact h
  · rw [if_neg hf]
    have hs := sf_pl_spec h f
    refine (sp_ins_at h (sf_pl_le F f) hs.1 (fun j a hj ha => ?_)).1
    have := hs.2 j a hj ha
    have : f ≠ a := fun e => hf (e ▸ List.mem_of_getElem? ha)
    omega
theorem xadd_len {F : List Nat} {f : Nat} (hf : f ∉ F) : (xadd F f).length = F.length + 1 := by
  unfold xadd
  rw [if_neg hf]
  simp
  have := sf_pl_le F f
  omega
/-- an array, while places from k on have moved up -/
def xmv (nf : Nat → Int32) (z k : Nat) : Nat → Int32 := fun i => if i ≤ k then nf i else if i ≤ z then nf (i - 1) else nf i
theorem xmv_0 {nf : Nat → Int32} {z : Nat} : xmv nf z z = nf := by
  funext i
  unfold xmv
  split
  · rfl
  · rfl
theorem xmv_step {nf : Nat → Int32} {z k : Nat} (h1 : 1 ≤ k) (h2 : k ≤ z) : va_up (xmv nf z k) k (xmv nf z k (k - 1)) = xmv nf z (k - 1) := by
  funext i
  unfold va_up xmv
  by_cases h : i = k
  · rw [if_pos h, if_pos (by omega), if_neg (by omega), if_pos (by omega), h]
  · rw [if_neg h]
    by_cases h3 : i ≤ k
    · rw [if_pos h3, if_pos (show i ≤ k - 1 by omega)]
    · rw [if_neg h3, if_neg (show ¬ i ≤ k - 1 by omega)]
def xins (nf : Nat → Int32) (z p : Nat) (v : Int32) : Nat → Int32 := va_up (xmv nf z p) p v
theorem xins_lt {nf : Nat → Int32} {z p i : Nat} {v : Int32} (h : i < p) : xins nf z p v i = nf i := by
  unfold xins va_up xmv
  rw [if_neg (by omega), if_pos (by omega)]
theorem xins_eq {nf : Nat → Int32} {z p : Nat} {v : Int32} : xins nf z p v p = v := if_pos rfl
theorem xins_gt {nf : Nat → Int32} {z p i : Nat} {v : Int32} (h : p < i) (hz : i ≤ z) : xins nf z p v i = nf (i - 1) := by
  unfold xins va_up xmv
  rw [if_neg (by omega), if_neg (by omega), if_pos hz]
theorem fcp.add {Fs : List Nat} {r : Nat → Nat} {nf rf : Nat → Int32} (hc : fcp Fs r nf rf) {f q : Nat} (hin : f ∉ Fs) (hl : Fs.length < 60) (hf : f < 8000000) : fcp (xadd Fs f) (xrad Fs r f q) (xins nf Fs.length (sf_pl Fs f) (nI f)) (xins rf Fs.length (sf_pl Fs f) (nI q)) := by
  obtain ⟨⟨hs, h60, hb⟩, h4⟩ := hc
  obtain ⟨p, hp⟩ : ∃ p, p = sf_pl Fs f := ⟨_, rfl⟩
  have hple := sf_pl_le Fs f
  rw [← hp] at hple ⊢
  have hadd : xadd Fs f = Fs.take p ++ f :: Fs.drop p := by unfold xadd; rw [if_neg hin, hp]
  have hlen := xadd_len hin
  refine ⟨⟨xadd_srt hs f, by omega, fun x hx => ?_⟩, fun k x hk => ?_⟩
  · rcases xadd_mem.mp hx with e | e
    · rw [e]; exact hf
    · exact hb x e
  · have hpt : (Fs.take p).length = p := by rw [List.length_take]; omega
    have hxr : x ∈ Fs → xrad Fs r f q x = r x := fun hx => by
      unfold xrad
      rw [if_neg hin]
      show (if x = f then q else r x) = r x
      have hne : ¬ x = f := fun e => hin (by rw [← e]; exact hx)
      rw [if_neg hne]
    rw [hadd] at hk
    by_cases h1 : k < p
    · rw [List.getElem?_append_left (by omega), List.getElem?_take, if_pos h1] at hk
      rw [xins_lt h1, xins_lt h1, hxr (List.mem_of_getElem? hk)]
      exact h4 k x hk
    · rw [List.getElem?_append_right (by omega), hpt] at hk
      by_cases h2 : k = p
      · subst h2
        rw [Nat.sub_self] at hk
        simp only [List.getElem?_cons_zero, Option.some.injEq] at hk
        subst hk
        rw [xins_eq, xins_eq]
        refine ⟨rfl, ?_⟩
        unfold xrad
        rw [if_neg hin]
        show nI q = nI (if f = f then q else r f)
        rw [if_pos rfl]
      · rw [show k - p = (k - 1 - p) + 1 by omega, List.getElem?_cons_succ, List.getElem?_drop, show p + (k - 1 - p) = k - 1 by omega] at hk
        have hkl := (List.getElem?_eq_some_iff.mp hk).1
        rw [xins_gt (by omega) (by omega), xins_gt (by omega) (by omega), hxr (List.mem_of_getElem? hk)]
        exact h4 (k - 1) x hk
/-- facts as they lie in memory -/
def xIn : Type := { s : List Nat × (Nat → Int32) × (Nat → Int32) // ∃ r, fcp s.1 r s.2.1 s.2.2 }
def xIn.F (s : xIn) : List Nat := s.1.1
def xIn.M (a an ar : Nat) (s : xIn) : xM := [(a, cO 2 [.ref an, .ref ar, .int (nI s.1.1.length)]), (an, cI 60 s.1.2.1), (ar, cI 60 s.1.2.2)]
def xIn.add (s : xIn) (f q : Nat) : Option xIn := if f ∈ s.1.1 then some s else if h : f ∉ s.1.1 ∧ s.1.1.length < 60 ∧ f < 8000000 then some ⟨(xadd s.1.1 f, xins s.1.2.1 s.1.1.length (sf_pl s.1.1 f) (nI f), xins s.1.2.2 s.1.1.length (sf_pl s.1.1 f) (nI q)), ⟨_, s.2.choose_spec.add (q := q) h.1 h.2.1 h.2.2⟩⟩ else none
/-- what is told of the rounds -/
def xIn.rd (s : xIn) (r : Nat → Nat) : Prop := fcp s.1.1 r s.1.2.1 s.1.2.2
theorem xIn.ok (s : xIn) : ∃ r, s.rd r := s.2
theorem xIn.Fc {G : rv_G} {F : xF} {h0 h : rv_H} {A : List Nat} {W : xM} {n m a an ar : Nat} {s : xIn} {r : Nat → Nat} (hr : s.rd r) (rd : Nat → rv_C → Prop) (hm : ∀ q, q ∈ s.M a an ar → rd q.1 q.2) : xFc rd a s.F r :=
  ⟨an, ar, s.1.2.1, s.1.2.2, hm _ (List.mem_cons_self ..), hm _ (List.mem_cons_of_mem _ (List.mem_cons_self ..)), hm _ (List.mem_cons_of_mem _ (List.mem_cons_of_mem _ (List.mem_cons_self ..))), hr⟩
theorem xIn.add_spec {s s' : xIn} {f q : Nat} (h : s.add f q = some s') : s'.F = xadd s.F f ∧ ∀ r, s.rd r → s'.rd (xrad s.F r f q) := by
  unfold xIn.add at h
  split at h
  · rename_i hin
    cases h
    have hin : f ∈ s.F := hin
    refine ⟨by unfold xadd; rw [if_pos hin], fun r hr => ?_⟩
    unfold xrad
    rw [if_pos hin]
    exact hr
  · split at h
    · rename_i h9
      cases h
      exact ⟨rfl, fun r hr => fcp.add hr h9.1 h9.2.1 h9.2.2⟩
    · cases h
theorem xIn.add_none {s : xIn} {f q : Nat} (hf : f < 8000000) (h : s.add f q = none) : f ∉ s.F ∧ s.F.length = 60 := by
  unfold xIn.add at h
  split at h
  · cases h
  · rename_i hin
    split at h
    · cases h
    · rename_i h9
      obtain ⟨r, hr⟩ := s.2
      have h60 := hr.1.2.1
      refine ⟨hin, ?_⟩
      have : ¬ s.1.1.length < 60 := fun q => h9 ⟨hin, q, hf⟩
      show s.1.1.length = 60
      omega
theorem x_add {G : rv_G} (hG : rv_GK G) {d a an ar f q n m : Nat} (hd : 7 ≤ d) {F : xF} {s : xIn} {h : rv_H} (hf : f < 8000000) (hn : 1 ≤ n) (hm : 6 ≤ m) (hH : xH G F (s.M a an ar) n m h) : rv_Call G d yX3_add wX3_add [.ref a, .int (nI f), .int (nI q)] h (xT (fun u h' => ∃ s', u = none ∧ s.add f q = some s' ∧ xS G F h [a, an, ar] (s'.M a an ar) n m h') (fun E h' => E = RX6 ∧ s.add f q = none ∧ xS G F h [a, an, ar] [] (n - 1) (m - 6) h')) := by
  obtain ⟨⟨Fs, nf, rf⟩, r, hc⟩ := s
  have hH : xH G F [(a, cO 2 [.ref an, .ref ar, .int (nI Fs.length)]), (an, cI 60 nf), (ar, cI 60 rf)] n m h := hH
  have hc9 : fcp Fs r nf rf := hc
  refine rv_start hG (by decide +kernel) (L := [some (.ref a), some (.int (nI f)), some (.int (nI q)), none, none]) rfl (Nat.le_of_ble_eq_true rfl) (fun X hX1 hX hE => ?_)
  subst hX1
  have hS := hH.start
  obtain ⟨⟨hs, h60, hb⟩, h4⟩ := hc9
  have h60 : Fs.length ≤ 60 := h60
  have hFc : xFc (rv_rd X.1 h) a Fs r := ⟨an, ar, nf, rf, hS.mc (k := 0) rfl, hS.mc (k := 1) rfl, hS.mc (k := 2) rfl, ⟨hs, h60, hb⟩, h4⟩
  by_cases hin : f ∈ Fs
  · skip
    refine rv_aload_n hX dX3_add_0 rfl ?_
    refine rv_iload_n hX dX3_add_1 rfl ?_
    refine rv_invVR hX iX3_26 mdX3_has (hS.mc (k := 0) rfl) ⟨TX3, 3, rv_c2⟩ (x_has hG (d := d - 1) (by omega) hFc (by omega)) (by omega) rfl rfl (Nat.le_of_ble_eq_true rfl) dX3_add_2 (fun v h' hq => ?_) (fun E h' hq => by first | exact hq.elim | cases hq.2 | cases hq.1)
    obtain ⟨rfl, hq⟩ := hq
    cases hq
    rw [decide_eq_true hin]
    refine rv_if_eq hX 9 dX3_add_5 (by decide) (fun q => absurd q (by decide)) (fun _ => ?_)
    refine rv_return hX hE ?_ dX3_add_8
    exact ⟨⟨(Fs, nf, rf), r, hc⟩, rfl, by unfold xIn.add; rw [if_pos hin], hS⟩
  · by_cases hfull : Fs.length = 60
    · skip
      refine rv_aload_n hX dX3_add_0 rfl ?_
      refine rv_iload_n hX dX3_add_1 rfl ?_
      refine rv_invVR hX iX3_26 mdX3_has (hS.mc (k := 0) rfl) ⟨TX3, 3, rv_c2⟩ (x_has hG (d := d - 1) (by omega) hFc (by omega)) (by omega) rfl rfl (Nat.le_of_ble_eq_true rfl) dX3_add_2 (fun v h' hq => ?_) (fun E h' hq => by first | exact hq.elim | cases hq.2 | cases hq.1)
      obtain ⟨rfl, hq⟩ := hq
      cases hq
      rw [decide_eq_false hin]
      refine rv_if_eq hX 9 dX3_add_5 (by decide) (fun _ => ?_) (fun q => absurd q (by decide))
      refine rv_aload_n hX dX3_add_9 rfl ?_
      refine rv_getfR hX gX3_18_X3 (hS.mc (k := 0) rfl) rfl dX3_add_10 ?_
      refine nv_bipush hX (m := 60) (by decide) dX3_add_13 ?_
      refine nv_icmp_ne hX 26 (by omega) (by omega) dX3_add_15 (by decide) (fun q => absurd hfull (by omega)) (fun c_15 => ?_)
      refine xv_new hX hS nX3_30 (by omega) (show 6 ≤ _ by omega) dX3_add_18 (fun a_18 h_18 hS => ?_)
      have hS := hS.bud (Nat.le_refl _) (show _ - 6 ≤ _ from Nat.le_refl _)
      refine rv_dup hX dX3_add_21 rfl ?_
      refine rv_invI hX iX3_32 mdX6_init rfl (x_crowd hG (d := d - 1) (by omega) (hS.cpre0 [0,0,0,1] 0 rfl rfl rfl)) (by omega) rfl rfl (Nat.le_of_ble_eq_true rfl) dX3_add_22 (fun v h' hq => ?_) (fun E h' hq => by first | exact hq.elim | cases hq.2 | cases hq.1)
      obtain ⟨fs, hu, hQ⟩ := hq
      have hS := hS.cpost0 [0,0,0,1] 0 rfl rfl rfl hQ
      cases hu
      refine rv_athrow hX rv_c5 (hS.mg (k := 3) rfl) dX3_add_25 ?_
      exact rv_out hX hE (fun x hx => by cases hx) ⟨rfl, by unfold xIn.add; rw [if_neg hin, dif_neg (fun q => absurd q.2.1 (by show ¬ Fs.length < 60; omega))], hS.drop (List.nil_sublist _)⟩
    · have hple := sf_pl_le Fs f
      have hlen := xadd_len hin
      have hadd : xIn.add ⟨(Fs, nf, rf), r, hc⟩ f q = some ⟨(xadd Fs f, xins nf Fs.length (sf_pl Fs f) (nI f), xins rf Fs.length (sf_pl Fs f) (nI q)), ⟨_, hc.add (q := q) hin (show Fs.length < 60 by omega) hf⟩⟩ := by
        unfold xIn.add
        rw [if_neg hin, dif_pos ⟨hin, by show Fs.length < 60; omega, hf⟩]
      have loop : ∀ (z k : Nat) (h1 : rv_H), k < z → sf_pl Fs f ≤ k → k ≤ Fs.length → xS X.1 F h [a, an, ar] [(a, cO 2 [.ref an, .ref ar, .int (nI Fs.length)]), (an, cI 60 (xmv nf Fs.length k)), (ar, cI 60 (xmv rf Fs.length k))] n m h1 → rv_V X h1 38 [some (.ref a), some (.int (nI f)), some (.int (nI q)), some (.int (nI (sf_pl Fs f))), some (.int (nI k))] [] := by
        intro z
        induction z with
        | zero => intro k h1 g1; omega
        | succ z ih =>
          intro k h1 g1 g2 g3 hS
          refine rv_iload hX dX3_add_38 rfl ?_
          refine rv_iload_n hX dX3_add_40 rfl ?_
          first | refine nv_icmp_le hX 82 (by omega) (by omega) dX3_add_41 (by decide) (fun c_41 => ?_) (fun c_41 => ?_) | refine rv_icmp_le hX 82 dX3_add_41 (by decide) (fun c_41 => ?_) (fun c_41 => ?_)
          · skip
            have hkp : k = sf_pl Fs f := by omega
            rw [hkp] at hS
            refine rv_aload_n hX dX3_add_82 rfl ?_
            refine rv_getfR hX gX3_9_X3 (hS.mc (k := 0) rfl) rfl dX3_add_83 ?_
            refine rv_iload_n hX dX3_add_86 rfl ?_
            refine rv_iload_n hX dX3_add_87 rfl ?_
            refine xv_iast hX hS (k := 1) rfl (by omega) (by omega) dX3_add_88 (fun h_88 hS => ?_)
            refine rv_aload_n hX dX3_add_89 rfl ?_
            refine rv_getfR hX gX3_15_X3 (hS.mc (k := 0) rfl) rfl dX3_add_90 ?_
            refine rv_iload_n hX dX3_add_93 rfl ?_
            refine rv_iload_n hX dX3_add_94 rfl ?_
            refine xv_iast hX hS (k := 2) rfl (by omega) (by omega) dX3_add_95 (fun h_95 hS => ?_)
            refine rv_aload_n hX dX3_add_96 rfl ?_
            refine rv_dup hX dX3_add_97 rfl ?_
            refine rv_getfR hX gX3_18_X3 (hS.mc (k := 0) rfl) rfl dX3_add_98 ?_
            refine nv_iconst hX (m := 1) (by decide) dX3_add_101 ?_
            first | refine nv_iadd hX dX3_add_102 ?_ | refine rv_iadd hX dX3_add_102 ?_
            refine xv_putf hX hS (k := 0) rfl pX3_18_X3 (fun q => by cases q) rfl rfl rfl dX3_add_103 (fun h_103 hS => ?_)
            refine rv_return hX hE ?_ dX3_add_106
            refine ⟨_, rfl, hadd, ?_⟩
            show xS _ _ _ _ [(a, cO 2 [.ref an, .ref ar, .int (nI (xadd Fs f).length)]), _, _] _ _ _
            rw [hlen]
            exact hS
          · skip
            refine rv_aload_n hX dX3_add_44 rfl ?_
            refine rv_getfR hX gX3_9_X3 (hS.mc (k := 0) rfl) rfl dX3_add_45 ?_
            refine rv_iload hX dX3_add_48 rfl ?_
            refine rv_aload_n hX dX3_add_50 rfl ?_
            refine rv_getfR hX gX3_9_X3 (hS.mc (k := 0) rfl) rfl dX3_add_51 ?_
            refine rv_iload hX dX3_add_54 rfl ?_
            refine nv_iconst hX (m := 1) (by decide) dX3_add_56 ?_
            first | refine nv_isub hX (by omega) dX3_add_57 ?_ | refine rv_isub hX dX3_add_57 ?_
            refine xv_iald hX (hS.mc (k := 1) rfl) (by omega) (by omega) dX3_add_58 ?_
            refine xv_iast hX hS (k := 1) rfl (by omega) (by omega) dX3_add_59 (fun h_59 hS => ?_)
            refine rv_aload_n hX dX3_add_60 rfl ?_
            refine rv_getfR hX gX3_15_X3 (hS.mc (k := 0) rfl) rfl dX3_add_61 ?_
            refine rv_iload hX dX3_add_64 rfl ?_
            refine rv_aload_n hX dX3_add_66 rfl ?_
            refine rv_getfR hX gX3_15_X3 (hS.mc (k := 0) rfl) rfl dX3_add_67 ?_
            refine rv_iload hX dX3_add_70 rfl ?_
            refine nv_iconst hX (m := 1) (by decide) dX3_add_72 ?_
            first | refine nv_isub hX (by omega) dX3_add_73 ?_ | refine rv_isub hX dX3_add_73 ?_
            refine xv_iald hX (hS.mc (k := 2) rfl) (by omega) (by omega) dX3_add_74 ?_
            refine xv_iast hX hS (k := 2) rfl (by omega) (by omega) dX3_add_75 (fun h_75 hS => ?_)
            refine rv_iinc hX dX3_add_76 rfl (nI_dec (by omega)) (rv_st_4 rfl) ?_
            refine rv_goto hX 38 dX3_add_79 (by decide) ?_
            refine ih (k - 1) _ (by omega) (by omega) (by omega) ?_
            have e1 := xmv_step (nf := nf) (z := Fs.length) (k := k) (by omega) g3
            have e2 := xmv_step (nf := rf) (z := Fs.length) (k := k) (by omega) g3
            rw [← e1, ← e2]
            exact hS
      refine rv_aload_n hX dX3_add_0 rfl ?_
      refine rv_iload_n hX dX3_add_1 rfl ?_
      refine rv_invVR hX iX3_26 mdX3_has (hS.mc (k := 0) rfl) ⟨TX3, 3, rv_c2⟩ (x_has hG (d := d - 1) (by omega) hFc (by omega)) (by omega) rfl rfl (Nat.le_of_ble_eq_true rfl) dX3_add_2 (fun v h' hq => ?_) (fun E h' hq => by first | exact hq.elim | cases hq.2 | cases hq.1)
      obtain ⟨rfl, hq⟩ := hq
      cases hq
      rw [decide_eq_false hin]
      refine rv_if_eq hX 9 dX3_add_5 (by decide) (fun _ => ?_) (fun q => absurd q (by decide))
      refine rv_aload_n hX dX3_add_9 rfl ?_
      refine rv_getfR hX gX3_18_X3 (hS.mc (k := 0) rfl) rfl dX3_add_10 ?_
      refine nv_bipush hX (m := 60) (by decide) dX3_add_13 ?_
      refine nv_icmp_ne hX 26 (by omega) (by omega) dX3_add_15 (by decide) (fun c_15 => ?_) (fun q => absurd q (by omega))
      refine rv_aload_n hX dX3_add_26 rfl ?_
      refine rv_iload_n hX dX3_add_27 rfl ?_
      refine rv_invVR hX iX3_22 mdX3_placeOf (hS.mc (k := 0) rfl) ⟨TX3, 3, rv_c2⟩ (x_placeOf hG (d := d - 1) hFc (by omega)) (by omega) rfl rfl (Nat.le_of_ble_eq_true rfl) dX3_add_28 (fun v h' hq => ?_) (fun E h' hq => by first | exact hq.elim | cases hq.2 | cases hq.1)
      obtain ⟨rfl, hq⟩ := hq
      cases hq
      refine rv_istore_n hX dX3_add_31 (rv_st_3 rfl) ?_
      refine rv_aload_n hX dX3_add_32 rfl ?_
      refine rv_getfR hX gX3_18_X3 (hS.mc (k := 0) rfl) rfl dX3_add_33 ?_
      refine rv_istore hX dX3_add_36 (rv_st_4 rfl) ?_
      refine loop (Fs.length + 1) Fs.length _ (by omega) hple (Nat.le_refl _) ?_
      rw [xmv_0, xmv_0]
      exact hS
