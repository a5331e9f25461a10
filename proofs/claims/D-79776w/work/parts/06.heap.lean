/-! ROWS THAT READ AND WRITE THE HEAP, RETURNS -/
set_option maxRecDepth 100000
def rv_put (h : rv_H) (a : Nat) (c : rv_C) : rv_H := (fun b => if b = a then some c else h.1 b, h.2)
def rv_add (h : rv_H) (c : rv_C) (n : Nat) : rv_H := (fun b => if b = h.2.1 then some c else h.1 b, h.2.1 + 1, h.2.2 + n)
theorem rv_ext_map {H H1 : List Cell} (hl : H1.length = H.length) (hq : ∀ (q : Nat) (x x1 : Cell), H[q]? = some x → H1[q]? = some x1 → x1.slots.size = x.slots.size) : H1.map (·.slots.size) = H.map (·.slots.size) := by
  apply List.ext_getElem?
  intro q
  rw [List.getElem?_map, List.getElem?_map]
  by_cases h : q < H.length
  · have h1 : q < H1.length := by omega
    rw [List.getElem?_eq_getElem h, List.getElem?_eq_getElem h1]
    simp only [Option.map_some]
    rw [hq q _ _ (List.getElem?_eq_getElem h) (List.getElem?_eq_getElem h1)]
  · rw [List.getElem?_eq_none (by omega), List.getElem?_eq_none (by omega)]
theorem rv_sz_congr {b : Nat} {H H1 : Heap} (z : H1.size = H.size) (hq : ∀ (q : Nat) (x x1 : Cell), H[q]? = some x → H1[q]? = some x1 → x1.slots.size = x.slots.size) : rv_sz b H1 = rv_sz b H := by
  unfold rv_sz
  rw [List.map_drop, List.map_drop, rv_ext_map (H := H.toList) (H1 := H1.toList) (by simpa using z) (fun q x x1 h1 h2 => hq q x x1 (by simpa using h1) (by simpa using h2))]
theorem rv_sz_push {b : Nat} {H : Heap} {c : Cell} (h : b ≤ H.size) : rv_sz b (H.push c) = rv_sz b H + c.slots.size := by
  unfold rv_sz
  rw [Array.toList_push, List.drop_append_of_le_length (by simpa using h)]
  simp
theorem rv_at_kept {G : rv_G} {a : Nat} {c : rv_C} {H H1 : Heap} (h : rv_at G a c H) (hq : H1[a]? = H[a]?) : rv_at G a c H1 := by
  cases c with
  | inl x => exact hq.trans h
  | inr o => exact t_OB.kept h hq
theorem rv_at_lt {G : rv_G} {a : Nat} {c : rv_C} {H : Heap} (h : rv_at G a c H) : a < H.size := by
  cases c with
  | inl x => exact (Array.getElem?_eq_some_iff.mp h).1
  | inr o =>
    obtain ⟨cell, h2, -⟩ := h
    exact (Array.getElem?_eq_some_iff.mp h2).1
theorem rv_R_put {G : rv_G} {h : rv_H} {H H1 : Heap} {a : Nat} {c0 c1 : rv_C} (hR : rv_R G h H) (hg : h.1 a = some c0) (z : H1.size = H.size) (oq : ∀ q : Nat, q ≠ a → H1[q]? = H[q]?) (hc : rv_at G a c1 H1) (hs : ∀ x x1 : Cell, H[a]? = some x → H1[a]? = some x1 → x1.slots.size = x.slots.size) (hm : ∀ o, c1 = .inr o → (∃ o0, c0 = .inr o0) ∧ ∀ x x1 : Cell, H[a]? = some x → H1[a]? = some x1 → x1.monitor = x.monitor := by intro o e; cases e) : rv_R G (rv_put h a c1) H1 := by
  obtain ⟨h1, h2, h3, h4, h5, h6, h7, h8⟩ := hR
  have hb := (h4 a _ hg).1
  refine ⟨z.trans h1, by rw [z]; exact h2, fun q hq => ?_, fun b c hbc => ?_, ?_, h6, h7, fun b o hbo x1 hx1 => ?_⟩
  · rw [oq q (by omega)]
    exact h3 q hq
  · by_cases hba : b = a
    · subst hba
      have e : some c1 = some c := by rw [← hbc]; simp [rv_put]
      cases e
      exact ⟨hb, hc⟩
    · have e : h.1 b = some c := by rw [← hbc]; simp [rv_put, hba]
      obtain ⟨k1, k2⟩ := h4 b c e
      exact ⟨k1, rv_at_kept k2 (oq b hba)⟩
  · show rv_sz (rv_b G) H1 = h.2.2
    rw [← h5]
    refine rv_sz_congr z (fun q x x1 hx hx1 => ?_)
    by_cases hqa : q = a
    · subst hqa
      exact hs x x1 hx hx1
    · rw [oq q hqa, hx] at hx1
      cases hx1
      rfl
  · by_cases hba : b = a
    · subst hba
      have e : some c1 = some (.inr o) := by rw [← hbo]; simp [rv_put]
      cases e
      obtain ⟨⟨o0, rfl⟩, m2⟩ := hm o rfl
      have hlt : b < H.size := by rw [← z]; exact (Array.getElem?_eq_some_iff.mp hx1).1
      have hx : H[b]? = some H[b] := Array.getElem?_eq_getElem hlt
      rw [m2 _ x1 hx hx1]
      exact h8 b o0 hg _ hx
    · have e : h.1 b = some (.inr o) := by rw [← hbo]; simp [rv_put, hba]
      rw [oq b hba] at hx1
      exact h8 b o e x1 hx1
theorem rv_R_add {G : rv_G} {h : rv_H} {H : Heap} {c : rv_C} {cell : Cell} {n : Nat} (hR : rv_R G h H) (hc : rv_at G H.size c (H.push cell)) (hs : cell.slots.size = n) (hN : h.2.1 + 1 ≤ rv_b G + rv_cN) (hS : h.2.2 + n ≤ rv_cS) (hm : ∀ o, c = .inr o → cell.monitor = {} := by first | (intro o e; cases e; done) | (intro o e; rfl)) : rv_R G (rv_add h c n) (H.push cell) := by
  obtain ⟨h1, h2, h3, h4, h5, h6, h7, h8⟩ := hR
  have hold : ∀ q : Nat, q < H.size → (H.push cell)[q]? = H[q]? := fun q hq => by rw [Array.getElem?_push, if_neg (Nat.ne_of_lt hq)]
  refine ⟨by rw [Array.size_push, h1]; rfl, by rw [Array.size_push]; omega, fun q hq => (hold q (Nat.lt_of_lt_of_le hq h2)).trans (h3 q hq), fun b c2 hb => ?_, ?_, hN, hS, fun b o hbo x hx => ?_⟩
  · by_cases hbn : b = h.2.1
    · subst hbn
      have e : some c = some c2 := by rw [← hb]; simp [rv_add]
      cases e
      rw [← h1]
      exact ⟨h2, hc⟩
    · have e : h.1 b = some c2 := by rw [← hb]; simp [rv_add, hbn]
      obtain ⟨k1, k2⟩ := h4 b c2 e
      exact ⟨k1, rv_at_kept k2 (hold b (rv_at_lt k2))⟩
  · rw [rv_sz_push h2, h5, hs]
    rfl
  · by_cases hbn : b = h.2.1
    · subst hbn
      have e : some c = some (.inr o) := by rw [← hbo]; simp [rv_add]
      cases e
      rw [← h1, Array.getElem?_push, if_pos rfl] at hx
      cases hx
      exact hm o rfl
    · have e : h.1 b = some (.inr o) := by rw [← hbo]; simp [rv_add, hbn]
      rw [hold b (rv_at_lt (h4 b _ e).2)] at hx
      exact h8 b o e x hx
/-- the counters as tight as the heap says -/
theorem rv_sz_split {b n : Nat} {H : Heap} (hb : b ≤ n) : rv_sz b H = (((H.toList.drop b).take (n - b)).map (·.slots.size)).sum + rv_sz n H := by
  unfold rv_sz
  have e : H.toList.drop n = (H.toList.drop b).drop (n - b) := by rw [List.drop_drop]; congr 1; omega
  rw [e, ← List.sum_append_nat, ← List.map_append, List.take_append_drop]
theorem rv_old_sz {s T : State} {L : List Loc} {k n b : Nat} (h : s.sameButNew (T.setVm s.vm) L k n) (hb : b ≤ s.heap.size) : rv_sz b T.heap = rv_sz b s.heap + rv_sz s.heap.size T.heap := by
  rw [rv_sz_split (H := T.heap) hb]
  congr 1
  obtain ⟨-, h2, -, -, -, h6⟩ := h
  have h2' : s.heap.size ≤ T.heap.size := h2
  unfold rv_sz
  rw [List.map_take, List.map_drop, List.map_drop]
  have e : (s.heap.toList.map (·.slots.size)).drop b = ((T.heap.toList.map (·.slots.size)).drop b).take (s.heap.size - b) := by
    apply List.ext_getElem?
    intro q
    rw [List.getElem?_drop, List.getElem?_take]
    by_cases hq : q < s.heap.size - b
    · rw [if_pos hq, List.getElem?_drop, List.getElem?_map, List.getElem?_map]
      have hlt : b + q < s.heap.size := by omega
      obtain ⟨cell', e1, -, e3, -⟩ := h6 (b + q) _ (Array.getElem?_eq_getElem hlt)
      have e1' : T.heap[b + q]? = some cell' := e1
      rw [Array.getElem?_toList, Array.getElem?_toList, e1', Array.getElem?_eq_getElem hlt]
      simp only [Option.map_some]
      rw [e3]
    · rw [if_neg hq]
      rw [List.getElem?_eq_none (by simp; omega)]
  rw [e]
theorem rv_tight {p : Program} {l : Launch} {e : Env} {R : Room} {s : State} {m : MethodId} {args : Array Value} {below : List Frame} {meth : Method} {c : Code} {H : Heap} {locs : List Loc} {Q : State → Prop} {g : JFrame} {G : rv_G} {h hs : rv_H} {k n : Nat} (hR : rv_R G h H) (hRs : rv_R G hs s.heap)
    (kk : W p l e R s m args below meth c H locs (h.2.1 - hs.2.1) (h.2.2 - hs.2.2) Q g) : W p l e R s m args below meth c H locs k n Q g := by
  intro T hT X
  refine kk T hT { X with same := ?_ }
  have hsame := X.same
  have hb : rv_b G ≤ s.heap.size := hRs.2.1
  have e := rv_old_sz hsame hb
  obtain ⟨q1, q2, q3, q4, q5, q6⟩ := hsame
  have q2' : s.heap.size ≤ T.heap.size := q2
  refine ⟨q1, q2, ?_, q4, ?_, q6⟩
  · show T.heap.size ≤ s.heap.size + (h.2.1 - hs.2.1)
    rw [hT, hR.1, hRs.1]
    rw [hT, hR.1, hRs.1] at q2'
    omega
  · show rv_sz s.heap.size T.heap ≤ h.2.2 - hs.2.2
    rw [hT] at e ⊢
    rw [hR.2.2.2.2.1, hRs.2.2.2.2.1] at e
    omega
/-! what the context gives -/
theorem rv_U_at {X : rv_X} {y : MethodName} {cc : ByteArray} {d : Nat} (hX : rv_K X y cc d) {k : Nat} {q : vw_C} (hq : rv_cl[k]? = some q) : u_Kn X.2.2.2.2.1 q.1 q.2.1 q.2.2 (X.1.2.2.1.1 k) (X.1.2.2.1.2 k) := by
  obtain ⟨G, p, e, R, s, m, args, below, meth, c, Qw⟩ := X
  obtain ⟨-, -, -, -, ⟨-, -, -, hU⟩, hW, -⟩ := hX
  exact u_Kn_moved hW.alike (hU k q hq)
theorem rv_A_at {X : rv_X} {y : MethodName} {cc : ByteArray} {d : Nat} (hX : rv_K X y cc d) {k : Nat} (hk : k < 6) : ArrOfT X.2.2.2.2.1 (X.1.2.2.2 k) (rv_aty k) ∧ va_RA X.2.2.2.2.1 (X.1.2.2.2 k) (rv_aty k) := by
  obtain ⟨G, p, e, R, s, m, args, below, meth, c, Qw⟩ := X
  obtain ⟨-, -, -, -, ⟨-, hA, -, -⟩, hW, -⟩ := hX
  exact ⟨arrOfT_moved hW.alike (hA k hk).1, (hA k hk).2.moved hW.alike⟩
theorem rv_nestF {X : rv_X} {y : MethodName} {cc : ByteArray} {d : Nat} (hX : rv_K X y cc d) {a : String} {i : Nat} {b n ds ho : String} (hw : (Cond.fieldLinkNest a i b n ds ho) ∈ lw_tbl) : (Cond.fieldLinkNest a i b n ds ho).before X.2.2.2.2.2.2.1 X.2.2.2.2.1 = true := by
  obtain ⟨G, p, e, R, s, m, args, below, meth, c, Qw⟩ := X
  obtain ⟨-, -, -, -, ⟨⟨a0, h0, -⟩, -⟩, hW, -⟩ := hX
  exact va_Nw.use rfl (va_Nw.warmF hW (va_Nw.of rfl (h0 _ hw)))
theorem rv_nestM {X : rv_X} {y : MethodName} {cc : ByteArray} {d : Nat} (hX : rv_K X y cc d) {a : String} {i : Nat} {x : MethodName} {ho : String} (hw : (Cond.methodLinkNest a i x ho) ∈ lw_tbl) : (Cond.methodLinkNest a i x ho).before X.2.2.2.2.2.2.1 X.2.2.2.2.1 = true := by
  obtain ⟨G, p, e, R, s, m, args, below, meth, c, Qw⟩ := X
  obtain ⟨-, -, -, -, ⟨⟨a0, h0, -⟩, -⟩, hW, -⟩ := hX
  exact va_Nw.use rfl (va_Nw.warmM hW (va_Nw.of rfl (h0 _ hw)))
/-! fields -/
def rv_gf (own : String) (ix ci k : Nat) : Prop := ∃ (C : String) (T : u_T) (N : Nat) (ref : String), rv_cl[ci]? = some (C, T, N) ∧ (∀ w ∈ u_ws C T N, w ∈ lw_all) ∧ k < N ∧ ((Cond.fieldLink own ix ref (T k).2.1 (T k).2.2.1) ∈ lw_all ∨ ∃ host, (Cond.fieldLinkNest own ix ref (T k).2.1 (T k).2.2.1 host) ∈ lw_tbl) ∧ (ref = (T k).1 ∨ (Cond.sameField ref (T k).1 (T k).2.1 (T k).2.2.1) ∈ lw_all)
def rv_pf (own : String) (ix ci k : Nat) (ty : FieldType) (fin : Bool) : Prop := ∃ (C : String) (T : u_T) (N : Nat) (ref : String) (ty0 : Nat → FieldType), rv_cl[ci]? = some (C, T, N) ∧ (∀ w ∈ u_ws C T N, w ∈ lw_all) ∧ k < N ∧ ((Cond.fieldLink own ix ref (T k).2.1 (T k).2.2.1) ∈ lw_all ∨ (fin = false ∧ ∃ host, (Cond.fieldLinkNest own ix ref (T k).2.1 (T k).2.2.1 host) ∈ lw_tbl)) ∧ (ref = (T k).1 ∨ (Cond.sameField ref (T k).1 (T k).2.1 (T k).2.2.1) ∈ lw_all) ∧ (∀ k, k < N → parseFieldDescriptor (T k).2.2.1 = some (ty0 k)) ∧ (∀ a, a < N → ∀ b, b < N → a ≠ b → (T a).2.1 ≠ (T b).2.1) ∧ ty0 k = ty ∧ (T k).2.2.2 = fin ∧ (fin = true → (T k).1 = own)
theorem rv_getf {X : rv_X} {y : MethodName} {cc : ByteArray} {d : Nat} (hX : rv_K X y cc d) {h : rv_H} {pc : Nat} {L : List (Option Value)} {st : List Value} {a ix ci k : Nat} {fs : List Value} {v : Value} (hf : rv_gf y.cls ix ci k) (hg : h.1 a = some (.inr (ci, fs))) (hv : fs[k]? = some v) (dg : decode cc pc = .ok (.getfield ix, 3)) (kk : rv_V X h (pc + 3) L (v :: st)) : rv_V X h pc L (.ref a :: st) := by
  obtain ⟨C, T, N, ref, hc, hin, hk, hl, hsm⟩ := hf
  have hw := fun w (q : w ∈ lw_all) => rv_words hX q
  have hU := rv_U_at hX hc
  have hnest := fun host (q : (Cond.fieldLinkNest y.cls ix ref (T k).2.1 (T k).2.2.1 host) ∈ lw_tbl) => rv_nestF hX q
  obtain ⟨G, p, e, R, s, m, args, below, meth, c, Qw⟩ := X
  intro H ls locs hR hL hz
  obtain ⟨hS, hfc, kC, hkC, hkind⟩ := hU
  obtain ⟨cf, kf, fi, f, hi, hsl⟩ := hS k hk
  obtain ⟨-, cell, q1, q2, q3, q4⟩ := hR.2.2.2.1 a _ hg
  have hst := (u_facts hfc hkC (u_lays hw hin hk) hi).1
  have hi2 : s.fieldFound? ref (T k).2.1 (T k).2.2.1 = some (cf, kf, fi, f) := by
    rcases hsm with e | e
    · rw [e]; exact hi
    · exact u_same (hw _ e) _ hi
  have hkl : k < fs.length := (List.getElem?_eq_some_iff.mp hv).1
  have hs2 : cell.slots[f.slot]? = some v := by
    rw [hsl]
    refine (q4 k hkl).trans ?_
    simp [vp_V, hv]
  rcases hl with hl | ⟨host, hl⟩
  · exact W.getf hX.1 hX.2.1 hX.2.2.1 (hw _ hl) hi2 hst q1 (by rw [q3]; exact fun h => by cases h) hs2 rfl rfl dg (kk H ls locs hR hL hz)
  · exact va_Wgetf hX.1 hX.2.1 hX.2.2.1 (hnest host hl) hi2 hst q1 (by rw [q3]; exact fun h => by cases h) hs2 rfl rfl dg (kk H ls locs hR hL hz)
theorem rv_locs {b a i : Nat} {locs : List Loc} (hz : ∀ z ∈ locs, b ≤ z.base) (ha : b ≤ a) : ∀ z ∈ locs ++ [⟨a, i⟩], b ≤ z.base := by
  intro z h
  rcases List.mem_append.mp h with h | h
  · exact hz z h
  · rw [List.mem_singleton.mp h]
    exact ha
theorem rv_setSlot_size (c : Cell) (i : Nat) (v : Value) : (c.setSlot i v).slots.size = c.slots.size := by
  show (c.slots.setIfInBounds i v).size = _
  simp
theorem rv_putf {X : rv_X} {y : MethodName} {cc : ByteArray} {d : Nat} (hX : rv_K X y cc d) {h : rv_H} {pc : Nat} {L : List (Option Value)} {st : List Value} {a ix ci k : Nat} {fs : List Value} {v : Value} {ty : FieldType} {fin : Bool} (hf : rv_pf y.cls ix ci k ty fin) (hfin : fin = true → y.name = "<init>") (hg : h.1 a = some (.inr (ci, fs))) (hl : fs.length = (match rv_cl[ci]? with | some q => q.2.2 | none => 0)) (hn : narrow ty v = v) (hfit : fits ty v = true) (dg : decode cc pc = .ok (.putfield ix, 3)) (kk : rv_V X (rv_put h a (.inr (ci, fs.set k v))) (pc + 3) L st) : rv_V X h pc L (v :: .ref a :: st) := by
  obtain ⟨C, T, N, ref, ty0, hc, hin, hk, hlk, hsm, hty, hnm, hk9, hf9, hd9⟩ := hf
  rw [hc] at hl
  have hl : fs.length = N := hl
  have hw := fun w (q : w ∈ lw_all) => rv_words hX q
  have hU := rv_U_at hX hc
  have hnest := fun host (q : (Cond.fieldLinkNest y.cls ix ref (T k).2.1 (T k).2.2.1 host) ∈ lw_tbl) => rv_nestF hX q
  have hUall := fun (k : Nat) (q : vw_C) (hq : rv_cl[k]? = some q) => rv_U_at hX hq
  obtain ⟨G, p, e, R, s, m, args, below, meth, c, Qw⟩ := X
  intro H ls locs hR hL hz
  have hap := va_apart (s := s) (args := args) (D := G.2.2.1) (cl := rv_cl) (tys := []) (own := C) hw hin ty0 hty hnm ⟨hUall, fun k q h => by simp at h⟩ hc
  obtain ⟨hS, hfc, kC, hkC, hkind⟩ := hU
  obtain ⟨cf, kf, fi, f, hi, hsl⟩ := hS k hk
  obtain ⟨hbb, cell, q1, q2, q3, q4⟩ := hR.2.2.2.1 a _ hg
  have hst := (u_facts hfc hkC (u_lays hw hin hk) hi).1
  have hi2 : s.fieldFound? ref (T k).2.1 (T k).2.2.1 = some (cf, kf, fi, f) := by
    rcases hsm with e | e
    · rw [e]; exact hi
    · exact u_same (hw _ e) _ hi
  have hkl : k < fs.length := by omega
  have hlt : f.slot < cell.slots.size := by rw [hsl]; exact k2_hasslot (q4 k hkl)
  have hpd : parseFieldDescriptor (T k).2.2.1 = some ty := by rw [hty k hk, hk9]
  have fin' : ∀ H1 : Heap, H1[a]? = some (cell.setSlot f.slot v) → H1.size = H.size → (∀ q : Nat, q ≠ a → H1[q]? = H[q]?) → W p G.1 e R s m args below meth c H1 (locs ++ [⟨a, f.slot⟩]) R.cells R.slots Qw (F0 m (pc + 3) ls st) := by
    intro H1 e1 e2 e3
    refine kk H1 ls _ (rv_R_put hR hg e2 e3 ?_ ?_ (fun o _ => ⟨⟨_, rfl⟩, fun x x1 hx hx1 => by rw [q1] at hx; rw [e1] at hx1; cases hx; cases hx1; rfl⟩)) hL (rv_locs hz hbb)
    · show t_OB a (G.2.2.1.1 ci) (fs.set k v).length (G.2.2.1.2 ci) H1 (vp_V (fs.set k v))
      rw [List.length_set]
      rw [hsl] at e1
      refine t_OB.to (V := updV (vp_V fs) k v) ⟨_, e1, q2, q3, ?_⟩ (fun j _ => vp_updV_set hkl v j)
      show ∀ j, j < fs.length → _
      rw [hl]
      exact t_set (by rw [← hl]; exact q4) hap hk v
    · intro x x1 hx hx1
      rw [q1] at hx
      rw [e1] at hx1
      cases hx
      cases hx1
      exact rv_setSlot_size _ _ _
  have hlay := hw _ (hin _ (u_in_lay hk))
  unfold u_lay at hlay
  cases fin with
  | false =>
    rw [if_neg (by rw [hf9]; decide)] at hlay
    have h6 := u_store hfc hkC hkind hlay hi hpd hn hfit
    rcases hlk with hlk | ⟨-, host, hlk⟩
    · exact W.putK hX.1 hX.2.1 (f := f) ⟨hX.2.2.1, hw _ hlk, ⟨_, _, _, hi2⟩, hst⟩ (by rw [q2]; exact h6) q1 q3 hlt rfl rfl dg fin'
    · exact va_WputK hX.1 hX.2.1 (f := f) hX.2.2.1 (hnest host hlk) hi2 hst (by rw [q2]; exact h6) q1 q3 hlt rfl rfl dg fin'
  | true =>
    rw [if_pos hf9] at hlay
    have hcf : m.cls = cf := by
      obtain ⟨_, _, c', _, _, _, -, -, hf', -, -, -, hown2, -⟩ := Cond.laysFinal_spec hlay
      have e1 : c' = cf := by have := hi.symm.trans hf'; simp at this; exact this.1.symm
      rw [hd9 rfl] at hown2
      rw [← e1]; exact Option.some.inj (hX.2.2.1.symm.trans hown2)
    have h6 := u_fits hfc hkC hkind (Or.inr hlay) hi hpd hn hfit
    rcases hlk with hlk | ⟨hno, -⟩
    · exact W.putFinK hX.1 hX.2.1 hX.2.2.1 (hw _ hlk) hi2 hst hcf (by rw [hX.2.2.2.2.2.2.2.2.2]; exact hfin rfl) (by rw [q2]; exact h6) q1 q3 hlt rfl rfl dg fin'
    · cases hno
