/-! THE REFERENCE: its state as functions; one object and forty arrays behind it (printed by tools/gen_model.py) -/
set_option maxRecDepth 100000
/-- fields of ints (by the number of the field), arrays of ints, arrays of longs (by the place behind the object) -/
abbrev rv_S : Type := (Nat → Int32) × (Nat → Nat → Int32) × (Nat → Nat → Int64)
def rv_apl : List Nat := [0, 1, 2, 3, 4, 5, 6, 7, 8, 9, 10, 11, 12, 13, 14, 15, 16, 17, 18, 19, 20, 21, 0, 0, 0, 22, 23, 24, 25, 0, 0, 0, 0, 0, 0, 26, 27, 28, 29, 0, 30, 31, 32, 33, 34, 35, 36, 37, 0, 38, 0, 39, 0, 0, 0, 40]
def rv_ap (k : Nat) : Nat := rv_apl.getD k 0
def rv_szl : List Nat := [0, 11, 8, 17, 17, 51, 17, 102, 102, 306, 17, 17, 17, 62, 62, 62, 62, 8, 20800, 44, 2720, 1024, 8, 62, 62, 62, 6, 6, 8, 8, 62, 62, 62, 62, 62, 62, 62, 62, 201, 3, 3]
def rv_s (j : Nat) : Nat := rv_szl.getD j 0
def rv_lg (j : Nat) : Bool := j == 31 || j == 32 || j == 34 || j == 36
def rv_mf (o : Nat) (σ : rv_S) : List Value := (List.range 56).map (fun k => if rv_ap k = 0 then Value.int (σ.1 k) else Value.ref (o + rv_ap k))
def rv_mc (o : Nat) (σ : rv_S) (j : Nat) : rv_C := if j = 0 then .inr (3, rv_mf o σ) else if rv_lg j = true then .inl (1, rv_s j, .inr (.inl (σ.2.2 j))) else .inl (0, rv_s j, .inl (σ.2.1 j))
/-- the heap hb with the reference, in the state σ, laid over it -/
def rv_mh (hb : rv_H) (o : Nat) (σ : rv_S) : rv_H := (fun a => if o ≤ a ∧ a ≤ o + 40 then some (rv_mc o σ (a - o)) else hb.1 a, hb.2)
def rv_sF (σ : rv_S) (k : Nat) (v : Int32) : rv_S := (fun i => if i = k then v else σ.1 i, σ.2)
def rv_sU (σ : rv_S) (j t : Nat) (v : Int32) : rv_S := (σ.1, fun i s => if i = j ∧ s = t then v else σ.2.1 i s, σ.2.2)
def rv_sW (σ : rv_S) (j t : Nat) (v : Int64) : rv_S := (σ.1, σ.2.1, fun i s => if i = j ∧ s = t then v else σ.2.2 i s)
theorem rv_mh_at (hb : rv_H) (o : Nat) (σ : rv_S) {j : Nat} (h : j ≤ 40) : (rv_mh hb o σ).1 (o + j) = some (rv_mc o σ j) := by
  show (if o ≤ o + j ∧ o + j ≤ o + 40 then some (rv_mc o σ (o + j - o)) else hb.1 (o + j)) = _
  rw [if_pos ⟨by omega, by omega⟩, show o + j - o = j by omega]
theorem rv_mh_o (hb : rv_H) (o : Nat) (σ : rv_S) : (rv_mh hb o σ).1 o = some (.inr (3, rv_mf o σ)) := rv_mh_at hb o σ (j := 0) (by decide)
theorem rv_mh_put {hb : rv_H} {o : Nat} {σ τ : rv_S} {j : Nat} (h : j ≤ 40) (hn : ∀ i, i ≤ 40 → i ≠ j → rv_mc o τ i = rv_mc o σ i) : rv_put (rv_mh hb o σ) (o + j) (rv_mc o τ j) = rv_mh hb o τ := by
  refine Prod.ext (funext fun a => ?_) rfl
  show (if a = o + j then some (rv_mc o τ j) else if o ≤ a ∧ a ≤ o + 40 then some (rv_mc o σ (a - o)) else hb.1 a) = if o ≤ a ∧ a ≤ o + 40 then some (rv_mc o τ (a - o)) else hb.1 a
  by_cases e : a = o + j
  · rw [if_pos e, if_pos ⟨by omega, by omega⟩, show a - o = j by omega]
  · rw [if_neg e]
    by_cases e2 : o ≤ a ∧ a ≤ o + 40
    · rw [if_pos e2, if_pos e2, hn (a - o) (by omega) (by omega)]
    · rw [if_neg e2, if_neg e2]
theorem rv_mh_mh {hb : rv_H} {o : Nat} {σ τ : rv_S} : rv_mh (rv_mh hb o σ) o τ = rv_mh hb o τ := by
  refine Prod.ext (funext fun a => ?_) rfl
  show (if o ≤ a ∧ a ≤ o + 40 then some (rv_mc o τ (a - o)) else if o ≤ a ∧ a ≤ o + 40 then some (rv_mc o σ (a - o)) else hb.1 a) = if o ≤ a ∧ a ≤ o + 40 then some (rv_mc o τ (a - o)) else hb.1 a
  by_cases e2 : o ≤ a ∧ a ≤ o + 40
  · rw [if_pos e2, if_pos e2]
  · rw [if_neg e2, if_neg e2, if_neg e2]
theorem rv_mc_U {o : Nat} {σ : rv_S} {j t : Nat} {v : Int32} (h0 : j ≠ 0) (hl : rv_lg j = false) : rv_mc o (rv_sU σ j t v) j = .inl (0, rv_s j, .inl (upd (σ.2.1 j) t v)) := by
  unfold rv_mc
  rw [if_neg h0, if_neg (by rw [hl]; decide)]
  congr 4
  funext s
  simp [rv_sU, upd]
theorem rv_mc_Un {o : Nat} {σ : rv_S} {j t : Nat} {v : Int32} {i : Nat} (hi : i ≠ j) : rv_mc o (rv_sU σ j t v) i = rv_mc o σ i := by
  unfold rv_mc
  by_cases h0 : i = 0
  · rw [if_pos h0, if_pos h0]
    rfl
  · rw [if_neg h0, if_neg h0]
    by_cases h1 : rv_lg i = true
    · rw [if_pos h1, if_pos h1]
      rfl
    · rw [if_neg h1, if_neg h1]
      congr 4
      funext s
      simp [rv_sU, hi]
theorem rv_mc_W {o : Nat} {σ : rv_S} {j t : Nat} {v : Int64} (h0 : j ≠ 0) (hl : rv_lg j = true) : rv_mc o (rv_sW σ j t v) j = .inl (1, rv_s j, .inr (.inl (vp_updL (σ.2.2 j) t v))) := by
  unfold rv_mc
  rw [if_neg h0, if_pos hl]
  congr 5
  funext s
  simp [rv_sW, vp_updL]
theorem rv_mc_Wn {o : Nat} {σ : rv_S} {j t : Nat} {v : Int64} {i : Nat} (hi : i ≠ j) : rv_mc o (rv_sW σ j t v) i = rv_mc o σ i := by
  unfold rv_mc
  by_cases h0 : i = 0
  · rw [if_pos h0, if_pos h0]
    rfl
  · rw [if_neg h0, if_neg h0]
    by_cases h1 : rv_lg i = true
    · rw [if_pos h1, if_pos h1]
      congr 5
      funext s
      simp [rv_sW, hi]
    · rw [if_neg h1, if_neg h1]
      rfl
theorem rv_mf_get {o : Nat} {σ : rv_S} {k : Nat} (hk : k < 56) : (rv_mf o σ)[k]? = some (if rv_ap k = 0 then Value.int (σ.1 k) else Value.ref (o + rv_ap k)) := by
  unfold rv_mf
  rw [List.getElem?_map, List.getElem?_range hk]
  rfl
theorem rv_mf_len {o : Nat} {σ : rv_S} : (rv_mf o σ).length = 56 := by unfold rv_mf; rw [List.length_map, List.length_range]
theorem rv_mf_set {o : Nat} {σ : rv_S} {k : Nat} {v : Int32} (hk : k < 56) (ha : rv_ap k = 0) : (rv_mf o σ).set k (.int v) = rv_mf o (rv_sF σ k v) := by
  apply List.ext_getElem?
  intro i
  by_cases hi : i < 56
  · rw [rv_mf_get hi]
    by_cases e : i = k
    · subst e
      rw [List.getElem?_set_self (by rw [rv_mf_len]; exact hk), if_pos ha]
      simp [rv_sF]
    · rw [List.getElem?_set_ne (Ne.symm e), rv_mf_get hi]
      simp [rv_sF, e]
  · rw [List.getElem?_eq_none (by rw [List.length_set, rv_mf_len]; omega), List.getElem?_eq_none (by rw [rv_mf_len]; omega)]
def rv_z (b : Bool) : Int32 := if b = true then 1 else 0
theorem rv_z0 {b : Bool} : rv_z b = 0 ↔ b = false := by cases b <;> decide
theorem rv_z1 {b : Bool} : rv_z b = 1 ↔ b = true := by cases b <;> decide
/-- contracts of the reference's methods, by what they answer -/
def mQ (hb : rv_H) (o : Nat) (P : Option Value → rv_S → Prop) : rv_O → rv_H → Prop := fun out h' => ∃ (v : Option Value) (τ : rv_S), out = .inl v ∧ h' = rv_mh hb o τ ∧ P v τ
def mC (G : rv_G) (d : Nat) (y : MethodName) (cw : Cond) (as : List Value) (σ : rv_S) (P : Option Value → rv_S → Prop) : Prop := ∀ (hb : rv_H) (o : Nat), rv_Call G d y cw (.ref o :: as) (rv_mh hb o σ) (mQ hb o P)
def mPi (P : Int32 → rv_S → Prop) : Option Value → rv_S → Prop := fun v τ => ∃ r : Int32, v = some (.int r) ∧ P r τ
def mPz (P : Bool → rv_S → Prop) : Option Value → rv_S → Prop := fun v τ => ∃ b : Bool, v = some (.int (rv_z b)) ∧ P b τ
def mPl (P : Int64 → rv_S → Prop) : Option Value → rv_S → Prop := fun v τ => ∃ r : Int64, v = some (.long r) ∧ P r τ
def mPv (P : rv_S → Prop) : Option Value → rv_S → Prop := fun v τ => v = none ∧ P τ
/-- contracts of static methods that don't touch the heap -/
def sC (G : rv_G) (d : Nat) (y : MethodName) (cw : Cond) (as : List Value) (P : Option Value → Prop) : Prop := ∀ h : rv_H, rv_Call G d y cw as h (fun out h' => ∃ v : Option Value, out = .inl v ∧ h' = h ∧ P v)
section MV
variable {X : rv_X} {y y2 : MethodName} {cc : ByteArray} {cw : Cond} {d d2 n ix : Nat} {hb : rv_H} {o : Nat} {σ : rv_S} {pc : Nat} {L : List (Option Value)} {st stk as : List Value}
theorem mv_ga (hX : rv_K X y cc d) {k j : Nat} (gf : rv_gf y.cls ix 3 k) (hk : k < 56) (hj : rv_ap k = j) (h0 : ¬ j = 0) (dg : decode cc pc = .ok (.getfield ix, 3)) (kk : rv_V X (rv_mh hb o σ) (pc + 3) L (.ref (o + j) :: st)) : rv_V X (rv_mh hb o σ) pc L (.ref o :: st) :=
  rv_getf hX gf (rv_mh_o hb o σ) (by rw [rv_mf_get hk, hj, if_neg h0]) dg kk
theorem mv_gi (hX : rv_K X y cc d) {k : Nat} (gf : rv_gf y.cls ix 3 k) (hk : k < 56) (hj : rv_ap k = 0) (dg : decode cc pc = .ok (.getfield ix, 3)) (kk : rv_V X (rv_mh hb o σ) (pc + 3) L (.int (σ.1 k) :: st)) : rv_V X (rv_mh hb o σ) pc L (.ref o :: st) :=
  rv_getf hX gf (rv_mh_o hb o σ) (by rw [rv_mf_get hk, if_pos hj]) dg kk
theorem mv_pi (hX : rv_K X y cc d) {k : Nat} {ty : FieldType} {v : Int32} (pf : rv_pf y.cls ix 3 k ty false) (hk : k < 56) (hj : rv_ap k = 0) (hn : narrow ty (.int v) = .int v) (hf : fits ty (.int v) = true) (dg : decode cc pc = .ok (.putfield ix, 3)) (kk : rv_V X (rv_mh hb o (rv_sF σ k v)) (pc + 3) L st) : rv_V X (rv_mh hb o σ) pc L (.int v :: .ref o :: st) := by
  refine rv_putf hX pf (fun h => by cases h) (rv_mh_o hb o σ) rv_mf_len hn hf dg ?_
  have e : rv_put (rv_mh hb o σ) o (.inr (3, (rv_mf o σ).set k (.int v))) = rv_mh hb o (rv_sF σ k v) := by
    rw [rv_mf_set hk hj]
    refine rv_mh_put (j := 0) (by decide) (fun i _ hi => ?_)
    unfold rv_mc
    rw [if_neg hi, if_neg hi]
    rfl
  rw [e]
  exact kk
theorem mv_ld (hX : rv_K X y cc d) {j t : Nat} (hj : j ≤ 40) (h0 : ¬ j = 0) (hl : rv_lg j = false) (hs : rv_s j < 30000) (ht : t < rv_s j) (dg : decode cc pc = .ok (.iaload, 1)) (kk : rv_V X (rv_mh hb o σ) (pc + 1) L (.int (σ.2.1 j t) :: st)) : rv_V X (rv_mh hb o σ) pc L (.int (nI t) :: .ref (o + j) :: st) := by
  refine rv_iald hX (n := rv_s j) (f := σ.2.1 j) (by rw [rv_mh_at hb o σ hj]; unfold rv_mc; rw [if_neg h0, if_neg (by rw [hl]; decide)]) (vp_in_nI ht (by omega)) dg ?_
  rw [nI_clamp (by omega)]
  exact kk
theorem mv_lld (hX : rv_K X y cc d) {j t : Nat} (hj : j ≤ 40) (h0 : ¬ j = 0) (hl : rv_lg j = true) (hs : rv_s j < 30000) (ht : t < rv_s j) (dg : decode cc pc = .ok (.laload, 1)) (kk : rv_V X (rv_mh hb o σ) (pc + 1) L (.long (σ.2.2 j t) :: st)) : rv_V X (rv_mh hb o σ) pc L (.int (nI t) :: .ref (o + j) :: st) := by
  refine rv_lald hX (n := rv_s j) (f := σ.2.2 j) (by rw [rv_mh_at hb o σ hj]; unfold rv_mc; rw [if_neg h0, if_pos hl]) (vp_in_nI ht (by omega)) dg ?_
  rw [nI_clamp (by omega)]
  exact kk
theorem mv_st (hX : rv_K X y cc d) {j t : Nat} {v : Int32} (hj : j ≤ 40) (h0 : ¬ j = 0) (hl : rv_lg j = false) (hs : rv_s j < 30000) (ht : t < rv_s j) (dg : decode cc pc = .ok (.iastore, 1)) (kk : rv_V X (rv_mh hb o (rv_sU σ j t v)) (pc + 1) L st) : rv_V X (rv_mh hb o σ) pc L (.int v :: .int (nI t) :: .ref (o + j) :: st) := by
  refine rv_iast hX (n := rv_s j) (f := σ.2.1 j) (by rw [rv_mh_at hb o σ hj]; unfold rv_mc; rw [if_neg h0, if_neg (by rw [hl]; decide)]) (vp_in_nI ht (by omega)) dg ?_
  rw [nI_clamp (by omega), ← rv_mc_U (o := o) h0 hl, rv_mh_put hj (fun i _ hi => rv_mc_Un hi)]
  exact kk
theorem mv_lst (hX : rv_K X y cc d) {j t : Nat} {v : Int64} (hj : j ≤ 40) (h0 : ¬ j = 0) (hl : rv_lg j = true) (hs : rv_s j < 30000) (ht : t < rv_s j) (dg : decode cc pc = .ok (.lastore, 1)) (kk : rv_V X (rv_mh hb o (rv_sW σ j t v)) (pc + 1) L st) : rv_V X (rv_mh hb o σ) pc L (.long v :: .int (nI t) :: .ref (o + j) :: st) := by
  refine rv_last hX (n := rv_s j) (f := σ.2.2 j) (by rw [rv_mh_at hb o σ hj]; unfold rv_mc; rw [if_neg h0, if_pos hl]) (vp_in_nI ht (by omega)) dg ?_
  rw [nI_clamp (by omega), ← rv_mc_W (o := o) h0 hl, rv_mh_put hj (fun i _ hi => rv_mc_Wn hi)]
  exact kk
/-- calls of the reference's own methods -/
theorem mv_call (hX : rv_K X y cc d) (hl : rv_lv y.cls ix y2) (hy2 : y2.cls = RX4) (hm : rv_md y2 cw n) {P : Option Value → rv_S → Prop} (hC : mC X.1 d2 y2 cw as σ P) (hd : d2 + 1 ≤ d) (hn : as.length = n) (hst : stk = as.reverse ++ .ref o :: st) (hroom : (st.map fun v => v.category).sum ≤ 8) (dg : decode cc pc = .ok (.invokevirtual ix, 3)) (kk : ∀ (v : Option Value) (τ : rv_S), P v τ → rv_V X (rv_mh hb o τ) (pc + 3) L (v.toList ++ st)) : rv_V X (rv_mh hb o σ) pc L stk :=
  rv_invV hX hl hm (rv_mh_o hb o σ) (by rw [hy2]; exact rc_X4) (hC hb o) hd hn hst hroom dg (fun v h' hq => by
    obtain ⟨v2, τ, e1, e2, hp⟩ := hq
    cases e1
    subst e2
    exact kk _ τ hp) (fun E h' hq => by
    obtain ⟨v2, τ, e1, -⟩ := hq
    cases e1)
theorem mv_scall (hX : rv_K X y cc d) {h : rv_H} (hl : rv_ls y.cls ix y2) (hm : rv_md y2 cw n) {P : Option Value → Prop} (hC : sC X.1 d2 y2 cw as P) (hd : d2 + 1 ≤ d) (hn : as.length = n) (hst : stk = as.reverse ++ st) (hroom : (st.map fun v => v.category).sum ≤ 8) (dg : decode cc pc = .ok (.invokestatic ix, 3)) (kk : ∀ (v : Option Value), P v → rv_V X h (pc + 3) L (v.toList ++ st)) : rv_V X h pc L stk :=
  rv_invS hX hl hm (hC h) hd hn hst hroom dg (fun v h' hq => by
    obtain ⟨v2, e1, e2, hp⟩ := hq
    cases e1
    subst e2
    exact kk _ hp) (fun E h' hq => by
    obtain ⟨v2, e1, -⟩ := hq
    cases e1)
/-- a reference's method's start -/
theorem mv_start {G : rv_G} (hG : rv_GK G) {nL : Nat} {ret : Option FieldType} {P : Option Value → rv_S → Prop} (hy : plainName y.cls = true) (hn : (lg_sl (.ref 0 :: as)).length ≤ nL)
    (body : ∀ (X : rv_X) (hb : rv_H) (o : Nat), X.1 = G → rv_K X y cc d → rv_E X ret [] (mQ hb o P) → rv_V X (rv_mh hb o σ) 0 (rv_in (.ref o :: as) nL) []) : mC G d y (Cond.code y cc nL ret) as σ P :=
  fun hb o => rv_start hG hy rfl (by
    have e : (lg_sl (.ref o :: as)).length = (lg_sl (.ref 0 :: as)).length := by simp [lg_sl, Value.category]
    rw [e]; exact hn) (fun X hX hK hE => body X hb o hX hK hE)
theorem sv_start {G : rv_G} (hG : rv_GK G) {nL : Nat} {ret : Option FieldType} {P : Option Value → Prop} (hy : plainName y.cls = true) (hn : (lg_sl as).length ≤ nL)
    (body : ∀ (X : rv_X) (h : rv_H), X.1 = G → rv_K X y cc d → rv_E X ret [] (fun out h' => ∃ v : Option Value, out = .inl v ∧ h' = h ∧ P v) → rv_V X h 0 (rv_in as nL) []) : sC G d y (Cond.code y cc nL ret) as P :=
  fun h => rv_start hG hy rfl hn (fun X hX hK hE => body X h hX hK hE)
theorem mv_ret {ty : FieldType} (hX : rv_K X y cc d) {hh : List ExceptionTableEntry} {P : Option Value → rv_S → Prop} (hE : rv_E X (some ty) hh (mQ hb o P)) {v : Int32} (hn : narrow ty (.int v) = .int v) (dg : decode cc pc = .ok (.ireturn, 1)) (hq : P (some (.int v)) σ) : rv_V X (rv_mh hb o σ) pc L [.int v] := rv_ireturn hX hE hn ⟨_, σ, rfl, rfl, hq⟩ dg
theorem mv_lret (hX : rv_K X y cc d) {hh : List ExceptionTableEntry} {P : Option Value → rv_S → Prop} (hE : rv_E X (some .long) hh (mQ hb o P)) {v : Int64} (dg : decode cc pc = .ok (.lreturn, 1)) (hq : P (some (.long v)) σ) : rv_V X (rv_mh hb o σ) pc L [.long v] := rv_lreturn hX hE ⟨_, σ, rfl, rfl, hq⟩ dg
theorem mv_vret (hX : rv_K X y cc d) {hh : List ExceptionTableEntry} {P : Option Value → rv_S → Prop} (hE : rv_E X none hh (mQ hb o P)) (dg : decode cc pc = .ok (.return_, 1)) (hq : P none σ) : rv_V X (rv_mh hb o σ) pc L [] := rv_return hX hE ⟨_, σ, rfl, rfl, hq⟩ dg
theorem sv_ret {ty : FieldType} (hX : rv_K X y cc d) {h : rv_H} {hh : List ExceptionTableEntry} {P : Option Value → Prop} (hE : rv_E X (some ty) hh (fun out h' => ∃ v : Option Value, out = .inl v ∧ h' = h ∧ P v)) {v : Int32} (hn : narrow ty (.int v) = .int v) (dg : decode cc pc = .ok (.ireturn, 1)) (hq : P (some (.int v))) : rv_V X h pc L [.int v] := rv_ireturn hX hE hn ⟨_, rfl, rfl, hq⟩ dg
end MV
theorem nv_iadd {X : rv_X} {y : MethodName} {cc : ByteArray} {d : Nat} (hX : rv_K X y cc d) {h : rv_H} {pc : Nat} {L : List (Option Value)} {st : List Value} {a b : Nat} (dg : decode cc pc = .ok (.iadd, 1)) (k : rv_V X h (pc + 1) L (.int (nI (a + b)) :: st)) : rv_V X h pc L (.int (nI b) :: .int (nI a) :: st) := rv_iadd hX dg (by rw [nI_add]; exact k)
theorem nv_imul {X : rv_X} {y : MethodName} {cc : ByteArray} {d : Nat} (hX : rv_K X y cc d) {h : rv_H} {pc : Nat} {L : List (Option Value)} {st : List Value} {a b : Nat} (dg : decode cc pc = .ok (.imul, 1)) (k : rv_V X h (pc + 1) L (.int (nI (a * b)) :: st)) : rv_V X h pc L (.int (nI b) :: .int (nI a) :: st) := rv_imul hX dg (by rw [pk_mul]; exact k)
theorem nv_isub {X : rv_X} {y : MethodName} {cc : ByteArray} {d : Nat} (hX : rv_K X y cc d) {h : rv_H} {pc : Nat} {L : List (Option Value)} {st : List Value} {a b : Nat} (hle : b ≤ a) (dg : decode cc pc = .ok (.isub, 1)) (k : rv_V X h (pc + 1) L (.int (nI (a - b)) :: st)) : rv_V X h pc L (.int (nI b) :: .int (nI a) :: st) := rv_isub hX dg (by rw [pk_sub hle]; exact k)
theorem nv_idiv {X : rv_X} {y : MethodName} {cc : ByteArray} {d : Nat} (hX : rv_K X y cc d) {h : rv_H} {pc : Nat} {L : List (Option Value)} {st : List Value} {a b : Nat} (ha : a < 2147483648) (hb0 : 0 < b) (hb1 : b < 2147483648) (dg : decode cc pc = .ok (.idiv, 1)) (k : rv_V X h (pc + 1) L (.int (nI (a / b)) :: st)) : rv_V X h pc L (.int (nI b) :: .int (nI a) :: st) := rv_idiv hX dg (nI_ne0 hb0 hb1) (by rw [pk_div ha hb0 hb1]; exact k)
theorem nv_irem {X : rv_X} {y : MethodName} {cc : ByteArray} {d : Nat} (hX : rv_K X y cc d) {h : rv_H} {pc : Nat} {L : List (Option Value)} {st : List Value} {a b : Nat} (ha : a < 2147483648) (hb0 : 0 < b) (hb1 : b < 2147483648) (dg : decode cc pc = .ok (.irem, 1)) (k : rv_V X h (pc + 1) L (.int (nI (a % b)) :: st)) : rv_V X h pc L (.int (nI b) :: .int (nI a) :: st) := rv_irem hX dg (nI_ne0 hb0 hb1) (by rw [pk_rem ha hb0 hb1]; exact k)
theorem nv_iinc {X : rv_X} {y : MethodName} {cc : ByteArray} {d : Nat} (hX : rv_K X y cc d) {h : rv_H} {pc : Nat} {L : List (Option Value)} {st : List Value} {i a : Nat} {n : Int} {m : Nat} {L' : List (Option Value)} (dg : decode cc pc = .ok (.iinc i n, 3)) (hl : L[i]? = some (some (.int (nI a)))) (hv : Int32.ofInt n = nI m) (hS : rv_st L i (.int (nI (a + m))) L') (k : rv_V X h (pc + 3) L' st) : rv_V X h pc L st := rv_iinc hX dg hl (by rw [hv, nI_add]) hS k
theorem nv_iconst {X : rv_X} {y : MethodName} {cc : ByteArray} {d : Nat} (hX : rv_K X y cc d) {h : rv_H} {pc : Nat} {L : List (Option Value)} {st : List Value} {n : Int} {m : Nat} (hv : Int32.ofInt n = nI m) (dg : decode cc pc = .ok (.iconst n, 1)) (k : rv_V X h (pc + 1) L (.int (nI m) :: st)) : rv_V X h pc L st := rv_iconst hX dg hv k
theorem nv_bipush {X : rv_X} {y : MethodName} {cc : ByteArray} {d : Nat} (hX : rv_K X y cc d) {h : rv_H} {pc : Nat} {L : List (Option Value)} {st : List Value} {n : Int} {m : Nat} (hv : (Int8.ofInt n).toInt32 = nI m) (dg : decode cc pc = .ok (.bipush n, 2)) (k : rv_V X h (pc + 2) L (.int (nI m) :: st)) : rv_V X h pc L st := rv_bipush hX dg hv k
theorem nv_sipush {X : rv_X} {y : MethodName} {cc : ByteArray} {d : Nat} (hX : rv_K X y cc d) {h : rv_H} {pc : Nat} {L : List (Option Value)} {st : List Value} {n : Int} {m : Nat} (hv : (Int16.ofInt n).toInt32 = nI m) (dg : decode cc pc = .ok (.sipush n, 3)) (k : rv_V X h (pc + 3) L (.int (nI m) :: st)) : rv_V X h pc L st := rv_sipush hX dg hv k
theorem nv_icmp_eq {X : rv_X} {y : MethodName} {cc : ByteArray} {d : Nat} (hX : rv_K X y cc d) {h : rv_H} {pc : Nat} {L : List (Option Value)} {st : List Value} {a b : Nat} {off : Int} (tgt : Nat) (ha : a < 2147483648) (hb : b < 2147483648) (dg : decode cc pc = .ok (.if_icmp .eq off, 3)) (ht : (pc : Int) + off = (tgt : Int)) (kt : a = b → rv_V X h tgt L st) (kf : a ≠ b → rv_V X h (pc + 3) L st) : rv_V X h pc L (.int (nI b) :: .int (nI a) :: st) := rv_icmp_eq hX tgt dg ht (fun q => kt ((nI_eq ha hb).mp q)) (fun q => kf (fun e => q ((nI_eq ha hb).mpr e)))
theorem nv_icmp_ne {X : rv_X} {y : MethodName} {cc : ByteArray} {d : Nat} (hX : rv_K X y cc d) {h : rv_H} {pc : Nat} {L : List (Option Value)} {st : List Value} {a b : Nat} {off : Int} (tgt : Nat) (ha : a < 2147483648) (hb : b < 2147483648) (dg : decode cc pc = .ok (.if_icmp .ne off, 3)) (ht : (pc : Int) + off = (tgt : Int)) (kt : ¬ a = b → rv_V X h tgt L st) (kf : a = b → rv_V X h (pc + 3) L st) : rv_V X h pc L (.int (nI b) :: .int (nI a) :: st) := rv_icmp_ne hX tgt dg ht (fun q => kt (fun e => q ((nI_eq ha hb).mpr e))) (fun q => kf ((nI_eq ha hb).mp q))
theorem nv_icmp_lt {X : rv_X} {y : MethodName} {cc : ByteArray} {d : Nat} (hX : rv_K X y cc d) {h : rv_H} {pc : Nat} {L : List (Option Value)} {st : List Value} {a b : Nat} {off : Int} (tgt : Nat) (ha : a < 2147483648) (hb : b < 2147483648) (dg : decode cc pc = .ok (.if_icmp .lt off, 3)) (ht : (pc : Int) + off = (tgt : Int)) (kt : a < b → rv_V X h tgt L st) (kf : b ≤ a → rv_V X h (pc + 3) L st) : rv_V X h pc L (.int (nI b) :: .int (nI a) :: st) := rv_icmp_lt hX tgt dg ht (fun q => kt ((nI_ltI ha hb).mp q)) (fun q => kf (by have := mt (nI_ltI ha hb).mpr q; omega))
theorem nv_icmp_ge {X : rv_X} {y : MethodName} {cc : ByteArray} {d : Nat} (hX : rv_K X y cc d) {h : rv_H} {pc : Nat} {L : List (Option Value)} {st : List Value} {a b : Nat} {off : Int} (tgt : Nat) (ha : a < 2147483648) (hb : b < 2147483648) (dg : decode cc pc = .ok (.if_icmp .ge off, 3)) (ht : (pc : Int) + off = (tgt : Int)) (kt : b ≤ a → rv_V X h tgt L st) (kf : a < b → rv_V X h (pc + 3) L st) : rv_V X h pc L (.int (nI b) :: .int (nI a) :: st) := rv_icmp_ge hX tgt dg ht (fun q => kt ((nI_leI hb ha).mp q)) (fun q => kf (by have := mt (nI_leI hb ha).mpr q; omega))
theorem nv_icmp_gt {X : rv_X} {y : MethodName} {cc : ByteArray} {d : Nat} (hX : rv_K X y cc d) {h : rv_H} {pc : Nat} {L : List (Option Value)} {st : List Value} {a b : Nat} {off : Int} (tgt : Nat) (ha : a < 2147483648) (hb : b < 2147483648) (dg : decode cc pc = .ok (.if_icmp .gt off, 3)) (ht : (pc : Int) + off = (tgt : Int)) (kt : b < a → rv_V X h tgt L st) (kf : a ≤ b → rv_V X h (pc + 3) L st) : rv_V X h pc L (.int (nI b) :: .int (nI a) :: st) := rv_icmp_gt hX tgt dg ht (fun q => kt ((nI_ltI hb ha).mp q)) (fun q => kf (by have := mt (nI_ltI hb ha).mpr q; omega))
theorem nv_icmp_le {X : rv_X} {y : MethodName} {cc : ByteArray} {d : Nat} (hX : rv_K X y cc d) {h : rv_H} {pc : Nat} {L : List (Option Value)} {st : List Value} {a b : Nat} {off : Int} (tgt : Nat) (ha : a < 2147483648) (hb : b < 2147483648) (dg : decode cc pc = .ok (.if_icmp .le off, 3)) (ht : (pc : Int) + off = (tgt : Int)) (kt : a ≤ b → rv_V X h tgt L st) (kf : b < a → rv_V X h (pc + 3) L st) : rv_V X h pc L (.int (nI b) :: .int (nI a) :: st) := rv_icmp_le hX tgt dg ht (fun q => kt ((nI_leI ha hb).mp q)) (fun q => kf (by have := mt (nI_leI ha hb).mpr q; omega))
theorem nv_if_eq {X : rv_X} {y : MethodName} {cc : ByteArray} {d : Nat} (hX : rv_K X y cc d) {h : rv_H} {pc : Nat} {L : List (Option Value)} {st : List Value} {a : Nat} {off : Int} (tgt : Nat) (ha : a < 2147483648) (dg : decode cc pc = .ok (.ifCond .eq off, 3)) (ht : (pc : Int) + off = (tgt : Int)) (kt : a = 0 → rv_V X h tgt L st) (kf : 0 < a → rv_V X h (pc + 3) L st) : rv_V X h pc L (.int (nI a) :: st) := rv_if_eq hX tgt dg ht (fun q => kt ((nI_eq (b := 0) ha (by decide)).mp q)) (fun q => kf (Nat.pos_of_ne_zero (fun e => q (by rw [e]; rfl))))
theorem nv_if_ne {X : rv_X} {y : MethodName} {cc : ByteArray} {d : Nat} (hX : rv_K X y cc d) {h : rv_H} {pc : Nat} {L : List (Option Value)} {st : List Value} {a : Nat} {off : Int} (tgt : Nat) (ha : a < 2147483648) (dg : decode cc pc = .ok (.ifCond .ne off, 3)) (ht : (pc : Int) + off = (tgt : Int)) (kt : 0 < a → rv_V X h tgt L st) (kf : a = 0 → rv_V X h (pc + 3) L st) : rv_V X h pc L (.int (nI a) :: st) := rv_if_ne hX tgt dg ht (fun q => kt (Nat.pos_of_ne_zero (fun e => q (by rw [e]; rfl)))) (fun q => kf ((nI_eq (b := 0) ha (by decide)).mp q))
theorem nv_if_le {X : rv_X} {y : MethodName} {cc : ByteArray} {d : Nat} (hX : rv_K X y cc d) {h : rv_H} {pc : Nat} {L : List (Option Value)} {st : List Value} {a : Nat} {off : Int} (tgt : Nat) (ha : a < 2147483648) (dg : decode cc pc = .ok (.ifCond .le off, 3)) (ht : (pc : Int) + off = (tgt : Int)) (kt : a = 0 → rv_V X h tgt L st) (kf : 0 < a → rv_V X h (pc + 3) L st) : rv_V X h pc L (.int (nI a) :: st) := rv_if_le hX tgt dg ht (fun q => kt (by have := (nI_leI (a := a) (b := 0) ha (by decide)).mp q; omega)) (fun q => kf (Nat.pos_of_ne_zero (fun e => q (by rw [e]; decide))))
theorem nv_if_gt {X : rv_X} {y : MethodName} {cc : ByteArray} {d : Nat} (hX : rv_K X y cc d) {h : rv_H} {pc : Nat} {L : List (Option Value)} {st : List Value} {a : Nat} {off : Int} (tgt : Nat) (ha : a < 2147483648) (dg : decode cc pc = .ok (.ifCond .gt off, 3)) (ht : (pc : Int) + off = (tgt : Int)) (kt : 0 < a → rv_V X h tgt L st) (kf : a = 0 → rv_V X h (pc + 3) L st) : rv_V X h pc L (.int (nI a) :: st) := rv_if_gt hX tgt dg ht (fun q => kt ((nI_ltI (a := 0) (b := a) (by decide) ha).mp q)) (fun q => kf (by have := mt (nI_ltI (a := 0) (b := a) (by decide) ha).mpr q; omega))
theorem nv_if_ge {X : rv_X} {y : MethodName} {cc : ByteArray} {d : Nat} (hX : rv_K X y cc d) {h : rv_H} {pc : Nat} {L : List (Option Value)} {st : List Value} {a : Nat} {off : Int} (tgt : Nat) (ha : a < 2147483648) (dg : decode cc pc = .ok (.ifCond .ge off, 3)) (ht : (pc : Int) + off = (tgt : Int)) (kt : rv_V X h tgt L st) : rv_V X h pc L (.int (nI a) :: st) := rv_if_ge hX tgt dg ht (fun q => kt) (fun q => absurd (nI_pos' ha) q)
theorem nv_if_lt {X : rv_X} {y : MethodName} {cc : ByteArray} {d : Nat} (hX : rv_K X y cc d) {h : rv_H} {pc : Nat} {L : List (Option Value)} {st : List Value} {a : Nat} {off : Int} (tgt : Nat) (ha : a < 2147483648) (dg : decode cc pc = .ok (.ifCond .lt off, 3)) (ht : (pc : Int) + off = (tgt : Int)) (kf : rv_V X h (pc + 3) L st) : rv_V X h pc L (.int (nI a) :: st) := rv_if_lt hX tgt dg ht (fun q => absurd q (nI_pos ha)) (fun q => kf)
/-- a truth on the stack -/
theorem zv_if_eq {X : rv_X} {y : MethodName} {cc : ByteArray} {d : Nat} (hX : rv_K X y cc d) {h : rv_H} {pc : Nat} {L : List (Option Value)} {st : List Value} {b : Bool} {off : Int} (tgt : Nat) (dg : decode cc pc = .ok (.ifCond .eq off, 3)) (ht : (pc : Int) + off = (tgt : Int)) (kt : b = false → rv_V X h tgt L st) (kf : b = true → rv_V X h (pc + 3) L st) : rv_V X h pc L (.int (rv_z b) :: st) := rv_if_eq hX tgt dg ht (fun q => kt (rv_z0.mp q)) (fun q => kf (by cases b; exact absurd rfl q; rfl))
theorem zv_if_ne {X : rv_X} {y : MethodName} {cc : ByteArray} {d : Nat} (hX : rv_K X y cc d) {h : rv_H} {pc : Nat} {L : List (Option Value)} {st : List Value} {b : Bool} {off : Int} (tgt : Nat) (dg : decode cc pc = .ok (.ifCond .ne off, 3)) (ht : (pc : Int) + off = (tgt : Int)) (kt : b = true → rv_V X h tgt L st) (kf : b = false → rv_V X h (pc + 3) L st) : rv_V X h pc L (.int (rv_z b) :: st) := rv_if_ne hX tgt dg ht (fun q => kt (by cases b; exact absurd rfl q; rfl)) (fun q => kf (rv_z0.mp q))
theorem rv_zn (b : Bool) : narrow .boolean (.int (rv_z b)) = .int (rv_z b) := by cases b <;> rfl
section MT
variable {X : rv_X} {y y2 : MethodName} {cc : ByteArray} {cw : Cond} {d d2 n ix : Nat} {hb : rv_H} {o : Nat} {σ : rv_S} {pc : Nat} {L : List (Option Value)} {st stk as : List Value}
theorem mv_calli (hX : rv_K X y cc d) (hl : rv_lv y.cls ix y2) (hy2 : y2.cls = RX4) (hm : rv_md y2 cw n) {P : Int32 → rv_S → Prop} (hC : mC X.1 d2 y2 cw as σ (mPi P)) (hd : d2 + 1 ≤ d) (hn : as.length = n) (hst : stk = as.reverse ++ .ref o :: st) (hroom : (st.map fun v => v.category).sum ≤ 8) (dg : decode cc pc = .ok (.invokevirtual ix, 3)) (kk : ∀ (r : Int32) (τ : rv_S), P r τ → rv_V X (rv_mh hb o τ) (pc + 3) L (.int r :: st)) : rv_V X (rv_mh hb o σ) pc L stk :=
  mv_call hX hl hy2 hm hC hd hn hst hroom dg (fun v τ hp => by
    obtain ⟨r, e, hp⟩ := hp
    subst e
    exact kk r τ hp)
theorem mv_callz (hX : rv_K X y cc d) (hl : rv_lv y.cls ix y2) (hy2 : y2.cls = RX4) (hm : rv_md y2 cw n) {P : Bool → rv_S → Prop} (hC : mC X.1 d2 y2 cw as σ (mPz P)) (hd : d2 + 1 ≤ d) (hn : as.length = n) (hst : stk = as.reverse ++ .ref o :: st) (hroom : (st.map fun v => v.category).sum ≤ 8) (dg : decode cc pc = .ok (.invokevirtual ix, 3)) (kk : ∀ (r : Bool) (τ : rv_S), P r τ → rv_V X (rv_mh hb o τ) (pc + 3) L (.int (rv_z r) :: st)) : rv_V X (rv_mh hb o σ) pc L stk :=
  mv_call hX hl hy2 hm hC hd hn hst hroom dg (fun v τ hp => by
    obtain ⟨r, e, hp⟩ := hp
    subst e
    exact kk r τ hp)
theorem mv_calll (hX : rv_K X y cc d) (hl : rv_lv y.cls ix y2) (hy2 : y2.cls = RX4) (hm : rv_md y2 cw n) {P : Int64 → rv_S → Prop} (hC : mC X.1 d2 y2 cw as σ (mPl P)) (hd : d2 + 1 ≤ d) (hn : as.length = n) (hst : stk = as.reverse ++ .ref o :: st) (hroom : (st.map fun v => v.category).sum ≤ 8) (dg : decode cc pc = .ok (.invokevirtual ix, 3)) (kk : ∀ (r : Int64) (τ : rv_S), P r τ → rv_V X (rv_mh hb o τ) (pc + 3) L (.long r :: st)) : rv_V X (rv_mh hb o σ) pc L stk :=
  mv_call hX hl hy2 hm hC hd hn hst hroom dg (fun v τ hp => by
    obtain ⟨r, e, hp⟩ := hp
    subst e
    exact kk r τ hp)
theorem mv_callv (hX : rv_K X y cc d) (hl : rv_lv y.cls ix y2) (hy2 : y2.cls = RX4) (hm : rv_md y2 cw n) {P : rv_S → Prop} (hC : mC X.1 d2 y2 cw as σ (mPv P)) (hd : d2 + 1 ≤ d) (hn : as.length = n) (hst : stk = as.reverse ++ .ref o :: st) (hroom : (st.map fun v => v.category).sum ≤ 8) (dg : decode cc pc = .ok (.invokevirtual ix, 3)) (kk : ∀ (τ : rv_S), P τ → rv_V X (rv_mh hb o τ) (pc + 3) L st) : rv_V X (rv_mh hb o σ) pc L stk :=
  mv_call hX hl hy2 hm hC hd hn hst hroom dg (fun v τ hp => by
    obtain ⟨e, hp⟩ := hp
    subst e
    exact kk τ hp)
def sPi (P : Int32 → Prop) : Option Value → Prop := fun v => ∃ r : Int32, v = some (.int r) ∧ P r
def sPz (P : Bool → Prop) : Option Value → Prop := fun v => ∃ b : Bool, v = some (.int (rv_z b)) ∧ P b
theorem sv_calli (hX : rv_K X y cc d) {h : rv_H} (hl : rv_ls y.cls ix y2) (hm : rv_md y2 cw n) {P : Int32 → Prop} (hC : sC X.1 d2 y2 cw as (sPi P)) (hd : d2 + 1 ≤ d) (hn : as.length = n) (hst : stk = as.reverse ++ st) (hroom : (st.map fun v => v.category).sum ≤ 8) (dg : decode cc pc = .ok (.invokestatic ix, 3)) (kk : ∀ (r : Int32), P r → rv_V X h (pc + 3) L (.int r :: st)) : rv_V X h pc L stk :=
  mv_scall hX hl hm hC hd hn hst hroom dg (fun v hp => by
    obtain ⟨r, e, hp⟩ := hp
    subst e
    exact kk r hp)
theorem sv_callz (hX : rv_K X y cc d) {h : rv_H} (hl : rv_ls y.cls ix y2) (hm : rv_md y2 cw n) {P : Bool → Prop} (hC : sC X.1 d2 y2 cw as (sPz P)) (hd : d2 + 1 ≤ d) (hn : as.length = n) (hst : stk = as.reverse ++ st) (hroom : (st.map fun v => v.category).sum ≤ 8) (dg : decode cc pc = .ok (.invokestatic ix, 3)) (kk : ∀ (r : Bool), P r → rv_V X h (pc + 3) L (.int (rv_z r) :: st)) : rv_V X h pc L stk :=
  mv_scall hX hl hm hC hd hn hst hroom dg (fun v hp => by
    obtain ⟨r, e, hp⟩ := hp
    subst e
    exact kk r hp)
theorem mv_reti (hX : rv_K X y cc d) {hh : List ExceptionTableEntry} {P : Int32 → rv_S → Prop} (hE : rv_E X (some .int) hh (mQ hb o (mPi P))) {v : Int32} (dg : decode cc pc = .ok (.ireturn, 1)) (hq : P v σ) : rv_V X (rv_mh hb o σ) pc L [.int v] := mv_ret hX hE rfl dg ⟨v, rfl, hq⟩
theorem mv_retz (hX : rv_K X y cc d) {hh : List ExceptionTableEntry} {P : Bool → rv_S → Prop} (hE : rv_E X (some .boolean) hh (mQ hb o (mPz P))) {v : Int32} {b : Bool} (hv : v = rv_z b) (dg : decode cc pc = .ok (.ireturn, 1)) (hq : P b σ) : rv_V X (rv_mh hb o σ) pc L [.int v] := by
  subst hv
  exact mv_ret hX hE (rv_zn b) dg ⟨b, rfl, hq⟩
theorem mv_retl (hX : rv_K X y cc d) {hh : List ExceptionTableEntry} {P : Int64 → rv_S → Prop} (hE : rv_E X (some .long) hh (mQ hb o (mPl P))) {v : Int64} (dg : decode cc pc = .ok (.lreturn, 1)) (hq : P v σ) : rv_V X (rv_mh hb o σ) pc L [.long v] := mv_lret hX hE dg ⟨v, rfl, hq⟩
theorem mv_retv (hX : rv_K X y cc d) {hh : List ExceptionTableEntry} {P : rv_S → Prop} (hE : rv_E X none hh (mQ hb o (mPv P))) (dg : decode cc pc = .ok (.return_, 1)) (hq : P σ) : rv_V X (rv_mh hb o σ) pc L [] := mv_vret hX hE dg ⟨rfl, hq⟩
theorem sv_reti (hX : rv_K X y cc d) {h : rv_H} {hh : List ExceptionTableEntry} {P : Int32 → Prop} (hE : rv_E X (some .int) hh (fun out h' => ∃ v : Option Value, out = .inl v ∧ h' = h ∧ sPi P v)) {v : Int32} (dg : decode cc pc = .ok (.ireturn, 1)) (hq : P v) : rv_V X h pc L [.int v] := sv_ret hX hE rfl dg ⟨v, rfl, hq⟩
theorem sv_retz (hX : rv_K X y cc d) {h : rv_H} {hh : List ExceptionTableEntry} {P : Bool → Prop} (hE : rv_E X (some .boolean) hh (fun out h' => ∃ v : Option Value, out = .inl v ∧ h' = h ∧ sPz P v)) {v : Int32} {b : Bool} (hv : v = rv_z b) (dg : decode cc pc = .ok (.ireturn, 1)) (hq : P b) : rv_V X h pc L [.int v] := by
  subst hv
  exact sv_ret hX hE (rv_zn b) dg ⟨b, rfl, hq⟩
end MT
