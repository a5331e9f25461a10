/-! THE PLATFORM: lists made, grown, changed -/
set_option maxRecDepth 100000
/-- a list's cells: the object, its array -/
abbrev lO (m : Int32) (ed n : Nat) : rv_C := cO 17 [.int m, .ref ed, .int (nI n)]
/-- contents of a list's array -/
def lsf (es : List Nat) (f : Nat → Option Nat) : Prop := ∀ (i e : Nat), es[i]? = some e → f i = some e
theorem lsf.snoc {es : List Nat} {f : Nat → Option Nat} (h : lsf es f) (v : Nat) : lsf (es ++ [v]) (va_up f es.length (some v)) := by
  intro i e he
  unfold va_up
  by_cases hi : i < es.length
  · rw [List.getElem?_append_left hi] at he
    rw [if_neg (Nat.ne_of_lt hi)]
    exact h i e he
  · have := (List.getElem?_eq_some_iff.mp he).1
    rw [List.length_append] at this
    have e1 : i = es.length := by simp at this; omega
    subst e1
    rw [List.getElem?_append_right (Nat.le_refl _), Nat.sub_self] at he
    rw [if_pos rfl]
    exact he
theorem rv_rd.keep {G : rv_G} {h h' : rv_H} {a : Nat} {c : rv_C} (hr : rv_rd G h a c) (hk : ∀ c, h.1 a = some c → h'.1 a = some c) : rv_rd G h' a c := by
  rcases hr with ⟨k6, hg⟩ | ho
  · exact Or.inl ⟨k6, hk c hg⟩
  · exact Or.inr ho
theorem rv_el.keep {G : rv_G} {h h' : rv_H} {a : Nat} (hr : rv_el G h a) (hk : ∀ c, h.1 a = some c → h'.1 a = some c) : rv_el G h' a := by
  obtain ⟨C, hq, hw⟩ := hr
  refine ⟨C, hq, ?_⟩
  rcases hw with ⟨ci, N, vs, T9, k1, k2⟩ | ⟨c0, k1, k2⟩
  · exact Or.inl ⟨ci, N, vs, T9, k1.keep hk, k2⟩
  · exact Or.inr ⟨c0, hk _ k1, k2⟩
theorem xS.kp {G : rv_G} {F : xF} {h0 h : rv_H} {A : List Nat} {M : xM} {n m : Nat} (hS : xS G F h0 A M n m h) (hlt : ∀ b c, h0.1 b = some c → b < h0.2.1) {a : Nat} (ha : a ∉ A) : ∀ c, h0.1 a = some c → h.1 a = some c := fun c hg => (hS.2.1.2 a (hlt _ _ hg) ha).trans hg
theorem j_init0 {G : rv_G} (hG : rv_GK G) {d a : Nat} (hd : 1 ≤ d) {h : rv_H} : rv_Call G d yJ0_init wJ0_init [.ref a] h (xN (fun u h' => u = none ∧ h' = h)) := by
  refine rv_startF hG (by decide +kernel) (L := [some (.ref a)]) rfl (Nat.le_of_ble_eq_true rfl) (fun X hX1 hX hE => ?_)
  subst hX1
  refine rv_aload_n hX dJ0_init_0 rfl ?_
  refine rv_objInit hX q190 q171 q172 (by omega) (Nat.le_of_ble_eq_true rfl) dJ0_init_1 ?_
  refine rv_return hX hE ?_ dJ0_init_4
  exact ⟨rfl, rfl⟩
theorem j_init1 {G : rv_G} (hG : rv_GK G) {d a n m : Nat} (hd : 2 ≤ d) {F : xF} {v w : Value} {x : Int32} {h : rv_H} (hH : xH G F [(a, cO 17 [.int x, v, w])] n m h) : rv_Call G d yJ1_init wJ1_init [.ref a] h (xN (fun u h' => u = none ∧ xS G F h [a] [(a, cO 17 [.int (nI 0), v, w])] n m h')) := by
  refine rv_startF hG (by decide +kernel) (L := [some (.ref a)]) rfl (Nat.le_of_ble_eq_true rfl) (fun X hX1 hX hE => ?_)
  subst hX1
  have hS := hH.start
  refine rv_aload_n hX dJ1_init_0 rfl ?_
  refine rv_invI hX iJ1_1 mdJ0_init rfl (j_init0 hG (d := d - 1) (by omega)) (by omega) rfl rfl (Nat.le_of_ble_eq_true rfl) dJ1_init_1 (fun v h' hq => ?_) (fun E h' hq => by first | exact hq.elim | cases hq.2 | cases hq.1)
  obtain ⟨hu, rfl⟩ := hq
  cases hu
  refine rv_aload_n hX dJ1_init_4 rfl ?_
  refine nv_iconst hX (m := 0) (by decide) dJ1_init_5 ?_
  refine xv_putf hX hS (k := 0) rfl pJ1_7_J2 (fun q => by cases q) rfl rfl rfl dJ1_init_6 (fun h_6 hS => ?_)
  refine rv_return hX hE ?_ dJ1_init_9
  exact ⟨rfl, hS⟩
theorem j_new {G : rv_G} (hG : rv_GK G) {d a z n m : Nat} (hd : 3 ≤ d) {F : xF} {h : rv_H} (hz : 0 < z ∧ z ≤ 60) (hn : 1 ≤ n) (hm : z ≤ m) (hH : xH G F [(a, cO 17 [.int 0, .null, .int 0])] n m h) : rv_Call G d yJ2_init wJ2_init [.ref a, .int (nI z)] h (xN (fun u h' => ∃ ed, u = none ∧ xS G F h [a] [(a, lO (nI 0) ed 0), (ed, cR z (fun _ => none))] (n - 1) (m - z) h')) := by
  refine rv_startF hG (by decide +kernel) (L := [some (.ref a), some (.int (nI z))]) rfl (Nat.le_of_ble_eq_true rfl) (fun X hX1 hX hE => ?_)
  subst hX1
  have hS := hH.start
  refine rv_aload_n hX dJ2_init_0 rfl ?_
  refine rv_invI hX iJ2_1 mdJ1_init rfl (j_init1 hG (d := d - 1) (by omega) (hS.cpre0 [1] 0 rfl rfl rfl)) (by omega) rfl rfl (Nat.le_of_ble_eq_true rfl) dJ2_init_1 (fun v h' hq => ?_) (fun E h' hq => by first | exact hq.elim | cases hq.2 | cases hq.1)
  obtain ⟨hu, hQ⟩ := hq
  have hS := hS.cpost0 [1] 0 rfl rfl rfl hQ
  cases hu
  refine rv_iload_n hX dJ2_init_4 rfl ?_
  refine nv_if_le hX 19 (by omega) dJ2_init_5 (by decide) (fun q => absurd q (by omega)) (fun c_5 => ?_)
  refine rv_aload_n hX dJ2_init_8 rfl ?_
  refine rv_iload_n hX dJ2_init_9 rfl ?_
  refine xv_newO hX hS q191 q192 (by omega) (by omega) (by omega) dJ2_init_10 (fun a_10 h_10 hS => ?_)
  refine xv_putf hX hS (k := 0) rfl pJ2_9_J2 (fun q => by cases q) rfl rfl rfl dJ2_init_13 (fun h_13 hS => ?_)
  refine rv_goto hX 60 dJ2_init_16 (by decide) ?_
  refine rv_return hX hE ?_ dJ2_init_60
  exact ⟨_, rfl, hS⟩
theorem j_new0 {G : rv_G} (hG : rv_GK G) {d a n m : Nat} (hd : 3 ≤ d) {F : xF} {h : rv_H} (hH : xH G F [(a, cO 17 [.int 0, .null, .int 0])] n m h) : rv_Call G d yJ2_init_2 wJ2_init_2 [.ref a] h (xN (fun u h' => ∃ ed, u = none ∧ rv_old G ed (cR 0 (fun _ => none)) ∧ va_Z "java/util/ArrayList" "DEFAULTCAPACITY_EMPTY_ELEMENTDATA" "[Ljava/lang/Object;" (.ref ed) (fun q => rv_b G ≤ q) G.2.1 G.2.1.heap ∧ xS G F h [a] [(a, lO (nI 0) ed 0)] n m h')) := by
  refine rv_startF hG (by decide +kernel) (L := [some (.ref a)]) rfl (Nat.le_of_ble_eq_true rfl) (fun X hX1 hX hE => ?_)
  subst hX1
  have hS := hH.start
  obtain ⟨e0, f0, z1, z2, z3, z4, z5⟩ := rv_empties hG
  refine rv_aload_n hX dJ2_init_2_0 rfl ?_
  refine rv_invI hX iJ2_1 mdJ1_init rfl (j_init1 hG (d := d - 1) (by omega) (hS.cpre0 [1] 0 rfl rfl rfl)) (by omega) rfl rfl (Nat.le_of_ble_eq_true rfl) dJ2_init_2_1 (fun v h' hq => ?_) (fun E h' hq => by first | exact hq.elim | cases hq.2 | cases hq.1)
  obtain ⟨hu, hQ⟩ := hq
  have hS := hS.cpost0 [1] 0 rfl rfl rfl hQ
  cases hu
  refine rv_aload_n hX dJ2_init_2_4 rfl ?_
  refine rv_gets hX q552 z2 dJ2_init_2_5 ?_
  refine xv_putf hX hS (k := 0) rfl pJ2_9_J2 (fun q => by cases q) rfl rfl rfl dJ2_init_2_8 (fun h_8 hS => ?_)
  refine rv_return hX hE ?_ dJ2_init_2_11
  exact ⟨_, rfl, z4, z2, hS⟩
theorem j_add {G : rv_G} (hG : rv_GK G) {d a ed cap v n m : Nat} (hd : 1 ≤ d) {F : xF} {mc : Int32} {es : List Nat} {f : Nat → Option Nat} {h : rv_H} (hn : es.length < cap) (hc : cap < 60000000) (hf : lsf es f) (hv : rv_el G h v) (hva : v ≠ a) (hH : xH G F [(a, lO mc ed es.length), (ed, cR cap f)] n m h) : rv_Call G d yJ2_add wJ2_add [.ref a, .ref v] h (xN (fun u h' => ∃ f', u = some (.int (nI 1)) ∧ lsf (es ++ [v]) f' ∧ xS G F h [a, ed] [(a, lO (mc + 1) ed (es.length + 1)), (ed, cR cap f')] n m h')) := by
  have hS := hH.start
  refine (j_addn hG hd (hS.mg (k := 0) rfl) (hS.mg (k := 1) rfl) hn hc hv hva).mono (fun o h' hq => ?_)
  obtain ⟨rfl, rfl⟩ := hq
  exact ⟨_, rfl, hf.snoc v, ((hS.put (k := 0) (c1 := lO (mc + 1) ed es.length) rfl trivial).put (k := 1) (c1 := cR cap (va_up f es.length (some v))) rfl (show 4 < 6 by decide)).put (k := 0) (c1 := lO (mc + 1) ed (es.length + 1)) rfl trivial⟩
theorem j_isEmpty {G : rv_G} (hG : rv_GK G) {d a : Nat} {es : List Nat} {h : rv_H} (ha : xL G h a es) : rv_Call G d yJ2_isEmpty wJ2_isEmpty [.ref a] h (xN (fun u h' => h' = h ∧ u = some (.int (rv_z (decide (es.length = 0)))))) := by
  obtain ⟨m, ed, cap, f, h1, h2, h3, h4, h5⟩ := ha
  refine rv_startF hG (by decide +kernel) (L := [some (.ref a)]) rfl (Nat.le_of_ble_eq_true rfl) (fun X hX1 hX hE => ?_)
  subst hX1
  refine rv_aload_n hX dJ2_isEmpty_0 rfl ?_
  refine rv_getfR hX gJ2_48_J2 h1 rfl dJ2_isEmpty_1 ?_
  first | refine zv_if_ne hX 11 dJ2_isEmpty_4 (by decide) (fun c_4 => ?_) (fun c_4 => ?_) | refine nv_if_ne hX 11 (by omega) dJ2_isEmpty_4 (by decide) (fun c_4 => ?_) (fun c_4 => ?_) | refine rv_if_ne hX 11 dJ2_isEmpty_4 (by decide) (fun c_4 => ?_) (fun c_4 => ?_)
  · skip
    refine nv_iconst hX (m := 0) (by decide) dJ2_isEmpty_11 ?_
    refine rv_ireturn hX hE rfl ?_ dJ2_isEmpty_12
    refine ⟨rfl, ?_⟩
    first
      | (rw [decide_eq_true (show es.length = 0 by omega)]; rfl)
      | (rw [decide_eq_false (show ¬ es.length = 0 by omega)]; rfl)
  · skip
    refine nv_iconst hX (m := 1) (by decide) dJ2_isEmpty_7 ?_
    refine rv_goto hX 12 dJ2_isEmpty_8 (by decide) ?_
    refine rv_ireturn hX hE rfl ?_ dJ2_isEmpty_12
    refine ⟨rfl, ?_⟩
    first
      | (rw [decide_eq_true (show es.length = 0 by omega)]; rfl)
      | (rw [decide_eq_false (show ¬ es.length = 0 by omega)]; rfl)
theorem j_min {G : rv_G} (hG : rv_GK G) {d a b : Nat} (ha : a < 2147483648) (hb : b < 2147483648) {h : rv_H} : rv_Call G d yJ12_min wJ12_min [.int (nI a), .int (nI b)] h (xN (fun u h' => h' = h ∧ u = some (.int (nI (Nat.min a b))))) := by
  refine rv_startF hG (by decide +kernel) (L := [some (.int (nI a)), some (.int (nI b))]) rfl (Nat.le_of_ble_eq_true rfl) (fun X hX1 hX hE => ?_)
  subst hX1
  have e1 : b ≤ a → Nat.min a b = b := fun q => Nat.min_eq_right q
  have e2 : a ≤ b → Nat.min a b = a := fun q => Nat.min_eq_left q
  refine rv_iload_n hX dJ12_min_0 rfl ?_
  refine rv_iload_n hX dJ12_min_1 rfl ?_
  first | refine nv_icmp_gt hX 9 (by omega) (by omega) dJ12_min_2 (by decide) (fun c_2 => ?_) (fun c_2 => ?_) | refine rv_icmp_gt hX 9 dJ12_min_2 (by decide) (fun c_2 => ?_) (fun c_2 => ?_)
  · skip
    refine rv_iload_n hX dJ12_min_9 rfl ?_
    refine rv_ireturn hX hE rfl ?_ dJ12_min_10
    refine ⟨rfl, ?_⟩
    first
      | rw [e1 (by omega)]
      | rw [e2 (by omega)]
  · skip
    refine rv_iload_n hX dJ12_min_5 rfl ?_
    refine rv_goto hX 10 dJ12_min_6 (by decide) ?_
    refine rv_ireturn hX hE rfl ?_ dJ12_min_10
    refine ⟨rfl, ?_⟩
    first
      | rw [e1 (by omega)]
      | rw [e2 (by omega)]
theorem j_newLength {G : rv_G} (hG : rv_GK G) {d a b c : Nat} (hd : 1 ≤ d) (ha : a < 60000000) (hb : b < 60000000) (hc : c < 60000000) (h0 : 0 < a + Nat.max b c) {h : rv_H} : rv_Call G d yJ11_newLength wJ11_newLength [.int (nI a), .int (nI b), .int (nI c)] h (xN (fun u h' => h' = h ∧ u = some (.int (nI (a + Nat.max b c))))) := by
  refine rv_startF hG (by decide +kernel) (L := [some (.int (nI a)), some (.int (nI b)), some (.int (nI c)), none]) rfl (Nat.le_of_ble_eq_true rfl) (fun X hX1 hX hE => ?_)
  subst hX1
  have hx : Nat.max b c < 60000000 := Nat.max_lt.mpr ⟨hb, hc⟩
  refine rv_iload_n hX dJ11_newLength_0 rfl ?_
  refine rv_iload_n hX dJ11_newLength_1 rfl ?_
  refine rv_iload_n hX dJ11_newLength_2 rfl ?_
  refine rv_invS hX iJ11_194 mdJ12_max (j_max hG (d := d - 1) (by omega) (by omega)) (by omega) rfl rfl (Nat.le_of_ble_eq_true rfl) dJ11_newLength_3 (fun v h' hq => ?_) (fun E h' hq => by first | exact hq.elim | cases hq.2 | cases hq.1)
  obtain ⟨rfl, hq⟩ := hq
  cases hq
  first | refine nv_iadd hX dJ11_newLength_6 ?_ | refine rv_iadd hX dJ11_newLength_6 ?_
  refine rv_istore_n hX dJ11_newLength_7 (rv_st_3 rfl) ?_
  refine nv_iconst hX (m := 0) (by decide) dJ11_newLength_8 ?_
  refine rv_iload_n hX dJ11_newLength_9 rfl ?_
  refine nv_icmp_ge hX 21 (by omega) (by omega) dJ11_newLength_10 (by decide) (fun q => absurd q (by omega)) (fun c_10 => ?_)
  refine rv_iload_n hX dJ11_newLength_13 rfl ?_
  refine rv_ldc hX q297 dJ11_newLength_14 ?_
  rw [show (2147483639 : Int32) = nI 2147483639 from by decide]
  refine nv_icmp_gt hX 21 (by omega) (by omega) dJ11_newLength_16 (by decide) (fun q => absurd q (by omega)) (fun c_16 => ?_)
  refine rv_iload_n hX dJ11_newLength_19 rfl ?_
  refine rv_ireturn hX hE rfl ?_ dJ11_newLength_20
  exact ⟨rfl, rfl⟩
/-- a copy of references -/
theorem j_copyOf3 {G : rv_G} (hG : rv_GK G) {d a0 n0 z n m mir : Nat} (hd : 1 ≤ d) {F : xF} {f : Nat → Option Nat} {h : rv_H} (hm9 : ∀ (s : State) (args : Array Value), G.2.1.WarmedH s.vm → (Term.mirror rv_oan).eval args s none [] s = some (.ref mir)) (h0 : rv_rd G h a0 (cR n0 f)) (hn0 : n0 < 60000000) (hz : z < 60000000) (hel : ∀ i, i < Nat.min n0 z → ∀ v, f i = some v → rv_el G h v) (hn : 1 ≤ n) (hm : z ≤ m) (hH : xH G F [] n m h) : rv_Call G d yJ13_copyOf_3 wJ13_copyOf_3 [.ref a0, .int (nI z), .ref mir] h (xN (fun u h' => ∃ b f', u = some (.ref b) ∧ (∀ i, f' i = if i < Nat.min n0 z then f i else none) ∧ xS G F h [] [(b, cR z f')] (n - 1) (m - z) h')) := by
  refine rv_startF hG (by decide +kernel) (L := [some (.ref a0), some (.int (nI z)), some (.ref mir), none]) rfl (Nat.le_of_ble_eq_true rfl) (fun X hX1 hX hE => ?_)
  subst hX1
  have hS := hH.start
  have hlt : ∀ b c, h.1 b = some c → b < h.2.1 := fun b c e => (hH.2.2.2.1.2 b c e).2
  refine rv_aload_n hX dJ13_copyOf_3_0 rfl ?_
  refine rv_ldcMir hX hm9 q681 dJ13_copyOf_3_1 ?_
  refine rv_acmp_ne hX 13 (rx := some mir) (ry := some mir) dJ13_copyOf_3_3 (by decide) (fun q => absurd rfl q) (fun _ => ?_)
  refine rv_iload_n hX dJ13_copyOf_3_6 rfl ?_
  refine xv_newO hX hS q682 q192 (by omega) (by omega) (by omega) dJ13_copyOf_3_7 (fun a_7 h_7 hS => ?_)
  refine rv_goto hX 24 dJ13_copyOf_3_10 (by decide) ?_
  refine rv_astore_n hX dJ13_copyOf_3_24 (rv_st_3 rfl) ?_
  refine rv_aload_n hX dJ13_copyOf_3_25 rfl ?_
  refine nv_iconst hX (m := 0) (by decide) dJ13_copyOf_3_26 ?_
  refine rv_aload_n hX dJ13_copyOf_3_27 rfl ?_
  refine nv_iconst hX (m := 0) (by decide) dJ13_copyOf_3_28 ?_
  refine rv_aload_n hX dJ13_copyOf_3_29 rfl ?_
  have h0n := h0.keep (hS.kp hlt List.not_mem_nil)
  refine xv_alen hX h0n dJ13_copyOf_3_30 ?_
  refine rv_iload_n hX dJ13_copyOf_3_31 rfl ?_
  refine rv_invS hX iJ13_304 mdJ12_min (j_min hG (d := d - 1) (by omega) (by omega)) (by omega) rfl rfl (Nat.le_of_ble_eq_true rfl) dJ13_copyOf_3_32 (fun v h' hq => ?_) (fun E h' hq => by first | exact hq.elim | cases hq.2 | cases hq.1)
  obtain ⟨rfl, hq⟩ := hq
  cases hq
  refine xv_acpQ hX hS (k := 0) (sp := 0) (dp := 0) (z := Nat.min n0 z) q315 h0n rfl (by rw [Nat.zero_add]; exact Nat.min_le_left _ _) (by rw [Nat.zero_add]; exact Nat.min_le_right _ _) ⟨by omega, by omega⟩ (fun i hi v hv => ?_) (by omega) (Nat.le_of_ble_eq_true rfl) dJ13_copyOf_3_35 (fun h_35 hS => ?_)
  · rw [Nat.zero_add] at hv
    exact (hel i hi v hv).keep (hS.kp hlt List.not_mem_nil)
  refine rv_aload_n hX dJ13_copyOf_3_38 rfl ?_
  refine rv_areturn hX hE (Or.inr ⟨_, rfl⟩) (Or.inr ⟨_, rfl⟩) ?_ dJ13_copyOf_3_39
  refine ⟨_, _, rfl, fun i => ?_, hS⟩
  unfold va_cpy
  by_cases hi : i < Nat.min n0 z
  · rw [if_pos hi, if_pos ⟨Nat.zero_le _, by omega⟩]
    congr 1
    omega
  · rw [if_neg hi, if_neg (fun q => hi (by omega))]
