/-! THE PLATFORM: lists that grow, that lose elements, that are searched -/
set_option maxRecDepth 100000
theorem j_copyOf2 {G : rv_G} (hG : rv_GK G) {d a0 n0 z n m : Nat} (hd : 2 ≤ d) {F : xF} {f : Nat → Option Nat} {h : rv_H} (h0 : rv_rd G h a0 (cR n0 f)) (hoa : xoa G a0) (hn0 : n0 < 60000000) (hz : z < 60000000) (hel : ∀ i, i < Nat.min n0 z → ∀ v, f i = some v → rv_el G h v) (hn : 1 ≤ n) (hm : z ≤ m) (hH : xH G F [] n m h) : rv_Call G d yJ13_copyOf_2 wJ13_copyOf_2 [.ref a0, .int (nI z)] h (xN (fun u h' => ∃ b f', u = some (.ref b) ∧ (∀ i, f' i = if i < Nat.min n0 z then f i else none) ∧ xS G F h [] [(b, cR z f')] (n - 1) (m - z) h')) := by
  refine rv_startF hG (by decide +kernel) (L := [some (.ref a0), some (.int (nI z))]) rfl (Nat.le_of_ble_eq_true rfl) (fun X hX1 hX hE => ?_)
  subst hX1
  have hS := hH.start
  obtain ⟨mir, hm9⟩ := rv_mir hG
  refine rv_aload_n hX dJ13_copyOf_2_0 rfl ?_
  refine rv_iload_n hX dJ13_copyOf_2_1 rfl ?_
  refine rv_aload_n hX dJ13_copyOf_2_2 rfl ?_
  refine rv_getClassA hX hm9 (hoa.is h0) q649 (by omega) (Nat.le_of_ble_eq_true rfl) dJ13_copyOf_2_3 ?_
  refine rv_invS hX iJ13_300 mdJ13_copyOf_3 (j_copyOf3 hG (d := d - 1) (by omega) hm9 h0 hn0 hz hel hn hm (hS.cpre0 [] 0 rfl rfl rfl)) (by omega) rfl rfl (Nat.le_of_ble_eq_true rfl) dJ13_copyOf_2_6 (fun v h' hq => ?_) (fun E h' hq => by first | exact hq.elim | cases hq.2 | cases hq.1)
  obtain ⟨b, f', hu, hf', hQ⟩ := hq
  have hS := hS.cpost0 [] 0 rfl rfl rfl hQ
  cases hu
  refine rv_areturn hX hE (Or.inr ⟨_, rfl⟩) (Or.inr ⟨_, rfl⟩) ?_ dJ13_copyOf_2_9
  exact ⟨b, f', rfl, hf', hS⟩
/-- what lies in a list may lie in any array of objects -/
def xlel (G : rv_G) (h : rv_H) (es : List Nat) : Prop := ∀ (i e : Nat), es[i]? = some e → rv_el G h e
theorem j_toArray {G : rv_G} (hG : rv_GK G) {d a n m : Nat} (hd : 3 ≤ d) {F : xF} {es : List Nat} {h : rv_H} (ha : xLs G (rv_rd G h) a es) (hel : xlel G h es) (hn : 1 ≤ n) (hm : es.length ≤ m) (hH : xH G F [] n m h) : rv_Call G d yJ2_toArray wJ2_toArray [.ref a] h (xN (fun u h' => ∃ b f', u = some (.ref b) ∧ lsf es f' ∧ xS G F h [] [(b, cR es.length f')] (n - 1) (m - es.length) h')) := by
  obtain ⟨mc, ed, cap, f, h1, h2, ⟨h3, h3b⟩, h4, h5⟩ := ha
  refine rv_startF hG (by decide +kernel) (L := [some (.ref a)]) rfl (Nat.le_of_ble_eq_true rfl) (fun X hX1 hX hE => ?_)
  subst hX1
  have hS := hH.start
  refine rv_aload_n hX dJ2_toArray_0 rfl ?_
  refine rv_getfR hX gJ2_9_J2 h1 rfl dJ2_toArray_1 ?_
  refine rv_aload_n hX dJ2_toArray_4 rfl ?_
  refine rv_getfR hX gJ2_48_J2 h1 rfl dJ2_toArray_5 ?_
  refine rv_invS hX iJ2_66 mdJ13_copyOf_2 (j_copyOf2 hG (d := d - 1) (by omega) h2 h3b h4 (by omega) (fun i hi v hv => by have hi2 : i < es.length := Nat.lt_of_lt_of_le hi (Nat.min_le_right _ _); have e := h5 i _ (List.getElem?_eq_getElem hi2); rw [hv] at e; cases e; exact hel i _ (List.getElem?_eq_getElem hi2)) hn hm (hS.cpre0 [] 0 rfl rfl rfl)) (by omega) rfl rfl (Nat.le_of_ble_eq_true rfl) dJ2_toArray_8 (fun v h' hq => ?_) (fun E h' hq => by first | exact hq.elim | cases hq.2 | cases hq.1)
  obtain ⟨b, f', hu, hf', hQ⟩ := hq
  have hS := hS.cpost0 [] 0 rfl rfl rfl hQ
  cases hu
  refine rv_areturn hX hE (Or.inr ⟨_, rfl⟩) (Or.inr ⟨_, rfl⟩) ?_ dJ2_toArray_11
  refine ⟨b, f', rfl, fun i e he => ?_, hS⟩
  have hi := (List.getElem?_eq_some_iff.mp he).1
  rw [hf', if_pos (show i < Nat.min cap es.length from Nat.lt_min.mpr ⟨by omega, hi⟩)]
  exact h5 i e he
theorem nI_shr1 {n : Nat} (h : n < 2147483648) : nI n >>> (nI 1 &&& 31) = nI (n / 2) := by
  have e : (nI 1 &&& 31 : Int32) = 1 := by decide
  rw [e]
  apply Int32.toBitVec_inj.mp
  rw [Int32.toBitVec_shiftRight]
  have e2 : ((1 : Int32).toBitVec.smod 32).toNat = 1 := by decide
  show (nI n).toBitVec.sshiftRight ((1 : Int32).toBitVec.smod 32).toNat = _
  rw [e2]
  apply BitVec.eq_of_toNat_eq
  rw [BitVec.sshiftRight_eq_of_msb_false, BitVec.toNat_ushiftRight]
  · show (Int32.ofNat n).toBitVec.toNat >>> 1 = (Int32.ofNat (n / 2)).toBitVec.toNat
    rw [Int32.toBitVec_ofNat', Int32.toBitVec_ofNat', BitVec.toNat_ofNat, BitVec.toNat_ofNat, Nat.shiftRight_eq_div_pow]
    omega
  · show (Int32.ofNat n).toBitVec.msb = false
    rw [Int32.toBitVec_ofNat', BitVec.msb_eq_decide, BitVec.toNat_ofNat]
    simp
    omega
/-- how far a list grows -/
def jgrow (cap k : Nat) : Nat := if cap = 0 then Nat.max 10 k else cap + Nat.max (k - cap) (cap / 2)
theorem j_grow {G : rv_G} (hG : rv_GK G) {d a ed cap k n m : Nat} (hd : 3 ≤ d) {F : xF} {mc : Int32} {es : List Nat} {f : Nat → Option Nat} {h : rv_H} (hl : es.length ≤ cap) (hc : 0 < cap ∧ cap < 10000) (hk : cap < k ∧ k < 10000) (hf : lsf es f) (hoa : ∀ i v, es.length ≤ i → f i = some v → False) (hel : xlel G h es) (hn : 1 ≤ n) (hm : jgrow cap k ≤ m) (hH : xH G F [(a, lO mc ed es.length), (ed, cR cap f)] n m h) : rv_Call G d yJ2_grow_2 wJ2_grow_2 [.ref a, .int (nI k)] h (xN (fun u h' => ∃ ed' f', u = some (.ref ed') ∧ lsf es f' ∧ (∀ i v, es.length ≤ i → f' i = some v → False) ∧ xS G F h [a, ed] [(a, lO mc ed' es.length), (ed', cR (jgrow cap k) f')] (n - 1) (m - jgrow cap k) h')) := by
  refine rv_startF hG (by decide +kernel) (L := [some (.ref a), some (.int (nI k)), none, none]) rfl (Nat.le_of_ble_eq_true rfl) (fun X hX1 hX hE => ?_)
  subst hX1
  have hS := hH.start
  have hgr : jgrow cap k = cap + Nat.max (k - cap) (cap / 2) := by unfold jgrow; rw [if_neg (by omega)]
  have hmx : Nat.max (k - cap) (cap / 2) < 10000 := Nat.max_lt.mpr ⟨by omega, by omega⟩
  have hed : rv_b X.1 ≤ ed := (hH.2.2.2.1.2 ed _ (hH.mg (k := 1) rfl)).1
  rw [hgr] at hm hE
  refine rv_aload_n hX dJ2_grow_2_0 rfl ?_
  refine rv_getfR hX gJ2_9_J2 (hS.mc (k := 0) rfl) rfl dJ2_grow_2_1 ?_
  refine xv_alen hX (hS.mc (k := 1) rfl) dJ2_grow_2_4 ?_
  refine rv_istore_n hX dJ2_grow_2_5 (rv_st_2 rfl) ?_
  refine rv_iload_n hX dJ2_grow_2_6 rfl ?_
  refine nv_if_gt hX 20 (by omega) dJ2_grow_2_7 (by decide) (fun c_7 => ?_) (fun q => absurd q (by omega))
  refine rv_iload_n hX dJ2_grow_2_20 rfl ?_
  refine rv_iload_n hX dJ2_grow_2_21 rfl ?_
  refine rv_iload_n hX dJ2_grow_2_22 rfl ?_
  first | refine nv_isub hX (by omega) dJ2_grow_2_23 ?_ | refine rv_isub hX dJ2_grow_2_23 ?_
  refine rv_iload_n hX dJ2_grow_2_24 rfl ?_
  refine nv_iconst hX (m := 1) (by decide) dJ2_grow_2_25 ?_
  refine rv_ishr hX dJ2_grow_2_26 ?_
  rw [nI_shr1 (by omega)]
  refine rv_invS hX iJ2_73 mdJ11_newLength (j_newLength hG (d := d - 1) (by omega) (by omega) (by omega) (by omega) (by omega)) (by omega) rfl rfl (Nat.le_of_ble_eq_true rfl) dJ2_grow_2_27 (fun v h' hq => ?_) (fun E h' hq => by first | exact hq.elim | cases hq.2 | cases hq.1)
  obtain ⟨rfl, hq⟩ := hq
  cases hq
  refine rv_istore_n hX dJ2_grow_2_30 (rv_st_3 rfl) ?_
  refine rv_aload_n hX dJ2_grow_2_31 rfl ?_
  refine rv_aload_n hX dJ2_grow_2_32 rfl ?_
  refine rv_getfR hX gJ2_9_J2 (hS.mc (k := 0) rfl) rfl dJ2_grow_2_33 ?_
  refine rv_iload_n hX dJ2_grow_2_36 rfl ?_
  refine rv_invS hX iJ2_66 mdJ13_copyOf_2 (j_copyOf2 hG (d := d - 1) (by omega) (hS.mc (k := 1) rfl) (Or.inl hed) (by omega) (by omega) (fun i hi v hv => by have hi2 : i < es.length := Nat.lt_of_not_le (fun q => hoa i v q hv); have e := hf i _ (List.getElem?_eq_getElem hi2); rw [hv] at e; cases e; exact hel i _ (List.getElem?_eq_getElem hi2)) hn hm (hS.cpre0 [0,0] 0 rfl rfl rfl)) (by omega) rfl rfl (Nat.le_of_ble_eq_true rfl) dJ2_grow_2_37 (fun v h' hq => ?_) (fun E h' hq => by first | exact hq.elim | cases hq.2 | cases hq.1)
  obtain ⟨ed', f', hu, hf', hQ⟩ := hq
  have hS := hS.cpost0 [0,0] 0 rfl rfl rfl hQ
  cases hu
  refine rv_dup_x1 hX dJ2_grow_2_40 rfl rfl ?_
  refine xv_putf hX hS (k := 0) rfl pJ2_9_J2 (fun q => by cases q) rfl rfl rfl dJ2_grow_2_41 (fun h_41 hS => ?_)
  refine rv_areturn hX hE (Or.inr ⟨_, rfl⟩) (Or.inr ⟨_, rfl⟩) ?_ dJ2_grow_2_44
  have hS := hS.drop (W := [(a, lO mc ed' es.length), (ed', cR (cap + Nat.max (k - cap) (cap / 2)) f')]) (.cons₂ _ (.cons _ (.cons₂ _ .slnil)))
  refine ⟨ed', f', rfl, fun i e he => ?_, fun i v hi hv => ?_, hS⟩
  · have hi := (List.getElem?_eq_some_iff.mp he).1
    rw [hf', if_pos (show i < Nat.min cap (cap + Nat.max (k - cap) (cap / 2)) from Nat.lt_min.mpr ⟨by omega, by omega⟩)]
    exact hf i e he
  · rw [hf'] at hv
    split at hv
    · exact hoa i v hi hv
    · cases hv
/-- .. one that is still empty -/
theorem j_grow0 {G : rv_G} (hG : rv_GK G) {d a ed k n m : Nat} (hd : 1 ≤ d) {F : xF} {mc : Int32} {h : rv_H} (hz : va_Z "java/util/ArrayList" "DEFAULTCAPACITY_EMPTY_ELEMENTDATA" "[Ljava/lang/Object;" (.ref ed) (fun q => rv_b G ≤ q) G.2.1 G.2.1.heap) (ho : rv_old G ed (cR 0 (fun _ => none))) (hk : k < 10000) (hn : 1 ≤ n) (hm : Nat.max 10 k ≤ m) (hH : xH G F [(a, lO mc ed 0)] n m h) : rv_Call G d yJ2_grow_2 wJ2_grow_2 [.ref a, .int (nI k)] h (xN (fun u h' => ∃ ed', u = some (.ref ed') ∧ xS G F h [a] [(a, lO mc ed' 0), (ed', cR (Nat.max 10 k) (fun _ => none))] (n - 1) (m - Nat.max 10 k) h')) := by
  refine rv_startF hG (by decide +kernel) (L := [some (.ref a), some (.int (nI k)), none, none]) rfl (Nat.le_of_ble_eq_true rfl) (fun X hX1 hX hE => ?_)
  subst hX1
  have hS := hH.start
  have hmx : Nat.max 10 k < 10000 := Nat.max_lt.mpr ⟨by omega, by omega⟩
  have ho2 : rv_rd X.1 h ed (cR 0 (fun _ => none)) := Or.inr ho
  refine rv_aload_n hX dJ2_grow_2_0 rfl ?_
  refine rv_getfR hX gJ2_9_J2 (hS.mc (k := 0) rfl) rfl dJ2_grow_2_1 ?_
  refine xv_alen hX ho2 dJ2_grow_2_4 ?_
  refine rv_istore_n hX dJ2_grow_2_5 (rv_st_2 rfl) ?_
  refine rv_iload_n hX dJ2_grow_2_6 rfl ?_
  refine nv_if_gt hX 20 (by omega) dJ2_grow_2_7 (by decide) (fun q => absurd q (by omega)) (fun c_7 => ?_)
  refine rv_aload_n hX dJ2_grow_2_10 rfl ?_
  refine rv_getfR hX gJ2_9_J2 (hS.mc (k := 0) rfl) rfl dJ2_grow_2_11 ?_
  refine rv_gets hX q552 hz dJ2_grow_2_14 ?_
  refine rv_acmp_eq hX 45 (rx := some ed) (ry := some ed) dJ2_grow_2_17 (by decide) (fun _ => ?_) (fun q => absurd rfl q)
  refine rv_aload_n hX dJ2_grow_2_45 rfl ?_
  refine nv_bipush hX (m := 10) (by decide) dJ2_grow_2_46 ?_
  refine rv_iload_n hX dJ2_grow_2_48 rfl ?_
  refine rv_invS hX iJ2_79 mdJ12_max (j_max hG (d := d - 1) (by omega) (by omega)) (by omega) rfl rfl (Nat.le_of_ble_eq_true rfl) dJ2_grow_2_49 (fun v h' hq => ?_) (fun E h' hq => by first | exact hq.elim | cases hq.2 | cases hq.1)
  obtain ⟨rfl, hq⟩ := hq
  cases hq
  refine xv_newO hX hS q191 q192 (by omega) (by omega) (by omega) dJ2_grow_2_52 (fun a_52 h_52 hS => ?_)
  refine rv_dup_x1 hX dJ2_grow_2_55 rfl rfl ?_
  refine xv_putf hX hS (k := 0) rfl pJ2_9_J2 (fun q => by cases q) rfl rfl rfl dJ2_grow_2_56 (fun h_56 hS => ?_)
  refine rv_areturn hX hE (Or.inr ⟨_, rfl⟩) (Or.inr ⟨_, rfl⟩) ?_ dJ2_grow_2_59
  exact ⟨_, rfl, hS⟩
  --done
/-- a list of one's own: its cells N -/
def xAL (G : rv_G) (a : Nat) (es : List Nat) (N : xM) : Prop := ∃ (mc : Int32) (ed : Nat), (∃ cap f, N = [(a, lO mc ed es.length), (ed, cR cap f)] ∧ (0 < cap ∧ cap < 10000) ∧ es.length ≤ cap ∧ lsf es f ∧ ∀ i v, es.length ≤ i → f i = some v → False) ∨ (es = [] ∧ N = [(a, lO mc ed 0)] ∧ rv_old G ed (cR 0 (fun _ => none)) ∧ va_Z "java/util/ArrayList" "DEFAULTCAPACITY_EMPTY_ELEMENTDATA" "[Ljava/lang/Object;" (.ref ed) (fun q => rv_b G ≤ q) G.2.1 G.2.1.heap)
theorem jl_toArray : rv_lf "java/util/ArrayList" 42 ⟨"java/util/Collection", "toArray", "()[Ljava/lang/Object;"⟩ yJ2_toArray := ⟨q1142, q1144, q1143, q1149, q1147, q1145, q1146, q1148, rfl, by decide⟩
theorem lsf.cpy {es : List Nat} {f g : Nat → Option Nat} (h : lsf es f) : lsf es (va_cpy f g 0 0 es.length) := fun i e he => by
  have hi := (List.getElem?_eq_some_iff.mp he).1
  unfold va_cpy
  rw [if_pos ⟨Nat.zero_le _, by omega⟩, show 0 + (i - 0) = i by omega]
  exact h i e he
/-- all of a list into an empty one that has the room -/
theorem j_addAllC {G : rv_G} (hG : rv_GK G) {d a b ed cap n m : Nat} (hd : 4 ≤ d) {F : xF} {mc : Int32} {es : List Nat} {f : Nat → Option Nat} {h : rv_H} (hl : es.length ≤ cap) (hc : 0 < cap ∧ cap < 10000) (hb : xLs G (rv_rd G h) b es) (hba : b ≠ a ∧ b ≠ ed) (hel : xlel G h es) (hoa : ∀ i v, f i = some v → False) (hea : ∀ e, e ∈ es → e ≠ a ∧ e ≠ ed) (hn : 1 ≤ n) (hm : es.length ≤ m) (hH : xH G F [(a, lO mc ed 0), (ed, cR cap f)] n m h) : rv_Call G d yJ2_addAll wJ2_addAll [.ref a, .ref b] h (xN (fun u h' => ∃ mc' f', u = some (.int (rv_z (decide (es.length ≠ 0)))) ∧ lsf es f' ∧ (∀ i v, es.length ≤ i → f' i = some v → False) ∧ xS G F h [a, ed] [(a, lO mc' ed es.length), (ed, cR cap f')] (n - 1) (m - es.length) h')) := by
  refine rv_startF hG (by decide +kernel) (L := [some (.ref a), some (.ref b), none, none, none, none]) rfl (Nat.le_of_ble_eq_true rfl) (fun X hX1 hX hE => ?_)
  subst hX1
  have hS := hH.start
  have hlt : ∀ b c, h.1 b = some c → b < h.2.1 := fun b c e => (hH.2.2.2.1.2 b c e).2
  have hb' := hb
  obtain ⟨bm, bd, bcap, bf, b1, b2, b3⟩ := hb'
  refine rv_aload_n hX dJ2_addAll_0 rfl ?_
  refine rv_invF hX jl_toArray mdJ2_toArray b1 ⟨TJ2, 3, rv_c17⟩ (j_toArray hG (d := d - 1) (by omega) hb hel hn hm (hS.cpre0 [] 0 rfl rfl rfl)) (by omega) rfl rfl (Nat.le_of_ble_eq_true rfl) dJ2_addAll_1 (fun v h' hq => ?_) (fun E h' hq => hq.elim)
  obtain ⟨w, g, hu, hg, hQ⟩ := hq
  cases hu
  have hS := hS.cpost0 [] 0 rfl rfl rfl hQ
  refine rv_astore_n hX dJ2_addAll_6 (rv_st_2 rfl) ?_
  by_cases h0 : es.length = 0
  · have e0 : es = [] := List.eq_nil_of_length_eq_zero h0
    subst e0
    refine rv_aload_n hX dJ2_addAll_7 rfl ?_
    refine rv_dup hX dJ2_addAll_8 rfl ?_
    refine rv_getfR hX gJ2_63_J2 (hS.mc (k := 0) rfl) rfl dJ2_addAll_9 ?_
    refine nv_iconst hX (m := 1) (by decide) dJ2_addAll_12 ?_
    first | refine nv_iadd hX dJ2_addAll_13 ?_ | refine rv_iadd hX dJ2_addAll_13 ?_
    refine xv_putf hX hS (k := 0) rfl pJ2_63_J2 (fun q => by cases q) rfl rfl rfl dJ2_addAll_14 (fun h_14 hS => ?_)
    refine rv_aload_n hX dJ2_addAll_17 rfl ?_
    refine xv_alen hX (hS.mc (k := 2) rfl) dJ2_addAll_18 ?_
    refine rv_istore_n hX dJ2_addAll_19 (rv_st_3 rfl) ?_
    refine rv_iload_n hX dJ2_addAll_20 rfl ?_
    refine nv_if_ne hX 26 (by omega) dJ2_addAll_21 (by decide) (fun q => absurd q (by omega)) (fun c_21 => ?_)
    refine nv_iconst hX (m := 0) (by decide) dJ2_addAll_24 ?_
    refine rv_ireturn hX hE rfl ?_ dJ2_addAll_25
    exact ⟨_, _, rfl, fun i e he => by simp at he, fun i v _ q => hoa i v q, hS.drop (.cons₂ _ (.cons₂ _ (.cons _ .slnil)))⟩
  · skip
    refine rv_aload_n hX dJ2_addAll_7 rfl ?_
    refine rv_dup hX dJ2_addAll_8 rfl ?_
    refine rv_getfR hX gJ2_63_J2 (hS.mc (k := 0) rfl) rfl dJ2_addAll_9 ?_
    refine nv_iconst hX (m := 1) (by decide) dJ2_addAll_12 ?_
    first | refine nv_iadd hX dJ2_addAll_13 ?_ | refine rv_iadd hX dJ2_addAll_13 ?_
    refine xv_putf hX hS (k := 0) rfl pJ2_63_J2 (fun q => by cases q) rfl rfl rfl dJ2_addAll_14 (fun h_14 hS => ?_)
    refine rv_aload_n hX dJ2_addAll_17 rfl ?_
    refine xv_alen hX (hS.mc (k := 2) rfl) dJ2_addAll_18 ?_
    refine rv_istore_n hX dJ2_addAll_19 (rv_st_3 rfl) ?_
    refine rv_iload_n hX dJ2_addAll_20 rfl ?_
    refine nv_if_ne hX 26 (by omega) dJ2_addAll_21 (by decide) (fun c_21 => ?_) (fun q => absurd q (by omega))
    refine rv_iload_n hX dJ2_addAll_26 rfl ?_
    refine rv_aload_n hX dJ2_addAll_27 rfl ?_
    refine rv_getfR hX gJ2_9_J2 (hS.mc (k := 0) rfl) rfl dJ2_addAll_28 ?_
    refine rv_dup hX dJ2_addAll_31 rfl ?_
    refine rv_astore hX dJ2_addAll_32 (rv_st_4 rfl) ?_
    refine xv_alen hX (hS.mc (k := 1) rfl) dJ2_addAll_34 ?_
    refine rv_aload_n hX dJ2_addAll_35 rfl ?_
    refine rv_getfR hX gJ2_48_J2 (hS.mc (k := 0) rfl) rfl dJ2_addAll_36 ?_
    refine rv_dup hX dJ2_addAll_39 rfl ?_
    refine rv_istore hX dJ2_addAll_40 (rv_st_5 rfl) ?_
    first | refine nv_isub hX (by omega) dJ2_addAll_42 ?_ | refine rv_isub hX dJ2_addAll_42 ?_
    refine nv_icmp_le hX 56 (by omega) (by omega) dJ2_addAll_43 (by decide) (fun c_43 => ?_) (fun q => absurd q (by omega))
    refine rv_aload_n hX dJ2_addAll_56 rfl ?_
    refine nv_iconst hX (m := 0) (by decide) dJ2_addAll_57 ?_
    refine rv_aload hX dJ2_addAll_58 rfl ?_
    refine rv_iload hX dJ2_addAll_60 rfl ?_
    refine rv_iload_n hX dJ2_addAll_62 rfl ?_
    refine xv_acpQ hX hS (k := 1) (sp := 0) (dp := 0) (z := es.length) q1151 (hS.mc (k := 2) rfl) rfl (by omega) (by omega) ⟨by omega, by omega⟩ (fun i hi v hv => ?_) (by omega) (Nat.le_of_ble_eq_true rfl) dJ2_addAll_63 (fun h_63 hS => ?_)
    · rw [Nat.zero_add] at hv
      have e := hg i _ (List.getElem?_eq_getElem hi)
      rw [hv] at e
      cases e
      have hv2 := hea _ (List.getElem_mem hi)
      exact (hel i _ (List.getElem?_eq_getElem hi)).keep (hS.kp hlt (show _ ∉ [a, ed] from by simp [hv2.1, hv2.2]))
    refine rv_aload_n hX dJ2_addAll_66 rfl ?_
    refine rv_iload hX dJ2_addAll_67 rfl ?_
    refine rv_iload_n hX dJ2_addAll_69 rfl ?_
    first | refine nv_iadd hX dJ2_addAll_70 ?_ | refine rv_iadd hX dJ2_addAll_70 ?_
    rw [Nat.zero_add]
    refine xv_putf hX hS (k := 0) rfl pJ2_48_J2 (fun q => by cases q) rfl rfl rfl dJ2_addAll_71 (fun h_71 hS => ?_)
    refine nv_iconst hX (m := 1) (by decide) dJ2_addAll_74 ?_
    refine rv_ireturn hX hE rfl ?_ dJ2_addAll_75
    refine ⟨_, _, by rw [decide_eq_true h0]; rfl, hg.cpy, fun i v hi q => ?_, (hS.drop (.cons₂ _ (.cons₂ _ (.cons _ .slnil)))).bud (by omega) (by omega)⟩
    unfold va_cpy at q
    rw [if_neg (by omega)] at q
    exact hoa i v q
/-- .. into one that is empty and has none -/
theorem j_addAll0 {G : rv_G} (hG : rv_GK G) {d a b ed n m : Nat} (hd : 4 ≤ d) {F : xF} {mc : Int32} {es : List Nat} {h : rv_H} (hl : es.length < 5000) (hz : va_Z "java/util/ArrayList" "DEFAULTCAPACITY_EMPTY_ELEMENTDATA" "[Ljava/lang/Object;" (.ref ed) (fun q => rv_b G ≤ q) G.2.1 G.2.1.heap) (ho : rv_old G ed (cR 0 (fun _ => none))) (hb : xLs G (rv_rd G h) b es) (hba : b ≠ a) (hel : xlel G h es) (hea : ∀ e, e ∈ es → e ≠ a) (hn : 2 ≤ n) (hm : 2 * es.length + 10 ≤ m) (hH : xH G F [(a, lO mc ed 0)] n m h) : rv_Call G d yJ2_addAll wJ2_addAll [.ref a, .ref b] h (xN (fun u h' => ∃ N, u = some (.int (rv_z (decide (es.length ≠ 0)))) ∧ xAL G a es N ∧ xS G F h [a] N (n - 2) (m - (2 * es.length + 10)) h')) := by
  refine rv_startF hG (by decide +kernel) (L := [some (.ref a), some (.ref b), none, none, none, none]) rfl (Nat.le_of_ble_eq_true rfl) (fun X hX1 hX hE => ?_)
  subst hX1
  have hS := hH.start
  have hlt : ∀ b c, h.1 b = some c → b < h.2.1 := fun b c e => (hH.2.2.2.1.2 b c e).2
  have hb' := hb
  obtain ⟨bm, bd, bcap, bf, b1, b2, b3⟩ := hb'
  have ho2 : ∀ h9, rv_rd X.1 h9 ed (cR 0 (fun _ => none)) := fun h9 => Or.inr ho
  have hmx : Nat.max 10 es.length ≤ es.length + 10 := Nat.max_le.mpr ⟨by omega, by omega⟩
  have hmx2 : es.length ≤ Nat.max 10 es.length := Nat.le_max_right _ _
  have hmx3 : 10 ≤ Nat.max 10 es.length := Nat.le_max_left _ _
  refine rv_aload_n hX dJ2_addAll_0 rfl ?_
  refine rv_invF hX jl_toArray mdJ2_toArray b1 ⟨TJ2, 3, rv_c17⟩ (j_toArray hG (d := d - 1) (by omega) hb hel (by omega) (by omega) (hS.cpre0 [] 0 rfl rfl rfl)) (by omega) rfl rfl (Nat.le_of_ble_eq_true rfl) dJ2_addAll_1 (fun v h' hq => ?_) (fun E h' hq => hq.elim)
  obtain ⟨w, g, hu, hg, hQ⟩ := hq
  cases hu
  have hS := hS.cpost0 [] 0 rfl rfl rfl hQ
  refine rv_astore_n hX dJ2_addAll_6 (rv_st_2 rfl) ?_
  by_cases h0 : es.length = 0
  · have e0 : es = [] := List.eq_nil_of_length_eq_zero h0
    subst e0
    refine rv_aload_n hX dJ2_addAll_7 rfl ?_
    refine rv_dup hX dJ2_addAll_8 rfl ?_
    refine rv_getfR hX gJ2_63_J2 (hS.mc (k := 0) rfl) rfl dJ2_addAll_9 ?_
    refine nv_iconst hX (m := 1) (by decide) dJ2_addAll_12 ?_
    first | refine nv_iadd hX dJ2_addAll_13 ?_ | refine rv_iadd hX dJ2_addAll_13 ?_
    refine xv_putf hX hS (k := 0) rfl pJ2_63_J2 (fun q => by cases q) rfl rfl rfl dJ2_addAll_14 (fun h_14 hS => ?_)
    refine rv_aload_n hX dJ2_addAll_17 rfl ?_
    refine xv_alen hX (hS.mc (k := 1) rfl) dJ2_addAll_18 ?_
    refine rv_istore_n hX dJ2_addAll_19 (rv_st_3 rfl) ?_
    refine rv_iload_n hX dJ2_addAll_20 rfl ?_
    refine nv_if_ne hX 26 (by omega) dJ2_addAll_21 (by decide) (fun q => absurd q (by omega)) (fun c_21 => ?_)
    refine nv_iconst hX (m := 0) (by decide) dJ2_addAll_24 ?_
    refine rv_ireturn hX hE rfl ?_ dJ2_addAll_25
    exact ⟨_, rfl, ⟨_, ed, Or.inr ⟨rfl, rfl, ho, hz⟩⟩, (hS.drop (.cons₂ _ (.cons _ .slnil))).bud (by omega) (by omega)⟩
  · skip
    refine rv_aload_n hX dJ2_addAll_7 rfl ?_
    refine rv_dup hX dJ2_addAll_8 rfl ?_
    refine rv_getfR hX gJ2_63_J2 (hS.mc (k := 0) rfl) rfl dJ2_addAll_9 ?_
    refine nv_iconst hX (m := 1) (by decide) dJ2_addAll_12 ?_
    first | refine nv_iadd hX dJ2_addAll_13 ?_ | refine rv_iadd hX dJ2_addAll_13 ?_
    refine xv_putf hX hS (k := 0) rfl pJ2_63_J2 (fun q => by cases q) rfl rfl rfl dJ2_addAll_14 (fun h_14 hS => ?_)
    refine rv_aload_n hX dJ2_addAll_17 rfl ?_
    refine xv_alen hX (hS.mc (k := 1) rfl) dJ2_addAll_18 ?_
    refine rv_istore_n hX dJ2_addAll_19 (rv_st_3 rfl) ?_
    refine rv_iload_n hX dJ2_addAll_20 rfl ?_
    refine nv_if_ne hX 26 (by omega) dJ2_addAll_21 (by decide) (fun c_21 => ?_) (fun q => absurd q (by omega))
    refine rv_iload_n hX dJ2_addAll_26 rfl ?_
    refine rv_aload_n hX dJ2_addAll_27 rfl ?_
    refine rv_getfR hX gJ2_9_J2 (hS.mc (k := 0) rfl) rfl dJ2_addAll_28 ?_
    have ho3 := ho2 h_14
    refine rv_dup hX dJ2_addAll_31 rfl ?_
    refine rv_astore hX dJ2_addAll_32 (rv_st_4 rfl) ?_
    refine xv_alen hX ho3 dJ2_addAll_34 ?_
    refine rv_aload_n hX dJ2_addAll_35 rfl ?_
    refine rv_getfR hX gJ2_48_J2 (hS.mc (k := 0) rfl) rfl dJ2_addAll_36 ?_
    refine rv_dup hX dJ2_addAll_39 rfl ?_
    refine rv_istore hX dJ2_addAll_40 (rv_st_5 rfl) ?_
    first | refine nv_isub hX (by omega) dJ2_addAll_42 ?_ | refine rv_isub hX dJ2_addAll_42 ?_
    refine nv_icmp_le hX 56 (by omega) (by omega) dJ2_addAll_43 (by decide) (fun q => absurd q (by omega)) (fun c_43 => ?_)
    refine rv_aload_n hX dJ2_addAll_46 rfl ?_
    refine rv_iload hX dJ2_addAll_47 rfl ?_
    refine rv_iload_n hX dJ2_addAll_49 rfl ?_
    first | refine nv_iadd hX dJ2_addAll_50 ?_ | refine rv_iadd hX dJ2_addAll_50 ?_
    rw [Nat.zero_add]
    refine rv_invVR hX iJ2_69 mdJ2_grow_2 (hS.mc (k := 0) rfl) ⟨TJ2, 3, rv_c17⟩ (j_grow0 hG (d := d - 1) (by omega) hz ho (by omega) (by omega) (by omega) (hS.cpre0 [1,0] 0 rfl rfl rfl)) (by omega) rfl rfl (Nat.le_of_ble_eq_true rfl) dJ2_addAll_51 (fun v h' hq => ?_) (fun E h' hq => by first | exact hq.elim | cases hq.2 | cases hq.1)
    obtain ⟨ed2, hu, hQ⟩ := hq
    have hS := hS.cpost0 [1,0] 0 rfl rfl rfl hQ
    cases hu
    refine rv_astore hX dJ2_addAll_54 (rv_st_4 rfl) ?_
    refine rv_aload_n hX dJ2_addAll_56 rfl ?_
    refine nv_iconst hX (m := 0) (by decide) dJ2_addAll_57 ?_
    refine rv_aload hX dJ2_addAll_58 rfl ?_
    refine rv_iload hX dJ2_addAll_60 rfl ?_
    refine rv_iload_n hX dJ2_addAll_62 rfl ?_
    refine xv_acpQ hX hS (k := 2) (sp := 0) (dp := 0) (z := es.length) q1151 (hS.mc (k := 1) rfl) rfl (by omega) (by omega) ⟨by omega, by omega⟩ (fun i hi v hv => ?_) (by omega) (Nat.le_of_ble_eq_true rfl) dJ2_addAll_63 (fun h_63 hS => ?_)
    · rw [Nat.zero_add] at hv
      have e := hg i _ (List.getElem?_eq_getElem hi)
      rw [hv] at e
      cases e
      have hv2 := hea _ (List.getElem_mem hi)
      exact (hel i _ (List.getElem?_eq_getElem hi)).keep (hS.kp hlt (show _ ∉ [a] from by simp [hv2]))
    refine rv_aload_n hX dJ2_addAll_66 rfl ?_
    refine rv_iload hX dJ2_addAll_67 rfl ?_
    refine rv_iload_n hX dJ2_addAll_69 rfl ?_
    first | refine nv_iadd hX dJ2_addAll_70 ?_ | refine rv_iadd hX dJ2_addAll_70 ?_
    rw [Nat.zero_add]
    refine xv_putf hX hS (k := 0) rfl pJ2_48_J2 (fun q => by cases q) rfl rfl rfl dJ2_addAll_71 (fun h_71 hS => ?_)
    refine nv_iconst hX (m := 1) (by decide) dJ2_addAll_74 ?_
    refine rv_ireturn hX hE rfl ?_ dJ2_addAll_75
    refine ⟨_, by rw [decide_eq_true h0]; rfl, ⟨_, ed2, Or.inl ⟨_, _, rfl, ⟨by omega, by omega⟩, by omega, hg.cpy, fun i v hi q => ?_⟩⟩, (hS.drop (.cons₂ _ (.cons _ (.cons₂ _ .slnil)))).bud (by omega) (by omega)⟩
    unfold va_cpy at q
    rw [if_neg (by omega)] at q
    cases q
