/-! THE PLATFORM: lists, read -/
set_option maxRecDepth 100000
/-- a list of references -/
def xL (G : rv_G) (h : rv_H) (a : Nat) (es : List Nat) : Prop := ∃ (m : Int32) (ed cap : Nat) (f : Nat → Option Nat), rv_rd G h a (.inr (17, [.int m, .ref ed, .int (nI es.length)])) ∧ rv_rd G h ed (.inl (4, cap, .inr (.inr (.inr (.inr f))))) ∧ es.length ≤ cap ∧ cap < 60000000 ∧ ∀ (i e : Nat), es[i]? = some e → f i = some e
theorem j_size {G : rv_G} (hG : rv_GK G) {d a : Nat} {es : List Nat} {h : rv_H} (ha : xL G h a es) : rv_Call G d yJ2_size wJ2_size [.ref a] h (fun o h' => h' = h ∧ o = .inl (some (.int (nI es.length)))) := by
  obtain ⟨m, ed, cap, f, h1, h2, h3, h4, h5⟩ := ha
  refine rv_startF hG (by decide +kernel) (L := [some (.ref a)]) rfl (Nat.le_of_ble_eq_true rfl) (fun X hX1 hX hE => ?_)
  subst hX1
  refine rv_aload_n hX dJ2_size_0 rfl ?_
  refine rv_getfR hX gJ2_48_J2 h1 rfl dJ2_size_1 ?_
  exact rv_ireturn hX hE rfl ⟨rfl, rfl⟩ dJ2_size_4
theorem j_elementData {G : rv_G} (hG : rv_GK G) {d a i e : Nat} {es : List Nat} {h : rv_H} (ha : xL G h a es) (hi : es[i]? = some e) : rv_Call G d yJ2_elementData wJ2_elementData [.ref a, .int (nI i)] h (fun o h' => h' = h ∧ o = .inl (some (.ref e))) := by
  obtain ⟨m, ed, cap, f, h1, h2, h3, h4, h5⟩ := ha
  have hl := (List.getElem?_eq_some_iff.mp hi).1
  refine rv_startF hG (by decide +kernel) (L := [some (.ref a), some (.int (nI i))]) rfl (Nat.le_of_ble_eq_true rfl) (fun X hX1 hX hE => ?_)
  subst hX1
  refine rv_aload_n hX dJ2_elementData_0 rfl ?_
  refine rv_getfR hX gJ2_9_J2 h1 rfl dJ2_elementData_1 ?_
  refine rv_iload_n hX dJ2_elementData_4 rfl ?_
  have hc : (nI i).toNatClampNeg = i := nI_clamp (by omega)
  refine rv_aaldR hX (k := 4) rfl h2 (fun q => ?_) dJ2_elementData_5 ?_
  · rcases q with q | q
    · exact absurd q (Int32.not_lt.mpr (nI_pos' (by omega)))
    · rw [hc] at q
      omega
  · rw [hc, h5 i e hi]
    exact rv_areturn hX hE (Or.inl ⟨_, rfl⟩) (Or.inr ⟨_, rfl⟩) ⟨rfl, rfl⟩ dJ2_elementData_6
theorem j_check14 {G : rv_G} (hG : rv_GK G) {d i n : Nat} (hi : i < n) (hn : n < 2147483648) {h : rv_H} : rv_Call G d yJ14_checkIndex wJ14_checkIndex [.int (nI i), .int (nI n), .null] h (fun o h' => h' = h ∧ o = .inl (some (.int (nI i)))) := by
  refine rv_startF hG (by decide +kernel) (L := [some (.int (nI i)), some (.int (nI n)), some .null]) rfl (Nat.le_of_ble_eq_true rfl) (fun X hX1 hX hE => ?_)
  subst hX1
  refine rv_iload_n hX dJ14_checkIndex_0 rfl ?_
  refine rv_if_lt hX 9 dJ14_checkIndex_1 (by decide) (fun q => absurd q (Int32.not_lt.mpr (nI_pos' (by omega)))) (fun _ => ?_)
  refine rv_iload_n hX dJ14_checkIndex_4 rfl ?_
  refine rv_iload_n hX dJ14_checkIndex_5 rfl ?_
  refine nv_icmp_lt hX 16 (by omega) (by omega) dJ14_checkIndex_6 (by decide) (fun _ => ?_) (fun q => absurd hi (Nat.not_lt.mpr q))
  refine rv_iload_n hX dJ14_checkIndex_16 rfl ?_
  exact rv_ireturn hX hE rfl ⟨rfl, rfl⟩ dJ14_checkIndex_17
theorem j_check {G : rv_G} (hG : rv_GK G) {d i n : Nat} (hd : 1 ≤ d) (hi : i < n) (hn : n < 2147483648) {h : rv_H} : rv_Call G d yJ21_checkIndex wJ21_checkIndex [.int (nI i), .int (nI n)] h (fun o h' => h' = h ∧ o = .inl (some (.int (nI i)))) := by
  refine rv_startF hG (by decide +kernel) (L := [some (.int (nI i)), some (.int (nI n))]) rfl (Nat.le_of_ble_eq_true rfl) (fun X hX1 hX hE => ?_)
  subst hX1
  refine rv_iload_n hX dJ21_checkIndex_0 rfl ?_
  refine rv_iload_n hX dJ21_checkIndex_1 rfl ?_
  refine rv_null hX dJ21_checkIndex_2 ?_
  refine rv_invS hX iJ21_105 mdJ14_checkIndex (j_check14 hG (d := 0) hi hn) hd rfl (st := []) rfl (Nat.le_of_ble_eq_true rfl) dJ21_checkIndex_3 (fun v h' hq => ?_) (fun E h' hq => by cases hq.2)
  obtain ⟨rfl, hq⟩ := hq
  cases hq
  exact rv_ireturn hX hE rfl ⟨rfl, rfl⟩ dJ21_checkIndex_6
theorem j_get {G : rv_G} (hG : rv_GK G) {d a i e : Nat} (hd : 2 ≤ d) {es : List Nat} {h : rv_H} (ha : xL G h a es) (hi : es[i]? = some e) : rv_Call G d yJ2_get wJ2_get [.ref a, .int (nI i)] h (fun o h' => h' = h ∧ o = .inl (some (.ref e))) := by
  have ha' := ha
  obtain ⟨m, ed, cap, f, h1, h2, h3, h4, h5⟩ := ha'
  have hl := (List.getElem?_eq_some_iff.mp hi).1
  refine rv_startF hG (by decide +kernel) (L := [some (.ref a), some (.int (nI i))]) rfl (Nat.le_of_ble_eq_true rfl) (fun X hX1 hX hE => ?_)
  subst hX1
  refine rv_iload_n hX dJ2_get_0 rfl ?_
  refine rv_aload_n hX dJ2_get_1 rfl ?_
  refine rv_getfR hX gJ2_48_J2 h1 rfl dJ2_get_2 ?_
  refine rv_invS hX iJ2_118 mdJ21_checkIndex (j_check hG (d := 1) (by decide) hl (by omega)) (by omega) rfl (st := []) rfl (Nat.le_of_ble_eq_true rfl) dJ2_get_5 (fun v h' hq => ?_) (fun E h' hq => by cases hq.2)
  obtain ⟨rfl, hq⟩ := hq
  cases hq
  refine rv_pop hX dJ2_get_8 rfl ?_
  refine rv_aload_n hX dJ2_get_9 rfl ?_
  refine rv_iload_n hX dJ2_get_10 rfl ?_
  refine rv_invVR hX iJ2_123 mdJ2_elementData h1 ⟨TJ2, 3, rv_c17⟩ (j_elementData hG (d := 0) ha hi) (by omega) rfl (st := []) rfl (Nat.le_of_ble_eq_true rfl) dJ2_get_11 (fun v h' hq => ?_) (fun E h' hq => by cases hq.2)
  obtain ⟨rfl, hq⟩ := hq
  cases hq
  exact rv_areturn hX hE (Or.inl ⟨_, rfl⟩) (Or.inr ⟨_, rfl⟩) ⟨rfl, rfl⟩ dJ2_get_14
