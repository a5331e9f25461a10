/-! THE PLATFORM: boxed ints -/
set_option maxRecDepth 100000
/-- an Integer object of a small number: one of the cache -/
def rv_bx (G : rv_G) (a n : Nat) : Prop := rv_old G a (.inr (20, [.int (nI n)]))
theorem rv_ofn {n : Nat} : (Int32.ofNat (n + 128) - 128 : Int32) = nI n := by
  have h := nI_add n 128
  show nI (n + 128) - nI 128 = nI n
  rw [← h]
  exact Int32.add_sub_cancel _ _
theorem j_valueOf {G : rv_G} (hG : rv_GK G) {d n : Nat} (hn : n < 128) {h : rv_H} : rv_Call G d yJ17_valueOf wJ17_valueOf [.int (nI n)] h (fun o h' => h' = h ∧ ∃ a, o = .inl (some (.ref a)) ∧ rv_bx G a n) := by
  refine rv_startF hG (by decide +kernel) (L := [some (.int (nI n))]) rfl (Nat.le_of_ble_eq_true rfl) (fun X hX1 hX hE => ?_)
  subst hX1
  obtain ⟨ca, ad, z1, z2, z3⟩ := rv_cache hG
  refine rv_iload_n hX dJ17_valueOf_0 rfl ?_
  refine rv_bipush hX (v := -128) dJ17_valueOf_1 (by decide) ?_
  refine rv_icmp_lt hX 23 dJ17_valueOf_3 (by decide) (fun q => absurd q (Int32.not_lt.mpr ?_)) (fun _ => ?_)
  · exact Int32.le_trans (by decide : (-128 : Int32) ≤ 0) (nI_pos' (by omega))
  refine rv_iload_n hX dJ17_valueOf_6 rfl ?_
  refine rv_gets hX q612 (rv_st_high hG) dJ17_valueOf_7 ?_
  refine rv_icmp_gt hX 23 dJ17_valueOf_10 (by decide) (fun q => absurd q (Int32.not_lt.mpr (nI_le (a := n) (b := 127) (by omega) (by omega)))) (fun _ => ?_)
  refine rv_gets hX q614 z1 dJ17_valueOf_13 ?_
  refine rv_iload_n hX dJ17_valueOf_16 rfl ?_
  refine nv_sipush hX (m := 128) (by decide) dJ17_valueOf_17 ?_
  refine nv_iadd hX dJ17_valueOf_20 ?_
  have hc : (nI (n + 128)).toNatClampNeg = n + 128 := nI_clamp (by omega)
  refine rv_aaldR hX (k := 6) rfl (Or.inr z2) (fun q => ?_) dJ17_valueOf_21 ?_
  · rcases q with q | q
    · exact absurd q (Int32.not_lt.mpr (nI_pos' (by omega)))
    · rw [hc] at q
      omega
  · rw [hc]
    refine rv_areturn hX hE (Or.inl ⟨_, rfl⟩) (Or.inr ⟨_, rfl⟩) ⟨rfl, ad (n + 128), rfl, ?_⟩ dJ17_valueOf_22
    have := z3 (n + 128) (by omega)
    rw [rv_ofn] at this
    exact this
theorem j_intValue {G : rv_G} (hG : rv_GK G) {d a : Nat} {v : Int32} {h : rv_H} (ha : rv_rd G h a (.inr (20, [.int v]))) : rv_Call G d yJ17_intValue wJ17_intValue [.ref a] h (fun o h' => h' = h ∧ o = .inl (some (.int v))) := by
  refine rv_startF hG (by decide +kernel) (L := [some (.ref a)]) rfl (Nat.le_of_ble_eq_true rfl) (fun X hX1 hX hE => ?_)
  subst hX1
  refine rv_aload_n hX dJ17_intValue_0 rfl ?_
  refine rv_getfR hX gJ17_205_J17 ha rfl dJ17_intValue_1 ?_
  exact rv_ireturn hX hE rfl ⟨rfl, rfl⟩ dJ17_intValue_4
