/-! THE PLATFORM: lists, changed -/
set_option maxRecDepth 100000
theorem j_add2n {G : rv_G} (hG : rv_GK G) {d a ed cap n v : Nat} {m : Int32} {f : Nat → Option Nat} {h : rv_H} (h1 : h.1 a = some (.inr (17, [.int m, .ref ed, .int (nI n)]))) (h2 : h.1 ed = some (.inl (4, cap, .inr (.inr (.inr (.inr f)))))) (hn : n < cap) (hc : cap < 60000000) (hv : rv_el G h v) : rv_Call G d yJ2_add_2 wJ2_add_2 [.ref a, .ref v, .ref ed, .int (nI n)] h (fun o h' => o = .inl none ∧ h' = rv_put (rv_put h ed (.inl (4, cap, .inr (.inr (.inr (.inr (va_up f n (some v)))))))) a (.inr (17, [.int m, .ref ed, .int (nI (n + 1))]))) := by
  refine rv_startF hG (by decide +kernel) (L := [some (.ref a), some (.ref v), some (.ref ed), some (.int (nI n))]) rfl (Nat.le_of_ble_eq_true rfl) (fun X hX1 hX hE => ?_)
  subst hX1
  have hae : a ≠ ed := fun e => by rw [e, h2] at h1; cases h1
  have hcn : (nI n).toNatClampNeg = n := nI_clamp (by omega)
  refine rv_iload_n hX dJ2_add_2_0 rfl ?_
  refine rv_aload_n hX dJ2_add_2_1 rfl ?_
  refine rv_alenR hX (.n (show 4 < 6 by decide) h2) dJ2_add_2_2 ?_
  refine nv_icmp_ne hX 11 (by omega) (show cap < 2147483648 by omega) dJ2_add_2_3 (by decide) (fun _ => ?_) (fun q => absurd q (by omega))
  refine rv_aload_n hX dJ2_add_2_11 rfl ?_
  refine rv_iload_n hX dJ2_add_2_12 rfl ?_
  refine rv_aload_n hX dJ2_add_2_13 rfl ?_
  refine rv_aastO hX h2 hv (fun q => ?_) dJ2_add_2_14 ?_
  · rcases q with q | q
    · exact absurd q (Int32.not_lt.mpr (nI_pos' (by omega)))
    · rw [hcn] at q
      omega
  rw [hcn]
  refine rv_aload_n hX dJ2_add_2_15 rfl ?_
  refine rv_iload_n hX dJ2_add_2_16 rfl ?_
  refine nv_iconst hX (m := 1) (by decide) dJ2_add_2_17 ?_
  refine nv_iadd hX dJ2_add_2_18 ?_
  refine rv_putf hX pJ2_48_J2 (fun q => by cases q) (show (rv_put h ed _).1 a = some (.inr (17, [.int m, .ref ed, .int (nI n)])) from ?_) rfl rfl rfl dJ2_add_2_19 ?_
  · show (if a = ed then _ else h.1 a) = _
    rw [if_neg hae]
    exact h1
  exact rv_return hX hE ⟨rfl, rfl⟩ dJ2_add_2_22
theorem rv_put_ne {h : rv_H} {a b : Nat} {c : rv_C} (hb : b ≠ a) : (rv_put h a c).1 b = h.1 b := if_neg hb
theorem rv_put_eq {h : rv_H} {a : Nat} {c : rv_C} : (rv_put h a c).1 a = some c := if_pos rfl
theorem rv_rd.put {G : rv_G} {h : rv_H} {a b : Nat} {c x : rv_C} (hr : rv_rd G h b x) (hb : b ≠ a) : rv_rd G (rv_put h a c) b x := by
  rcases hr with ⟨hk, hg⟩ | ho
  · exact Or.inl ⟨hk, (rv_put_ne hb).trans hg⟩
  · exact Or.inr ho
theorem rv_el.put {G : rv_G} {h : rv_H} {a v : Nat} {c : rv_C} (hr : rv_el G h v) (hb : v ≠ a) : rv_el G (rv_put h a c) v := by
  obtain ⟨C, hq, hv⟩ := hr
  refine ⟨C, hq, ?_⟩
  rcases hv with ⟨ci, N, vs, T, k1, k2⟩ | ⟨c0, k1, k2⟩
  · exact Or.inl ⟨ci, N, vs, T, k1.put hb, k2⟩
  · exact Or.inr ⟨c0, (rv_put_ne hb).trans k1, k2⟩
theorem j_addn {G : rv_G} (hG : rv_GK G) {d a ed cap n v : Nat} (hd : 1 ≤ d) {m : Int32} {f : Nat → Option Nat} {h : rv_H} (h1 : h.1 a = some (.inr (17, [.int m, .ref ed, .int (nI n)]))) (h2 : h.1 ed = some (.inl (4, cap, .inr (.inr (.inr (.inr f)))))) (hn : n < cap) (hc : cap < 60000000) (hv : rv_el G h v) (hva : v ≠ a) : rv_Call G d yJ2_add wJ2_add [.ref a, .ref v] h (fun o h' => o = .inl (some (.int (nI 1))) ∧ h' = rv_put (rv_put (rv_put h a (.inr (17, [.int (m + 1), .ref ed, .int (nI n)]))) ed (.inl (4, cap, .inr (.inr (.inr (.inr (va_up f n (some v)))))))) a (.inr (17, [.int (m + 1), .ref ed, .int (nI (n + 1))]))) := by
  refine rv_startF hG (by decide +kernel) (L := [some (.ref a), some (.ref v)]) rfl (Nat.le_of_ble_eq_true rfl) (fun X hX1 hX hE => ?_)
  subst hX1
  have hae : a ≠ ed := fun e => by rw [e, h2] at h1; cases h1
  refine rv_aload_n hX dJ2_add_0 rfl ?_
  refine rv_dup hX dJ2_add_1 rfl ?_
  refine rv_getfR hX gJ2_63_J2 (.o h1) rfl dJ2_add_2 ?_
  refine rv_iconst hX (v := 1) dJ2_add_5 (by decide) ?_
  refine rv_iadd hX dJ2_add_6 ?_
  refine rv_putf hX pJ2_63_J2 (fun q => by cases q) h1 rfl rfl rfl dJ2_add_7 ?_
  show rv_V X (rv_put h a (.inr (17, [.int (m + 1), .ref ed, .int (nI n)]))) 10 [some (.ref a), some (.ref v)] []
  refine rv_aload_n hX dJ2_add_10 rfl ?_
  refine rv_aload_n hX dJ2_add_11 rfl ?_
  refine rv_aload_n hX dJ2_add_12 rfl ?_
  refine rv_getfR hX gJ2_9_J2 (.o rv_put_eq) rfl dJ2_add_13 ?_
  refine rv_aload_n hX dJ2_add_16 rfl ?_
  refine rv_getfR hX gJ2_48_J2 (.o rv_put_eq) rfl dJ2_add_17 ?_
  refine rv_invVR hX iJ2_131 mdJ2_add_2 (.o rv_put_eq) ⟨TJ2, 3, rv_c17⟩ (j_add2n hG (d := 0) rv_put_eq ((rv_put_ne (fun e => hae e.symm)).trans h2) hn hc (hv.put hva)) hd rfl (st := []) rfl (Nat.le_of_ble_eq_true rfl) dJ2_add_20 (fun w h' hq => ?_) (fun E h' hq => by cases hq.1)
  obtain ⟨hq, rfl⟩ := hq
  cases hq
  refine nv_iconst hX (m := 1) (by decide) dJ2_add_23 ?_
  exact rv_ireturn hX hE rfl ⟨rfl, rfl⟩ dJ2_add_24
