/-! THE SYSTEM: constructors of exceptions -/
set_option maxRecDepth 100000
theorem rv_refn {t : FieldType} {v : Value} (h : v.isRef = true) : narrow t v = v := narrow_isRef t h
theorem rv_reff1 {v : Value} (h : v.isRef = true) : fits (.array (.object "java/lang/StackTraceElement")) v = true := by cases v <;> first | rfl | cases h
theorem rv_reff2 {v : Value} (h : v.isRef = true) : fits (.object "java/util/List") v = true := by cases v <;> first | rfl | cases h
theorem rv_athrow {X : rv_X} {y : MethodName} {cc : ByteArray} {d : Nat} (hX : rv_K X y cc d) {h : rv_H} {pc : Nat} {L : List (Option Value)} {st : List Value} {q ci N : Nat} {C : String} {T : u_T} {fs : List Value} (hc : rv_cl[ci]? = some (C, T, N)) (hg : h.1 q = some (.inr (ci, fs))) (dg : decode cc pc = .ok (.athrow, 1)) (kk : rv_T X h pc L C) : rv_V X h pc L (.ref q :: st) := by
  have hU := rv_U_at hX hc
  obtain ⟨G, p, e, R, s, m, args, below, meth, c, Qw⟩ := X
  intro H ls locs hR hL hz
  obtain ⟨-, hfc, -⟩ := hU
  obtain ⟨-, cell, q1, q2, q3, -⟩ := hR.2.2.2.1 q _ hg
  exact vx_athrow hX.1 hX.2.1 dg (kk H ls locs st q cell hR hL hz q1 q3 (by rw [q2]; exact hfc))
theorem j_thr0 {G : rv_G} (hG : rv_GK G) {d a n m : Nat} (hd : 4 ≤ d) {F : xF} {h : rv_H} (hH : xH G F [(a, cO 5 [.null, .null, .null, .null, .null, .int 0])] n m h) : rv_Call G d yJ3_init wJ3_init [.ref a] h (xN (fun u h' => ∃ fs, u = none ∧ xS G F h [a] [(a, cO 5 fs)] n m h')) := by
  obtain ⟨v1, hv1⟩ := rv_zuU hG
  obtain ⟨v2, hv2⟩ := rv_zuN hG
  refine rv_startF hG (by decide +kernel) (L := [some (.ref a)]) rfl (Nat.le_of_ble_eq_true rfl) (fun X hX1 hX hE => ?_)
  subst hX1
  have hS := hH.start
  refine rv_aload_n hX dJ3_init_0 rfl ?_
  refine rv_objInit hX q220 q171 q172 (by omega) (Nat.le_of_ble_eq_true rfl) dJ3_init_1 ?_
  refine rv_aload_n hX dJ3_init_4 rfl ?_
  refine rv_aload_n hX dJ3_init_5 rfl ?_
  refine xv_putf hX hS (k := 0) rfl pJ3_7_X6 (fun q => by cases q) rfl rfl rfl dJ3_init_6 (fun h_6 hS => ?_)
  refine rv_aload_n hX dJ3_init_9 rfl ?_
  refine rv_gets hX q221 hv1.2 dJ3_init_10 ?_
  refine xv_putf hX hS (k := 0) rfl pJ3_17_X6 (fun q => by cases q) rfl (rv_refn hv1.1) (rv_reff1 hv1.1) dJ3_init_13 (fun h_13 hS => ?_)
  refine rv_aload_n hX dJ3_init_16 rfl ?_
  refine rv_gets hX q223 hv2.2 dJ3_init_17 ?_
  refine xv_putf hX hS (k := 0) rfl pJ3_24_X6 (fun q => by cases q) rfl (rv_refn hv2.1) (rv_reff2 hv2.1) dJ3_init_20 (fun h_20 hS => ?_)
  refine rv_aload_n hX dJ3_init_23 rfl ?_
  refine rv_fill hX rfl rv_exX6 (hS.mg (k := 0) rfl) rfl rfl rfl hv1 (by omega) (Nat.le_of_ble_eq_true rfl) dJ3_init_24 ?_
  refine rv_pop hX dJ3_init_27 rfl ?_
  refine rv_return hX hE ?_ dJ3_init_28
  exact ⟨_, rfl, hS⟩
theorem j_exc0 {G : rv_G} (hG : rv_GK G) {d a n m : Nat} (hd : 5 ≤ d) {F : xF} {h : rv_H} (hH : xH G F [(a, cO 5 [.null, .null, .null, .null, .null, .int 0])] n m h) : rv_Call G d yJ4_init_3 wJ4_init_3 [.ref a] h (xN (fun u h' => ∃ fs, u = none ∧ xS G F h [a] [(a, cO 5 fs)] n m h')) := by
  refine rv_startF hG (by decide +kernel) (L := [some (.ref a)]) rfl (Nat.le_of_ble_eq_true rfl) (fun X hX1 hX hE => ?_)
  subst hX1
  have hS := hH.start
  refine rv_aload_n hX dJ4_init_3_0 rfl ?_
  refine rv_invI hX iJ4_1 mdJ3_init rfl (j_thr0 hG (d := d - 1) (by omega) (hS.cpre0 [1] 0 rfl rfl rfl)) (by omega) rfl rfl (Nat.le_of_ble_eq_true rfl) dJ4_init_3_1 (fun v h' hq => ?_) (fun E h' hq => by first | exact hq.elim | cases hq.2 | cases hq.1)
  obtain ⟨fs, rfl, hQ⟩ := hq
  have hS := hS.cpost0 [1] 0 rfl rfl rfl hQ
  refine rv_return hX hE ?_ dJ4_init_3_4
  exact ⟨_, rfl, hS⟩
theorem x_crowd {G : rv_G} (hG : rv_GK G) {d a n m : Nat} (hd : 6 ≤ d) {F : xF} {h : rv_H} (hH : xH G F [(a, cO 5 [.null, .null, .null, .null, .null, .int 0])] n m h) : rv_Call G d yX6_init wX6_init [.ref a] h (xN (fun u h' => ∃ fs, u = none ∧ xS G F h [a] [(a, cO 5 fs)] n m h')) := by
  refine rv_start hG (by decide +kernel) (L := [some (.ref a)]) rfl (Nat.le_of_ble_eq_true rfl) (fun X hX1 hX hE => ?_)
  subst hX1
  have hS := hH.start
  refine rv_aload_n hX dX6_init_0 rfl ?_
  refine rv_invI hX iX6_1 mdJ4_init_3 rfl (j_exc0 hG (d := d - 1) (by omega) (hS.cpre0 [1] 0 rfl rfl rfl)) (by omega) rfl rfl (Nat.le_of_ble_eq_true rfl) dX6_init_1 (fun v h' hq => ?_) (fun E h' hq => by first | exact hq.elim | cases hq.2 | cases hq.1)
  obtain ⟨fs, rfl, hQ⟩ := hq
  have hS := hS.cpost0 [1] 0 rfl rfl rfl hQ
  refine rv_return hX hE ?_ dX6_init_4
  exact ⟨_, rfl, hS⟩
theorem j_thr1 {G : rv_G} (hG : rv_GK G) {d a n m : Nat} (hd : 4 ≤ d) {t : Nat} {F : xF} {h : rv_H} (hH : xH G F [(a, cO 4 [.null, .null, .null, .null, .null, .int 0])] n m h) : rv_Call G d yJ3_init_2 wJ3_init_2 [.ref a, (.ref t)] h (xN (fun u h' => ∃ fs, u = none ∧ xS G F h [a] [(a, cO 4 fs)] n m h')) := by
  obtain ⟨v1, hv1⟩ := rv_zuU hG
  obtain ⟨v2, hv2⟩ := rv_zuN hG
  refine rv_startF hG (by decide +kernel) (L := [some (.ref a), some (.ref t)]) rfl (Nat.le_of_ble_eq_true rfl) (fun X hX1 hX hE => ?_)
  subst hX1
  have hS := hH.start
  refine rv_aload_n hX dJ3_init_2_0 rfl ?_
  refine rv_objInit hX q220 q171 q172 (by omega) (Nat.le_of_ble_eq_true rfl) dJ3_init_2_1 ?_
  refine rv_aload_n hX dJ3_init_2_4 rfl ?_
  refine rv_aload_n hX dJ3_init_2_5 rfl ?_
  refine xv_putf hX hS (k := 0) rfl pJ3_7_X5 (fun q => by cases q) rfl rfl rfl dJ3_init_2_6 (fun h_6 hS => ?_)
  refine rv_aload_n hX dJ3_init_2_9 rfl ?_
  refine rv_gets hX q221 hv1.2 dJ3_init_2_10 ?_
  refine xv_putf hX hS (k := 0) rfl pJ3_17_X5 (fun q => by cases q) rfl (rv_refn hv1.1) (rv_reff1 hv1.1) dJ3_init_2_13 (fun h_13 hS => ?_)
  refine rv_aload_n hX dJ3_init_2_16 rfl ?_
  refine rv_gets hX q223 hv2.2 dJ3_init_2_17 ?_
  refine xv_putf hX hS (k := 0) rfl pJ3_24_X5 (fun q => by cases q) rfl (rv_refn hv2.1) (rv_reff2 hv2.1) dJ3_init_2_20 (fun h_20 hS => ?_)
  refine rv_aload_n hX dJ3_init_2_23 rfl ?_
  refine rv_fill hX rfl rv_exX5 (hS.mg (k := 0) rfl) rfl rfl rfl hv1 (by omega) (Nat.le_of_ble_eq_true rfl) dJ3_init_2_24 ?_
  refine rv_pop hX dJ3_init_2_27 rfl ?_
  refine rv_aload_n hX dJ3_init_2_28 rfl ?_
  refine rv_aload_n hX dJ3_init_2_29 rfl ?_
  refine xv_putf hX hS (k := 0) rfl pJ3_31_X5 (fun q => by cases q) rfl rfl rfl dJ3_init_2_30 (fun h_30 hS => ?_)
  refine rv_return hX hE ?_ dJ3_init_2_33
  exact ⟨_, rfl, hS⟩
theorem j_exc1 {G : rv_G} (hG : rv_GK G) {d a n m : Nat} (hd : 5 ≤ d) {t : Nat} {F : xF} {h : rv_H} (hH : xH G F [(a, cO 4 [.null, .null, .null, .null, .null, .int 0])] n m h) : rv_Call G d yJ4_init wJ4_init [.ref a, (.ref t)] h (xN (fun u h' => ∃ fs, u = none ∧ xS G F h [a] [(a, cO 4 fs)] n m h')) := by
  refine rv_startF hG (by decide +kernel) (L := [some (.ref a), some (.ref t)]) rfl (Nat.le_of_ble_eq_true rfl) (fun X hX1 hX hE => ?_)
  subst hX1
  have hS := hH.start
  refine rv_aload_n hX dJ4_init_0 rfl ?_
  refine rv_aload_n hX dJ4_init_1 rfl ?_
  refine rv_invI hX iJ4_7 mdJ3_init_2 rfl (j_thr1 hG (d := d - 1) (by omega) (hS.cpre0 [1] 0 rfl rfl rfl)) (by omega) rfl rfl (Nat.le_of_ble_eq_true rfl) dJ4_init_2 (fun v h' hq => ?_) (fun E h' hq => by first | exact hq.elim | cases hq.2 | cases hq.1)
  obtain ⟨fs, rfl, hQ⟩ := hq
  have hS := hS.cpost0 [1] 0 rfl rfl rfl hQ
  refine rv_return hX hE ?_ dJ4_init_5
  exact ⟨_, rfl, hS⟩
theorem x_draftX {G : rv_G} (hG : rv_GK G) {d a n m : Nat} (hd : 6 ≤ d) {t : Nat} {F : xF} {h : rv_H} (hH : xH G F [(a, cO 4 [.null, .null, .null, .null, .null, .int 0])] n m h) : rv_Call G d yX5_init wX5_init [.ref a, (.ref t)] h (xN (fun u h' => ∃ fs, u = none ∧ xS G F h [a] [(a, cO 4 fs)] n m h')) := by
  refine rv_start hG (by decide +kernel) (L := [some (.ref a), some (.ref t)]) rfl (Nat.le_of_ble_eq_true rfl) (fun X hX1 hX hE => ?_)
  subst hX1
  have hS := hH.start
  refine rv_aload_n hX dX5_init_0 rfl ?_
  refine rv_aload_n hX dX5_init_1 rfl ?_
  refine rv_invI hX iX5_1 mdJ4_init rfl (j_exc1 hG (d := d - 1) (by omega) (hS.cpre0 [1] 0 rfl rfl rfl)) (by omega) rfl rfl (Nat.le_of_ble_eq_true rfl) dX5_init_2 (fun v h' hq => ?_) (fun E h' hq => by first | exact hq.elim | cases hq.2 | cases hq.1)
  obtain ⟨fs, rfl, hQ⟩ := hq
  have hS := hS.cpost0 [1] 0 rfl rfl rfl hQ
  refine rv_return hX hE ?_ dX5_init_5
  exact ⟨_, rfl, hS⟩
theorem j_thr2 {G : rv_G} (hG : rv_GK G) {d a n m : Nat} (hd : 4 ≤ d) {t : Nat} {F : xF} {h : rv_H} (hH : xH G F [(a, cO 22 [.null, .null, .null, .null, .null, .int 0])] n m h) : rv_Call G d yJ3_init_3 wJ3_init_3 [.ref a, .null, (.ref t)] h (xN (fun u h' => ∃ fs, u = none ∧ xS G F h [a] [(a, cO 22 fs)] n m h')) := by
  obtain ⟨v1, hv1⟩ := rv_zuU hG
  obtain ⟨v2, hv2⟩ := rv_zuN hG
  refine rv_startF hG (by decide +kernel) (L := [some (.ref a), some .null, some (.ref t)]) rfl (Nat.le_of_ble_eq_true rfl) (fun X hX1 hX hE => ?_)
  subst hX1
  have hS := hH.start
  refine rv_aload_n hX dJ3_init_3_0 rfl ?_
  refine rv_objInit hX q220 q171 q172 (by omega) (Nat.le_of_ble_eq_true rfl) dJ3_init_3_1 ?_
  refine rv_aload_n hX dJ3_init_3_4 rfl ?_
  refine rv_aload_n hX dJ3_init_3_5 rfl ?_
  refine xv_putf hX hS (k := 0) rfl pJ3_7_J18 (fun q => by cases q) rfl rfl rfl dJ3_init_3_6 (fun h_6 hS => ?_)
  refine rv_aload_n hX dJ3_init_3_9 rfl ?_
  refine rv_gets hX q221 hv1.2 dJ3_init_3_10 ?_
  refine xv_putf hX hS (k := 0) rfl pJ3_17_J18 (fun q => by cases q) rfl (rv_refn hv1.1) (rv_reff1 hv1.1) dJ3_init_3_13 (fun h_13 hS => ?_)
  refine rv_aload_n hX dJ3_init_3_16 rfl ?_
  refine rv_gets hX q223 hv2.2 dJ3_init_3_17 ?_
  refine xv_putf hX hS (k := 0) rfl pJ3_24_J18 (fun q => by cases q) rfl (rv_refn hv2.1) (rv_reff2 hv2.1) dJ3_init_3_20 (fun h_20 hS => ?_)
  refine rv_aload_n hX dJ3_init_3_23 rfl ?_
  refine rv_fill hX rfl rv_exJ18 (hS.mg (k := 0) rfl) rfl rfl rfl hv1 (by omega) (Nat.le_of_ble_eq_true rfl) dJ3_init_3_24 ?_
  refine rv_pop hX dJ3_init_3_27 rfl ?_
  refine rv_aload_n hX dJ3_init_3_28 rfl ?_
  refine rv_aload_nN hX dJ3_init_3_29 rfl ?_
  refine xv_putf hX hS (k := 0) rfl pJ3_31_J18 (fun q => by cases q) rfl rfl rfl dJ3_init_3_30 (fun h_30 hS => ?_)
  refine rv_aload_n hX dJ3_init_3_33 rfl ?_
  refine rv_aload_n hX dJ3_init_3_34 rfl ?_
  refine xv_putf hX hS (k := 0) rfl pJ3_7_J18 (fun q => by cases q) rfl rfl rfl dJ3_init_3_35 (fun h_35 hS => ?_)
  refine rv_return hX hE ?_ dJ3_init_3_38
  exact ⟨_, rfl, hS⟩
theorem j_exc2 {G : rv_G} (hG : rv_GK G) {d a n m : Nat} (hd : 5 ≤ d) {t : Nat} {F : xF} {h : rv_H} (hH : xH G F [(a, cO 22 [.null, .null, .null, .null, .null, .int 0])] n m h) : rv_Call G d yJ4_init_2 wJ4_init_2 [.ref a, .null, (.ref t)] h (xN (fun u h' => ∃ fs, u = none ∧ xS G F h [a] [(a, cO 22 fs)] n m h')) := by
  refine rv_startF hG (by decide +kernel) (L := [some (.ref a), some .null, some (.ref t)]) rfl (Nat.le_of_ble_eq_true rfl) (fun X hX1 hX hE => ?_)
  subst hX1
  have hS := hH.start
  refine rv_aload_n hX dJ4_init_2_0 rfl ?_
  refine rv_aload_nN hX dJ4_init_2_1 rfl ?_
  refine rv_aload_n hX dJ4_init_2_2 rfl ?_
  refine rv_invI hX iJ4_10 mdJ3_init_3 rfl (j_thr2 hG (d := d - 1) (by omega) (hS.cpre0 [1] 0 rfl rfl rfl)) (by omega) rfl rfl (Nat.le_of_ble_eq_true rfl) dJ4_init_2_3 (fun v h' hq => ?_) (fun E h' hq => by first | exact hq.elim | cases hq.2 | cases hq.1)
  obtain ⟨fs, rfl, hQ⟩ := hq
  have hS := hS.cpost0 [1] 0 rfl rfl rfl hQ
  refine rv_return hX hE ?_ dJ4_init_2_6
  exact ⟨_, rfl, hS⟩
theorem j_rte2 {G : rv_G} (hG : rv_GK G) {d a n m : Nat} (hd : 6 ≤ d) {t : Nat} {F : xF} {h : rv_H} (hH : xH G F [(a, cO 22 [.null, .null, .null, .null, .null, .int 0])] n m h) : rv_Call G d yJ5_init_2 wJ5_init_2 [.ref a, .null, (.ref t)] h (xN (fun u h' => ∃ fs, u = none ∧ xS G F h [a] [(a, cO 22 fs)] n m h')) := by
  refine rv_startF hG (by decide +kernel) (L := [some (.ref a), some .null, some (.ref t)]) rfl (Nat.le_of_ble_eq_true rfl) (fun X hX1 hX hE => ?_)
  subst hX1
  have hS := hH.start
  refine rv_aload_n hX dJ5_init_2_0 rfl ?_
  refine rv_aload_nN hX dJ5_init_2_1 rfl ?_
  refine rv_aload_n hX dJ5_init_2_2 rfl ?_
  refine rv_invI hX iJ5_10 mdJ4_init_2 rfl (j_exc2 hG (d := d - 1) (by omega) (hS.cpre0 [1] 0 rfl rfl rfl)) (by omega) rfl rfl (Nat.le_of_ble_eq_true rfl) dJ5_init_2_3 (fun v h' hq => ?_) (fun E h' hq => by first | exact hq.elim | cases hq.2 | cases hq.1)
  obtain ⟨fs, rfl, hQ⟩ := hq
  have hS := hS.cpost0 [1] 0 rfl rfl rfl hQ
  refine rv_return hX hE ?_ dJ5_init_2_6
  exact ⟨_, rfl, hS⟩
theorem j_ise2 {G : rv_G} (hG : rv_GK G) {d a n m : Nat} (hd : 7 ≤ d) {t : Nat} {F : xF} {h : rv_H} (hH : xH G F [(a, cO 22 [.null, .null, .null, .null, .null, .int 0])] n m h) : rv_Call G d yJ18_init wJ18_init [.ref a, .null, (.ref t)] h (xN (fun u h' => ∃ fs, u = none ∧ xS G F h [a] [(a, cO 22 fs)] n m h')) := by
  refine rv_startF hG (by decide +kernel) (L := [some (.ref a), some .null, some (.ref t)]) rfl (Nat.le_of_ble_eq_true rfl) (fun X hX1 hX hE => ?_)
  subst hX1
  have hS := hH.start
  refine rv_aload_n hX dJ18_init_0 rfl ?_
  refine rv_aload_nN hX dJ18_init_1 rfl ?_
  refine rv_aload_n hX dJ18_init_2 rfl ?_
  refine rv_invI hX iJ18_10 mdJ5_init_2 rfl (j_rte2 hG (d := d - 1) (by omega) (hS.cpre0 [1] 0 rfl rfl rfl)) (by omega) rfl rfl (Nat.le_of_ble_eq_true rfl) dJ18_init_3 (fun v h' hq => ?_) (fun E h' hq => by first | exact hq.elim | cases hq.2 | cases hq.1)
  obtain ⟨fs, rfl, hQ⟩ := hq
  have hS := hS.cpost0 [1] 0 rfl rfl rfl hQ
  refine rv_return hX hE ?_ dJ18_init_6
  exact ⟨_, rfl, hS⟩
