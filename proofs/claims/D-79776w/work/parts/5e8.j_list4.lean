/-! THE PLATFORM: lists, adding and removing -/
set_option maxRecDepth 100000
theorem jgrow_lt {n : Nat} (h : n < 5000) : n < jgrow n (n + 1) ∧ jgrow n (n + 1) ≤ 2 * n + 11 ∧ (0 < n → jgrow n (n + 1) < 10000) := by
  unfold jgrow
  by_cases h0 : n = 0
  · rw [if_pos h0]
    subst h0
    exact ⟨by decide, by decide, fun q => absurd q (Nat.lt_irrefl _)⟩
  · rw [if_neg h0]
    have h1 : 1 ≤ Nat.max (n + 1 - n) (n / 2) := Nat.le_trans (by omega) (Nat.le_max_left _ _)
    have h2 : Nat.max (n + 1 - n) (n / 2) ≤ n / 2 + 1 := Nat.max_le.mpr ⟨by omega, by omega⟩
    exact ⟨by omega, by omega, fun _ => by omega⟩
/-- added where the array is full -/
theorem j_add2F {G : rv_G} (hG : rv_GK G) {d a ed v n m : Nat} (hd : 5 ≤ d) {F : xF} {mc : Int32} {es : List Nat} {f : Nat → Option Nat} {h : rv_H} (hl : 0 < es.length ∧ es.length < 5000) (hf : lsf es f) (hoa : ∀ i v, es.length ≤ i → f i = some v → False) (hel : xlel G h es) (hv : rv_el G h v) (hva : v ≠ a ∧ v ≠ ed) (hn : 1 ≤ n) (hm : 2 * es.length + 11 ≤ m) (hH : xH G F [(a, lO mc ed es.length), (ed, cR es.length f)] n m h) : rv_Call G d yJ2_add_2 wJ2_add_2 [.ref a, .ref v, .ref ed, .int (nI es.length)] h (xN (fun u h' => ∃ N, u = none ∧ xAL G a (es ++ [v]) N ∧ xS G F h [a, ed] N (n - 1) (m - (2 * es.length + 11)) h')) := by
  obtain ⟨j1, j2, j3⟩ := jgrow_lt hl.2
  have j3 := j3 hl.1
  have hlt : ∀ b c, h.1 b = some c → b < h.2.1 := fun b c e => (hH.2.2.2.1.2 b c e).2
  have key : rv_Call G (d - 1) yJ2_grow wJ2_grow [.ref a] h (xN (fun u h' => ∃ ed' f', u = some (.ref ed') ∧ lsf es f' ∧ (∀ i v, es.length ≤ i → f' i = some v → False) ∧ xS G F h [a, ed] [(a, lO mc ed' es.length), (ed', cR (jgrow es.length (es.length + 1)) f')] (n - 1) (m - jgrow es.length (es.length + 1)) h')) := by
    refine rv_startF hG (by decide +kernel) (L := [some (.ref a)]) rfl (Nat.le_of_ble_eq_true rfl) (fun X hX1 hX hE => ?_)
    subst hX1
    have hS := hH.start
    refine rv_aload_n hX dJ2_grow_0 rfl ?_
    refine rv_aload_n hX dJ2_grow_1 rfl ?_
    refine rv_getfR hX gJ2_48_J2 (hS.mc (k := 0) rfl) rfl dJ2_grow_2 ?_
    refine nv_iconst hX (m := 1) (by decide) dJ2_grow_5 ?_
    first | refine nv_iadd hX dJ2_grow_6 ?_ | refine rv_iadd hX dJ2_grow_6 ?_
    refine rv_invVR hX iJ2_69 mdJ2_grow_2 (hS.mc (k := 0) rfl) ⟨TJ2, 3, rv_c17⟩ (j_grow hG (d := d - 2) (by omega) (Nat.le_refl _) ⟨hl.1, by omega⟩ ⟨by omega, by omega⟩ hf hoa hel hn (by omega) (hS.cpre0 [] 1 rfl rfl rfl)) (by omega) rfl rfl (Nat.le_of_ble_eq_true rfl) dJ2_grow_7 (fun v h' hq => ?_) (fun E h' hq => by first | exact hq.elim | cases hq.2 | cases hq.1)
    obtain ⟨ed', f', hu, hf', hoa', hQ⟩ := hq
    have hS := hS.cpost0 [] 1 rfl rfl rfl hQ
    cases hu
    refine rv_areturn hX hE (Or.inr ⟨_, rfl⟩) (Or.inr ⟨_, rfl⟩) ?_ dJ2_grow_10
    exact ⟨ed', f', rfl, hf', hoa', hS⟩
  refine rv_startF hG (by decide +kernel) (L := [some (.ref a), some (.ref v), some (.ref ed), some (.int (nI es.length))]) rfl (Nat.le_of_ble_eq_true rfl) (fun X hX1 hX hE => ?_)
  subst hX1
  have hS := hH.start
  refine rv_iload_n hX dJ2_add_2_0 rfl ?_
  refine rv_aload_n hX dJ2_add_2_1 rfl ?_
  refine xv_alen hX (hS.mc (k := 1) rfl) dJ2_add_2_2 ?_
  refine nv_icmp_ne hX 11 (by omega) (by omega) dJ2_add_2_3 (by decide) (fun q => absurd rfl (by omega)) (fun c_3 => ?_)
  refine rv_aload_n hX dJ2_add_2_6 rfl ?_
  refine rv_invVR hX iJ2_129 mdJ2_grow (hS.mc (k := 0) rfl) ⟨TJ2, 3, rv_c17⟩ (key) (by omega) rfl rfl (Nat.le_of_ble_eq_true rfl) dJ2_add_2_7 (fun v h' hq => ?_) (fun E h' hq => by first | exact hq.elim | cases hq.2 | cases hq.1)
  obtain ⟨ed', f', hu, hf', hoa', hQ⟩ := hq
  have hS := hS.cpost0 [] 1 rfl rfl rfl hQ
  cases hu
  refine rv_astore_n hX dJ2_add_2_10 (rv_st_2 rfl) ?_
  refine rv_aload_n hX dJ2_add_2_11 rfl ?_
  refine rv_iload_n hX dJ2_add_2_12 rfl ?_
  refine rv_aload_n hX dJ2_add_2_13 rfl ?_
  refine xv_aast hX hS (k := 1) rfl (hv.keep (hS.kp hlt (show _ ∉ [a, ed] from by simp [hva.1, hva.2]))) (by omega) (by omega) dJ2_add_2_14 (fun h_14 hS => ?_)
  refine rv_aload_n hX dJ2_add_2_15 rfl ?_
  refine rv_iload_n hX dJ2_add_2_16 rfl ?_
  refine nv_iconst hX (m := 1) (by decide) dJ2_add_2_17 ?_
  first | refine nv_iadd hX dJ2_add_2_18 ?_ | refine rv_iadd hX dJ2_add_2_18 ?_
  refine xv_putf hX hS (k := 0) rfl pJ2_48_J2 (fun q => by cases q) rfl rfl rfl dJ2_add_2_19 (fun h_19 hS => ?_)
  refine rv_return hX hE ?_ dJ2_add_2_22
  refine ⟨[(a, lO mc ed' (es ++ [v]).length), (ed', cR (jgrow es.length (es.length + 1)) (va_up f' es.length (some v)))], rfl, ⟨mc, ed', Or.inl ⟨_, va_up f' es.length (some v), rfl, ⟨by omega, j3⟩, ?_, ?_, ?_⟩⟩, ?_⟩
  · rw [List.length_append]; exact j1
  · exact hf'.snoc v
  · intro i w hi hw
    rw [List.length_append] at hi
    unfold va_up at hw
    rw [if_neg (show ¬ i = es.length by simp at hi; omega)] at hw
    exact hoa' i w (by simp at hi; omega) hw
  · have e : (es ++ [v]).length = es.length + 1 := by simp
    rw [e]
    exact hS.bud (by omega) (by omega)
/-- added to one that is empty and has no array -/
theorem j_add20 {G : rv_G} (hG : rv_GK G) {d a ed v n m : Nat} (hd : 5 ≤ d) {F : xF} {mc : Int32} {h : rv_H} (hz : va_Z "java/util/ArrayList" "DEFAULTCAPACITY_EMPTY_ELEMENTDATA" "[Ljava/lang/Object;" (.ref ed) (fun q => rv_b G ≤ q) G.2.1 G.2.1.heap) (ho : rv_old G ed (cR 0 (fun _ => none))) (hv : rv_el G h v) (hva : v ≠ a) (hn : 1 ≤ n) (hm : 11 ≤ m) (hH : xH G F [(a, lO mc ed 0)] n m h) : rv_Call G d yJ2_add_2 wJ2_add_2 [.ref a, .ref v, .ref ed, .int (nI 0)] h (xN (fun u h' => ∃ N, u = none ∧ xAL G a [v] N ∧ xS G F h [a] N (n - 1) (m - 11) h')) := by
  have hlt : ∀ b c, h.1 b = some c → b < h.2.1 := fun b c e => (hH.2.2.2.1.2 b c e).2
  have hmx : Nat.max 10 1 = 10 := rfl
  have key : rv_Call G (d - 1) yJ2_grow wJ2_grow [.ref a] h (xN (fun u h' => ∃ ed', u = some (.ref ed') ∧ xS G F h [a] [(a, lO mc ed' 0), (ed', cR 10 (fun _ => none))] (n - 1) (m - 10) h')) := by
    refine rv_startF hG (by decide +kernel) (L := [some (.ref a)]) rfl (Nat.le_of_ble_eq_true rfl) (fun X hX1 hX hE => ?_)
    subst hX1
    have hS := hH.start
    refine rv_aload_n hX dJ2_grow_0 rfl ?_
    refine rv_aload_n hX dJ2_grow_1 rfl ?_
    refine rv_getfR hX gJ2_48_J2 (hS.mc (k := 0) rfl) rfl dJ2_grow_2 ?_
    refine nv_iconst hX (m := 1) (by decide) dJ2_grow_5 ?_
    first | refine nv_iadd hX dJ2_grow_6 ?_ | refine rv_iadd hX dJ2_grow_6 ?_
    rw [Nat.zero_add]
    refine rv_invVR hX iJ2_69 mdJ2_grow_2 (hS.mc (k := 0) rfl) ⟨TJ2, 3, rv_c17⟩ (j_grow0 hG (d := d - 2) (by omega) hz ho (by omega) hn (by rw [hmx]; omega) (hS.cpre0 [] 1 rfl rfl rfl)) (by omega) rfl rfl (Nat.le_of_ble_eq_true rfl) dJ2_grow_7 (fun v h' hq => ?_) (fun E h' hq => by first | exact hq.elim | cases hq.2 | cases hq.1)
    obtain ⟨ed', hu, hQ⟩ := hq
    have hS := hS.cpost0 [] 1 rfl rfl rfl hQ
    cases hu
    refine rv_areturn hX hE (Or.inr ⟨_, rfl⟩) (Or.inr ⟨_, rfl⟩) ?_ dJ2_grow_10
    exact ⟨ed', rfl, hS⟩
  refine rv_startF hG (by decide +kernel) (L := [some (.ref a), some (.ref v), some (.ref ed), some (.int (nI 0))]) rfl (Nat.le_of_ble_eq_true rfl) (fun X hX1 hX hE => ?_)
  subst hX1
  have hS := hH.start
  have ho2 : rv_rd X.1 h ed (cR 0 (fun _ => none)) := Or.inr ho
  refine rv_iload_n hX dJ2_add_2_0 rfl ?_
  refine rv_aload_n hX dJ2_add_2_1 rfl ?_
  refine xv_alen hX ho2 dJ2_add_2_2 ?_
  refine rv_icmp_ne hX 11 dJ2_add_2_3 (by decide) (fun q => absurd rfl q) (fun c_3 => ?_)
  refine rv_aload_n hX dJ2_add_2_6 rfl ?_
  refine rv_invVR hX iJ2_129 mdJ2_grow (hS.mc (k := 0) rfl) ⟨TJ2, 3, rv_c17⟩ (key) (by omega) rfl rfl (Nat.le_of_ble_eq_true rfl) dJ2_add_2_7 (fun v h' hq => ?_) (fun E h' hq => by first | exact hq.elim | cases hq.2 | cases hq.1)
  obtain ⟨ed', hu, hQ⟩ := hq
  have hS := hS.cpost0 [] 1 rfl rfl rfl hQ
  cases hu
  refine rv_astore_n hX dJ2_add_2_10 (rv_st_2 rfl) ?_
  refine rv_aload_n hX dJ2_add_2_11 rfl ?_
  refine rv_iload_n hX dJ2_add_2_12 rfl ?_
  refine rv_aload_n hX dJ2_add_2_13 rfl ?_
  refine xv_aast hX hS (k := 1) rfl (hv.keep (hS.kp hlt (show _ ∉ [a] from by simp [hva]))) (by omega) (by omega) dJ2_add_2_14 (fun h_14 hS => ?_)
  refine rv_aload_n hX dJ2_add_2_15 rfl ?_
  refine rv_iload_n hX dJ2_add_2_16 rfl ?_
  refine nv_iconst hX (m := 1) (by decide) dJ2_add_2_17 ?_
  first | refine nv_iadd hX dJ2_add_2_18 ?_ | refine rv_iadd hX dJ2_add_2_18 ?_
  refine xv_putf hX hS (k := 0) rfl pJ2_48_J2 (fun q => by cases q) rfl rfl rfl dJ2_add_2_19 (fun h_19 hS => ?_)
  refine rv_return hX hE ?_ dJ2_add_2_22
  refine ⟨_, rfl, ⟨_, ed', Or.inl ⟨_, _, rfl, ⟨by decide, by decide⟩, by simp, ?_, ?_⟩⟩, hS.bud (by omega) (by omega)⟩
  · intro i e he
    cases i with
    | zero => simp at he; subst he; rfl
    | succ i => simp at he
  · intro i w hi hw
    unfold va_up at hw
    rw [if_neg (show ¬ i = 0 by simp at hi; omega)] at hw
    cases hw
/-- add, however the list stands -/
theorem j_addG {G : rv_G} (hG : rv_GK G) {d a v n m : Nat} (hd : 6 ≤ d) {F : xF} {es : List Nat} {N : xM} {h : rv_H} (ha : xAL G a es N) (hl : es.length < 5000) (hel : xlel G h es) (hv : rv_el G h v) (hva : v ∉ xad N) (hea : ∀ e, e ∈ es → e ∉ xad N) (hn : 1 ≤ n) (hm : 2 * es.length + 11 ≤ m) (hH : xH G F N n m h) : rv_Call G d yJ2_add wJ2_add [.ref a, .ref v] h (xN (fun u h' => ∃ N', u = some (.int (nI 1)) ∧ xAL G a (es ++ [v]) N' ∧ xS G F h (xad N) N' (n - 1) (m - (2 * es.length + 11)) h')) := by
  obtain ⟨mc, ed, ⟨cap, f, rfl, hc, hlc, hf, hoa⟩ | ⟨rfl, rfl, ho, hz⟩⟩ := ha
  · have hva1 : v ≠ a ∧ v ≠ ed := ⟨fun e => hva (by rw [e]; exact List.mem_cons_self), fun e => hva (by rw [e]; exact List.mem_cons_of_mem _ List.mem_cons_self)⟩
    have hlt : ∀ b c, h.1 b = some c → b < h.2.1 := fun b c e => (hH.2.2.2.1.2 b c e).2
    by_cases hroom : es.length < cap
    · refine (j_addn hG (by omega) (hH.mg (k := 0) rfl) (hH.mg (k := 1) rfl) hroom (by omega) hv hva1.1).mono (fun o h' hq => ?_)
      obtain ⟨rfl, rfl⟩ := hq
      have hS := hH.start
      have hS2 := ((hS.put (k := 0) (c1 := lO (mc + 1) ed es.length) rfl trivial).put (k := 1) (c1 := cR cap (va_up f es.length (some v))) rfl (show 4 < 6 by decide)).put (k := 0) (c1 := lO (mc + 1) ed (es.length + 1)) rfl trivial
      refine ⟨_, rfl, ⟨mc + 1, ed, Or.inl ⟨cap, _, rfl, hc, by rw [List.length_append]; exact hroom, hf.snoc v, fun i w hi hw => ?_⟩⟩, ?_⟩
      · rw [List.length_append] at hi
        unfold va_up at hw
        rw [if_neg (show ¬ i = es.length by simp at hi; omega)] at hw
        exact hoa i w (by simp at hi; omega) hw
      · have e : (es ++ [v]).length = es.length + 1 := by simp
        rw [e]
        exact hS2.bud (by omega) (by omega)
    · have e : cap = es.length := by omega
      subst e
      refine rv_startF hG (by decide +kernel) (L := [some (.ref a), some (.ref v)]) rfl (Nat.le_of_ble_eq_true rfl) (fun X hX1 hX hE => ?_)
      subst hX1
      have hS := hH.start
      have hl0 : 0 < es.length := hc.1
      refine rv_aload_n hX dJ2_add_0 rfl ?_
      refine rv_dup hX dJ2_add_1 rfl ?_
      refine rv_getfR hX gJ2_63_J2 (hS.mc (k := 0) rfl) rfl dJ2_add_2 ?_
      refine nv_iconst hX (m := 1) (by decide) dJ2_add_5 ?_
      first | refine nv_iadd hX dJ2_add_6 ?_ | refine rv_iadd hX dJ2_add_6 ?_
      refine xv_putf hX hS (k := 0) rfl pJ2_63_J2 (fun q => by cases q) rfl rfl rfl dJ2_add_7 (fun h_7 hS => ?_)
      refine rv_aload_n hX dJ2_add_10 rfl ?_
      refine rv_aload_n hX dJ2_add_11 rfl ?_
      refine rv_aload_n hX dJ2_add_12 rfl ?_
      refine rv_getfR hX gJ2_9_J2 (hS.mc (k := 0) rfl) rfl dJ2_add_13 ?_
      refine rv_aload_n hX dJ2_add_16 rfl ?_
      refine rv_getfR hX gJ2_48_J2 (hS.mc (k := 0) rfl) rfl dJ2_add_17 ?_
      refine rv_invVR hX iJ2_131 mdJ2_add_2 (hS.mc (k := 0) rfl) ⟨TJ2, 3, rv_c17⟩ (j_add2F hG (d := d - 1) (by omega) ⟨hl0, hl⟩ hf hoa (fun i e he => (hel i e he).keep (hS.kp hlt (hea e (List.mem_of_getElem? he)))) (hv.keep (hS.kp hlt hva)) hva1 hn hm (hS.cpre0 [] 1 rfl rfl rfl)) (by omega) rfl rfl (Nat.le_of_ble_eq_true rfl) dJ2_add_20 (fun v h' hq => ?_) (fun E h' hq => by first | exact hq.elim | cases hq.2 | cases hq.1)
      obtain ⟨N', hu, hal, hQ⟩ := hq
      have hS := hS.cpost0 [] 1 rfl rfl rfl hQ
      cases hu
      refine nv_iconst hX (m := 1) (by decide) dJ2_add_23 ?_
      refine rv_ireturn hX hE rfl ?_ dJ2_add_24
      exact ⟨N', rfl, hal, hS⟩
  · have hva1 : v ≠ a := fun e => hva (by rw [e]; exact List.mem_cons_self)
    have hlt : ∀ b c, h.1 b = some c → b < h.2.1 := fun b c e => (hH.2.2.2.1.2 b c e).2
    refine rv_startF hG (by decide +kernel) (L := [some (.ref a), some (.ref v)]) rfl (Nat.le_of_ble_eq_true rfl) (fun X hX1 hX hE => ?_)
    subst hX1
    have hS := hH.start
    refine rv_aload_n hX dJ2_add_0 rfl ?_
    refine rv_dup hX dJ2_add_1 rfl ?_
    refine rv_getfR hX gJ2_63_J2 (hS.mc (k := 0) rfl) rfl dJ2_add_2 ?_
    refine nv_iconst hX (m := 1) (by decide) dJ2_add_5 ?_
    first | refine nv_iadd hX dJ2_add_6 ?_ | refine rv_iadd hX dJ2_add_6 ?_
    refine xv_putf hX hS (k := 0) rfl pJ2_63_J2 (fun q => by cases q) rfl rfl rfl dJ2_add_7 (fun h_7 hS => ?_)
    refine rv_aload_n hX dJ2_add_10 rfl ?_
    refine rv_aload_n hX dJ2_add_11 rfl ?_
    refine rv_aload_n hX dJ2_add_12 rfl ?_
    refine rv_getfR hX gJ2_9_J2 (hS.mc (k := 0) rfl) rfl dJ2_add_13 ?_
    refine rv_aload_n hX dJ2_add_16 rfl ?_
    refine rv_getfR hX gJ2_48_J2 (hS.mc (k := 0) rfl) rfl dJ2_add_17 ?_
    refine rv_invVR hX iJ2_131 mdJ2_add_2 (hS.mc (k := 0) rfl) ⟨TJ2, 3, rv_c17⟩ (j_add20 hG (d := d - 1) (by omega) hz ho (hv.keep (hS.kp hlt hva)) hva1 hn (by simp at hm; omega) (hS.cpre0 [] 1 rfl rfl rfl)) (by omega) rfl rfl (Nat.le_of_ble_eq_true rfl) dJ2_add_20 (fun v h' hq => ?_) (fun E h' hq => by first | exact hq.elim | cases hq.2 | cases hq.1)
    obtain ⟨N', hu, hal, hQ⟩ := hq
    have hS := hS.cpost0 [] 1 rfl rfl rfl hQ
    cases hu
    refine nv_iconst hX (m := 1) (by decide) dJ2_add_23 ?_
    refine rv_ireturn hX hE rfl ?_ dJ2_add_24
    exact ⟨N', rfl, hal, hS.bud (Nat.le_refl _) (by simp)⟩
theorem lsf.er {es : List Nat} {f : Nat → Option Nat} (h : lsf es f) (hoa : ∀ i v, es.length ≤ i → f i = some v → False) {k : Nat} (hk : k < es.length) : lsf (es.eraseIdx k) (va_up (va_cpy f f (k + 1) k (es.length - 1 - k)) (es.length - 1) none) ∧ ∀ i v, es.length - 1 ≤ i → va_up (va_cpy f f (k + 1) k (es.length - 1 - k)) (es.length - 1) none i = some v → False := by
  constructor
  · intro i e he
    rw [List.getElem?_eraseIdx] at he
    unfold va_up va_cpy
    split at he
    · rename_i hi
      have := (List.getElem?_eq_some_iff.mp he).1
      rw [if_neg (by omega), if_neg (by omega)]
      exact h i e he
    · rename_i hi
      have := (List.getElem?_eq_some_iff.mp he).1
      rw [if_neg (by omega), if_pos ⟨by omega, by omega⟩, show k + 1 + (i - k) = i + 1 by omega]
      exact h _ e he
  · intro i v hi hv
    unfold va_up va_cpy at hv
    split at hv
    · cases hv
    · rw [if_neg (by omega)] at hv
      exact hoa i v (by omega) hv
theorem j_fastRemove {G : rv_G} (hG : rv_GK G) {d a ed cap k n m : Nat} (hd : 1 ≤ d) {F : xF} {mc : Int32} {es : List Nat} {f : Nat → Option Nat} {h : rv_H} (hc : cap < 10000) (hl : es.length ≤ cap) (hf : lsf es f) (hoa : ∀ i v, es.length ≤ i → f i = some v → False) (hk : k < es.length) (hel : xlel G h es) (hea : ∀ e, e ∈ es → e ∉ [a, ed]) (hH : xH G F [(a, lO mc ed es.length), (ed, cR cap f)] n m h) : rv_Call G d yJ2_fastRemove wJ2_fastRemove [.ref a, .ref ed, .int (nI k)] h (xN (fun u h' => ∃ f', u = none ∧ lsf (es.eraseIdx k) f' ∧ (∀ i v, es.length - 1 ≤ i → f' i = some v → False) ∧ xS G F h [a, ed] [(a, lO (mc + nI 1) ed (es.length - 1)), (ed, cR cap f')] n m h')) := by
  have hlt : ∀ b c, h.1 b = some c → b < h.2.1 := fun b c e => (hH.2.2.2.1.2 b c e).2
  have her := hf.er hoa hk
  have hz : es.length - 1 - k = 0 → va_cpy f f (k + 1) k (es.length - 1 - k) = f := fun e => by
    funext i
    unfold va_cpy
    rw [e, if_neg (by omega)]
  refine rv_startF hG (by decide +kernel) (L := [some (.ref a), some (.ref ed), some (.int (nI k)), none]) rfl (Nat.le_of_ble_eq_true rfl) (fun X hX1 hX hE => ?_)
  subst hX1
  have hS := hH.start
  refine rv_aload_n hX dJ2_fastRemove_0 rfl ?_
  refine rv_dup hX dJ2_fastRemove_1 rfl ?_
  refine rv_getfR hX gJ2_63_J2 (hS.mc (k := 0) rfl) rfl dJ2_fastRemove_2 ?_
  refine nv_iconst hX (m := 1) (by decide) dJ2_fastRemove_5 ?_
  first | refine nv_iadd hX dJ2_fastRemove_6 ?_ | refine rv_iadd hX dJ2_fastRemove_6 ?_
  refine xv_putf hX hS (k := 0) rfl pJ2_63_J2 (fun q => by cases q) rfl rfl rfl dJ2_fastRemove_7 (fun h_7 hS => ?_)
  refine rv_aload_n hX dJ2_fastRemove_10 rfl ?_
  refine rv_getfR hX gJ2_48_J2 (hS.mc (k := 0) rfl) rfl dJ2_fastRemove_11 ?_
  refine nv_iconst hX (m := 1) (by decide) dJ2_fastRemove_14 ?_
  first | refine nv_isub hX (by omega) dJ2_fastRemove_15 ?_ | refine rv_isub hX dJ2_fastRemove_15 ?_
  refine rv_dup hX dJ2_fastRemove_16 rfl ?_
  refine rv_istore_n hX dJ2_fastRemove_17 (rv_st_3 rfl) ?_
  refine rv_iload_n hX dJ2_fastRemove_18 rfl ?_
  first | refine nv_icmp_le hX 34 (by omega) (by omega) dJ2_fastRemove_19 (by decide) (fun c_19 => ?_) (fun c_19 => ?_) | refine rv_icmp_le hX 34 dJ2_fastRemove_19 (by decide) (fun c_19 => ?_) (fun c_19 => ?_)
  · skip
    refine rv_aload_n hX dJ2_fastRemove_34 rfl ?_
    refine rv_aload_n hX dJ2_fastRemove_35 rfl ?_
    refine rv_iload_n hX dJ2_fastRemove_36 rfl ?_
    refine rv_dup_x1 hX dJ2_fastRemove_37 rfl rfl ?_
    refine xv_putf hX hS (k := 0) rfl pJ2_48_J2 (fun q => by cases q) rfl rfl rfl dJ2_fastRemove_38 (fun h_38 hS => ?_)
    refine rv_null hX dJ2_fastRemove_41 ?_
    refine xv_aastN hX hS (k := 1) rfl (by omega) (by omega) dJ2_fastRemove_42 (fun h_42 hS => ?_)
    refine rv_return hX hE ?_ dJ2_fastRemove_43
    first
    | exact ⟨_, rfl, her.1, her.2, hS⟩
    | (rw [hz (by omega)] at her; exact ⟨_, rfl, her.1, her.2, hS⟩)
  · skip
    refine rv_aload_n hX dJ2_fastRemove_22 rfl ?_
    refine rv_iload_n hX dJ2_fastRemove_23 rfl ?_
    refine nv_iconst hX (m := 1) (by decide) dJ2_fastRemove_24 ?_
    first | refine nv_iadd hX dJ2_fastRemove_25 ?_ | refine rv_iadd hX dJ2_fastRemove_25 ?_
    refine rv_aload_n hX dJ2_fastRemove_26 rfl ?_
    refine rv_iload_n hX dJ2_fastRemove_27 rfl ?_
    refine rv_iload_n hX dJ2_fastRemove_28 rfl ?_
    refine rv_iload_n hX dJ2_fastRemove_29 rfl ?_
    first | refine nv_isub hX (by omega) dJ2_fastRemove_30 ?_ | refine rv_isub hX dJ2_fastRemove_30 ?_
    refine xv_acpQ hX hS (k := 1) (sp := k + 1) (dp := k) (z := es.length - 1 - k) q1151 (hS.mc (k := 1) rfl) rfl (by omega) (by omega) ⟨by omega, by omega⟩ (fun i hi v hv => ?_) (by omega) (Nat.le_of_ble_eq_true rfl) dJ2_fastRemove_31 (fun h_31 hS => ?_)
    · have hi2 : k + 1 + i < es.length := by omega
      have e := hf _ _ (List.getElem?_eq_getElem hi2)
      rw [hv] at e
      cases e
      exact (hel _ _ (List.getElem?_eq_getElem hi2)).keep (hS.kp hlt (hea _ (List.getElem_mem hi2)))
    refine rv_aload_n hX dJ2_fastRemove_34 rfl ?_
    refine rv_aload_n hX dJ2_fastRemove_35 rfl ?_
    refine rv_iload_n hX dJ2_fastRemove_36 rfl ?_
    refine rv_dup_x1 hX dJ2_fastRemove_37 rfl rfl ?_
    refine xv_putf hX hS (k := 0) rfl pJ2_48_J2 (fun q => by cases q) rfl rfl rfl dJ2_fastRemove_38 (fun h_38 hS => ?_)
    refine rv_null hX dJ2_fastRemove_41 ?_
    refine xv_aastN hX hS (k := 1) rfl (by omega) (by omega) dJ2_fastRemove_42 (fun h_42 hS => ?_)
    refine rv_return hX hE ?_ dJ2_fastRemove_43
    first
    | exact ⟨_, rfl, her.1, her.2, hS⟩
    | (rw [hz (by omega)] at her; exact ⟨_, rfl, her.1, her.2, hS⟩)
theorem j_remove {G : rv_G} (hG : rv_GK G) {d a ed cap k e n m : Nat} (hd : 2 ≤ d) {F : xF} {mc : Int32} {es : List Nat} {f : Nat → Option Nat} {h : rv_H} (hc : cap < 10000) (hl : es.length ≤ cap) (hf : lsf es f) (hoa : ∀ i v, es.length ≤ i → f i = some v → False) (hk : es[k]? = some e) (hel : xlel G h es) (hea : ∀ e, e ∈ es → e ∉ [a, ed]) (hH : xH G F [(a, lO mc ed es.length), (ed, cR cap f)] n m h) : rv_Call G d yJ2_remove wJ2_remove [.ref a, .int (nI k)] h (xN (fun u h' => ∃ f', u = some (.ref e) ∧ lsf (es.eraseIdx k) f' ∧ (∀ i v, es.length - 1 ≤ i → f' i = some v → False) ∧ xS G F h [a, ed] [(a, lO (mc + nI 1) ed (es.length - 1)), (ed, cR cap f')] n m h')) := by
  have hkl := (List.getElem?_eq_some_iff.mp hk).1
  refine rv_startF hG (by decide +kernel) (L := [some (.ref a), some (.int (nI k)), none, none]) rfl (Nat.le_of_ble_eq_true rfl) (fun X hX1 hX hE => ?_)
  subst hX1
  have hS := hH.start
  refine rv_iload_n hX dJ2_remove_0 rfl ?_
  refine rv_aload_n hX dJ2_remove_1 rfl ?_
  refine rv_getfR hX gJ2_48_J2 (hS.mc (k := 0) rfl) rfl dJ2_remove_2 ?_
  refine rv_invS hX iJ2_118 mdJ21_checkIndex (j_check hG (d := d - 1) (by omega) hkl (by omega)) (by omega) rfl rfl (Nat.le_of_ble_eq_true rfl) dJ2_remove_5 (fun v h' hq => ?_) (fun E h' hq => by first | exact hq.elim | cases hq.2 | cases hq.1)
  obtain ⟨rfl, hq⟩ := hq
  cases hq
  refine rv_pop hX dJ2_remove_8 rfl ?_
  refine rv_aload_n hX dJ2_remove_9 rfl ?_
  refine rv_getfR hX gJ2_9_J2 (hS.mc (k := 0) rfl) rfl dJ2_remove_10 ?_
  refine rv_astore_n hX dJ2_remove_13 (rv_st_2 rfl) ?_
  refine rv_aload_n hX dJ2_remove_14 rfl ?_
  refine rv_iload_n hX dJ2_remove_15 rfl ?_
  refine xv_aald hX (k := 4) rfl (hS.mc (k := 1) rfl) (by omega) (by omega) dJ2_remove_16 ?_
  rw [hf k e hk]
  show rv_V X _ _ _ (.ref e :: _)
  refine rv_astore_n hX dJ2_remove_17 (rv_st_3 rfl) ?_
  refine rv_aload_n hX dJ2_remove_18 rfl ?_
  refine rv_aload_n hX dJ2_remove_19 rfl ?_
  refine rv_iload_n hX dJ2_remove_20 rfl ?_
  refine rv_invVR hX iJ2_144 mdJ2_fastRemove (hS.mc (k := 0) rfl) ⟨TJ2, 3, rv_c17⟩ (j_fastRemove hG (d := d - 1) (by omega) hc hl hf hoa hkl hel hea (hS.cpre0 [] 1 rfl rfl rfl)) (by omega) rfl rfl (Nat.le_of_ble_eq_true rfl) dJ2_remove_21 (fun v h' hq => ?_) (fun E h' hq => by first | exact hq.elim | cases hq.2 | cases hq.1)
  obtain ⟨f', hu, hf', hoa', hQ⟩ := hq
  have hS := hS.cpost0 [] 1 rfl rfl rfl hQ
  cases hu
  refine rv_aload_n hX dJ2_remove_24 rfl ?_
  refine rv_areturn hX hE (Or.inl ⟨_, rfl⟩) (Or.inr ⟨_, rfl⟩) ?_ dJ2_remove_25
  exact ⟨f', rfl, hf', hoa', hS⟩
theorem lsf.st {es : List Nat} {f : Nat → Option Nat} (h : lsf es f) {k v : Nat} : lsf (es.set k v) (va_up f k (some v)) := fun i e he => by
  rw [List.getElem?_set] at he
  unfold va_up
  by_cases hi : k = i
  · rw [if_pos hi] at he
    rw [if_pos hi.symm]
    split at he
    · exact he
    · cases he
  · rw [if_neg hi] at he
    rw [if_neg (fun q => hi q.symm)]
    exact h i e he
theorem j_set {G : rv_G} (hG : rv_GK G) {d a ed cap k e v n m : Nat} (hd : 2 ≤ d) {F : xF} {mc : Int32} {es : List Nat} {f : Nat → Option Nat} {h : rv_H} (hc : cap < 10000) (hl : es.length ≤ cap) (hf : lsf es f) (hoa : ∀ i v, es.length ≤ i → f i = some v → False) (hk : es[k]? = some e) (hv : rv_el G h v) (hcr : xoa G ed) (hH : xH G F [(a, lO mc ed es.length), (ed, cR cap f)] n m h) : rv_Call G d yJ2_set wJ2_set [.ref a, .int (nI k), .ref v] h (xN (fun u h' => ∃ f', u = some (.ref e) ∧ lsf (es.set k v) f' ∧ (∀ i v, es.length ≤ i → f' i = some v → False) ∧ xS G F h [a, ed] [(a, lO mc ed es.length), (ed, cR cap f')] n m h')) := by
  have hkl := (List.getElem?_eq_some_iff.mp hk).1
  refine rv_startF hG (by decide +kernel) (L := [some (.ref a), some (.int (nI k)), some (.ref v), none]) rfl (Nat.le_of_ble_eq_true rfl) (fun X hX1 hX hE => ?_)
  subst hX1
  have hS := hH.start
  have hL : xL X.1 h a es := ⟨mc, ed, cap, f, hS.mc (k := 0) rfl, hS.mc (k := 1) rfl, hl, by omega, hf⟩
  refine rv_iload_n hX dJ2_set_0 rfl ?_
  refine rv_aload_n hX dJ2_set_1 rfl ?_
  refine rv_getfR hX gJ2_48_J2 (hS.mc (k := 0) rfl) rfl dJ2_set_2 ?_
  refine rv_invS hX iJ2_118 mdJ21_checkIndex (j_check hG (d := d - 1) (by omega) hkl (by omega)) (by omega) rfl rfl (Nat.le_of_ble_eq_true rfl) dJ2_set_5 (fun v h' hq => ?_) (fun E h' hq => by first | exact hq.elim | cases hq.2 | cases hq.1)
  obtain ⟨rfl, hq⟩ := hq
  cases hq
  refine rv_pop hX dJ2_set_8 rfl ?_
  refine rv_aload_n hX dJ2_set_9 rfl ?_
  refine rv_iload_n hX dJ2_set_10 rfl ?_
  refine rv_invVR hX iJ2_123 mdJ2_elementData (hS.mc (k := 0) rfl) ⟨TJ2, 3, rv_c17⟩ (j_elementData hG (d := d - 1) hL hk) (by omega) rfl rfl (Nat.le_of_ble_eq_true rfl) dJ2_set_11 (fun v h' hq => ?_) (fun E h' hq => by first | exact hq.elim | cases hq.2 | cases hq.1)
  obtain ⟨rfl, hq⟩ := hq
  cases hq
  refine rv_astore_n hX dJ2_set_14 (rv_st_3 rfl) ?_
  refine rv_aload_n hX dJ2_set_15 rfl ?_
  refine rv_getfR hX gJ2_9_J2 (hS.mc (k := 0) rfl) rfl dJ2_set_16 ?_
  refine rv_iload_n hX dJ2_set_19 rfl ?_
  refine rv_aload_n hX dJ2_set_20 rfl ?_
  refine xv_aast hX hS (k := 1) rfl hv (by omega) (by omega) dJ2_set_21 (fun h_21 hS => ?_)
  refine rv_aload_n hX dJ2_set_22 rfl ?_
  refine rv_areturn hX hE (Or.inl ⟨_, rfl⟩) (Or.inr ⟨_, rfl⟩) ?_ dJ2_set_23
  refine ⟨_, rfl, hf.st, fun i w hi hw => ?_, hS⟩
  unfold va_up at hw
  rw [if_neg (by omega)] at hw
  exact hoa i w hi hw
/-- equals, as Object has it -/
theorem j_equals {G : rv_G} (hG : rv_GK G) {d a b : Nat} {h : rv_H} : rv_Call G d yJ22_equals wJ22_equals [.ref a, .ref b] h (xN (fun u h' => h' = h ∧ u = some (.int (rv_z (decide (a = b)))))) := by
  refine rv_startF hG (by decide +kernel) (L := [some (.ref a), some (.ref b)]) rfl (Nat.le_of_ble_eq_true rfl) (fun X hX1 hX hE => ?_)
  subst hX1
  refine rv_aload_n hX dJ22_equals_0 rfl ?_
  refine rv_aload_n hX dJ22_equals_1 rfl ?_
  refine rv_acmp_ne hX 9 (rx := some a) (ry := some b) dJ22_equals_2 (by decide) (fun q => ?_) (fun q => ?_)
  · skip
    refine nv_iconst hX (m := 0) (by decide) dJ22_equals_9 ?_
    refine rv_ireturn hX hE rfl ?_ dJ22_equals_10
    refine ⟨rfl, ?_⟩
    rw [decide_eq_false (fun e => q (by rw [e]))]
    rfl
  · skip
    refine nv_iconst hX (m := 1) (by decide) dJ22_equals_5 ?_
    refine rv_goto hX 10 dJ22_equals_6 (by decide) ?_
    refine rv_ireturn hX hE rfl ?_ dJ22_equals_10
    refine ⟨rfl, ?_⟩
    rw [decide_eq_true (Option.some.inj q)]
    rfl
theorem jl_equals : rv_lu "java/util/ArrayList" 93 ⟨"java/lang/Object", "equals", "(Ljava/lang/Object;)Z"⟩ "java/lang/Object" := ⟨q790, q792, q789, by decide⟩
