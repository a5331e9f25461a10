/-! THE REFERENCE: its constructor (rows printed by tools/gen_ctor.py) -/
set_option maxRecDepth 100000
def mc_f (o j k : Nat) : Value := if rv_ap k = 0 then .int 0 else if rv_ap k ≤ j then .ref (o + rv_ap k) else .null
def mc_fs (o j : Nat) : List Value := (List.range 56).map (mc_f o j)
def rv_σ0 : rv_S := (fun _ => 0, fun _ _ => 0, fun _ _ => 0)
/-- the heap while the reference is made: the object at o, j arrays behind it -/
def rv_mp (hb : rv_H) (o j s : Nat) : rv_H := (fun a => if o ≤ a ∧ a ≤ o + j then some (if a = o then .inr (3, mc_fs o j) else rv_mc o rv_σ0 (a - o)) else hb.1 a, o + j + 1, s)
theorem mc_fs_get (o j : Nat) {k : Nat} (h : k < 56) : (mc_fs o j)[k]? = some (mc_f o j k) := by
  unfold mc_fs
  rw [List.getElem?_map, List.getElem?_range h]
  rfl
theorem mc_fs_set {o j k : Nat} (hk : k < 56) (h1 : rv_ap k = j + 1) (hi : ∀ k', k' < 56 → rv_ap k' = j + 1 → k' = k) : (mc_fs o j).set k (.ref (o + j + 1)) = mc_fs o (j + 1) := by
  have hl : ∀ j, (mc_fs o j).length = 56 := fun j => by unfold mc_fs; rw [List.length_map, List.length_range]
  apply List.ext_getElem?
  intro i
  by_cases q : i < 56
  · rw [mc_fs_get o (j + 1) q]
    by_cases e : i = k
    · subst e
      rw [List.getElem?_set_self (by rw [hl]; exact q)]
      unfold mc_f
      rw [if_neg (by omega), if_pos (by omega), h1, Nat.add_assoc]
    · rw [List.getElem?_set_ne (fun a => e a.symm), mc_fs_get o j q]
      unfold mc_f
      have : rv_ap i ≠ j + 1 := fun a => e (hi i q a)
      by_cases z : rv_ap i = 0
      · rw [if_pos z, if_pos z]
      · rw [if_neg z, if_neg z]
        by_cases y : rv_ap i ≤ j
        · rw [if_pos y, if_pos (by omega)]
        · rw [if_neg y, if_neg (by omega)]
  · rw [List.getElem?_eq_none (by rw [List.length_set, hl]; omega), List.getElem?_eq_none (by rw [hl]; omega)]
theorem rv_mp_step {hb : rv_H} {o j s k n : Nat} (hk : k < 56) (h1 : rv_ap k = j + 1) (hi : ∀ k', k' < 56 → rv_ap k' = j + 1 → k' = k) : rv_put (rv_add (rv_mp hb o j s) (rv_mc o rv_σ0 (j + 1)) n) o (.inr (3, (mc_fs o j).set k (.ref (o + j + 1)))) = rv_mp hb o (j + 1) (s + n) := by
  rw [mc_fs_set hk h1 hi]
  refine Prod.ext (funext fun a => ?_) rfl
  show (if a = o then some _ else if a = o + j + 1 then some (rv_mc o rv_σ0 (j + 1)) else if o ≤ a ∧ a ≤ o + j then some (if a = o then .inr (3, mc_fs o j) else rv_mc o rv_σ0 (a - o)) else hb.1 a) = if o ≤ a ∧ a ≤ o + (j + 1) then some (if a = o then .inr (3, mc_fs o (j + 1)) else rv_mc o rv_σ0 (a - o)) else hb.1 a
  by_cases e : a = o
  · rw [if_pos e, if_pos ⟨by omega, by omega⟩, if_pos e]
  · rw [if_neg e]
    by_cases e2 : a = o + j + 1
    · rw [if_pos e2, if_pos ⟨by omega, by omega⟩, if_neg e, show a - o = j + 1 by omega]
    · rw [if_neg e2]
      by_cases e3 : o ≤ a ∧ a ≤ o + j
      · rw [if_pos e3, if_neg e, if_pos ⟨e3.1, by omega⟩, if_neg e]
      · rw [if_neg e3, if_neg (fun q => e3 ⟨q.1, by omega⟩)]
theorem rv_mp_end {hb : rv_H} {o s : Nat} : rv_mp hb o 40 s = rv_mh (hb.1, o + 41, s) o rv_σ0 := by
  refine Prod.ext (funext fun a => ?_) rfl
  show (if o ≤ a ∧ a ≤ o + 40 then some (if a = o then .inr (3, mc_fs o 40) else rv_mc o rv_σ0 (a - o)) else hb.1 a) = if o ≤ a ∧ a ≤ o + 40 then some (rv_mc o rv_σ0 (a - o)) else hb.1 a
  by_cases e : o ≤ a ∧ a ≤ o + 40
  · rw [if_pos e, if_pos e]
    by_cases e2 : a = o
    · rw [if_pos e2, e2, Nat.sub_self]
      congr 1
    · rw [if_neg e2]
  · rw [if_neg e, if_neg e]
theorem mc_newI {X : rv_X} {y : MethodName} {cc : ByteArray} {d : Nat} (hX : rv_K X y cc d) {hb : rv_H} {o j s k n ix pc : Nat} {L : List (Option Value)} {ty : FieldType} (hk : k < 56) (h1 : rv_ap k = j + 1) (hi : ∀ k', k' < 56 → rv_ap k' = j + 1 → k' = k) (hn : rv_s (j + 1) = n) (hg : rv_lg (j + 1) = false) (hn6 : n < 60000000) (hC : o + j + 2 ≤ rv_b X.1 + rv_cN) (hS : s + n ≤ rv_cS) (d1 : decode cc pc = .ok (.newarray .int, 2)) (hf : rv_pf y.cls ix 3 k ty true) (hy : y.name = "<init>") (hnw : narrow ty (.ref (o + j + 1)) = .ref (o + j + 1)) (hft : fits ty (.ref (o + j + 1)) = true) (d2 : decode cc (pc + 2) = .ok (.putfield ix, 3)) (kk : rv_V X (rv_mp hb o (j + 1) (s + n)) (pc + 2 + 3) L []) : rv_V X (rv_mp hb o j s) pc L [.int (nI n), .ref o] := by
  refine rv_newaG hX (k := 0) (by decide) rfl q548 hn6 (show o + j + 1 + 1 ≤ _ by omega) hS d1 ?_
  have e : (.inl (0, rv_bl 0 n) : rv_C) = rv_mc o rv_σ0 (j + 1) := by
    unfold rv_mc
    rw [if_neg (by omega), hg, hn]
    rfl
  rw [e]
  have hl : (mc_fs o j).length = 56 := by unfold mc_fs; rw [List.length_map, List.length_range]
  refine rv_putf hX hf (fun _ => hy) (show (rv_add (rv_mp hb o j s) (rv_mc o rv_σ0 (j + 1)) n).1 o = some (.inr (3, mc_fs o j)) from ?_) hl hnw hft d2 ?_
  · show (if o = o + j + 1 then _ else if o ≤ o ∧ o ≤ o + j then some (if o = o then .inr (3, mc_fs o j) else rv_mc o rv_σ0 (o - o)) else hb.1 o) = _
    rw [if_neg (by omega), if_pos ⟨Nat.le_refl _, Nat.le_add_right _ _⟩, if_pos rfl]
  · show rv_V X (rv_put (rv_add (rv_mp hb o j s) (rv_mc o rv_σ0 (j + 1)) n) o (.inr (3, (mc_fs o j).set k (.ref (o + j + 1))))) (pc + 2 + 3) L []
    rw [rv_mp_step hk h1 hi]
    exact kk
theorem mc_newL {X : rv_X} {y : MethodName} {cc : ByteArray} {d : Nat} (hX : rv_K X y cc d) {hb : rv_H} {o j s k n ix pc : Nat} {L : List (Option Value)} {ty : FieldType} (hk : k < 56) (h1 : rv_ap k = j + 1) (hi : ∀ k', k' < 56 → rv_ap k' = j + 1 → k' = k) (hn : rv_s (j + 1) = n) (hg : rv_lg (j + 1) = true) (hn6 : n < 60000000) (hC : o + j + 2 ≤ rv_b X.1 + rv_cN) (hS : s + n ≤ rv_cS) (d1 : decode cc pc = .ok (.newarray .long, 2)) (hf : rv_pf y.cls ix 3 k ty true) (hy : y.name = "<init>") (hnw : narrow ty (.ref (o + j + 1)) = .ref (o + j + 1)) (hft : fits ty (.ref (o + j + 1)) = true) (d2 : decode cc (pc + 2) = .ok (.putfield ix, 3)) (kk : rv_V X (rv_mp hb o (j + 1) (s + n)) (pc + 2 + 3) L []) : rv_V X (rv_mp hb o j s) pc L [.int (nI n), .ref o] := by
  refine rv_newaG hX (k := 1) (by decide) rfl q1751 hn6 (show o + j + 1 + 1 ≤ _ by omega) hS d1 ?_
  have e : (.inl (1, rv_bl 1 n) : rv_C) = rv_mc o rv_σ0 (j + 1) := by
    unfold rv_mc
    rw [if_neg (by omega), hg, hn]
    rfl
  rw [e]
  have hl : (mc_fs o j).length = 56 := by unfold mc_fs; rw [List.length_map, List.length_range]
  refine rv_putf hX hf (fun _ => hy) (show (rv_add (rv_mp hb o j s) (rv_mc o rv_σ0 (j + 1)) n).1 o = some (.inr (3, mc_fs o j)) from ?_) hl hnw hft d2 ?_
  · show (if o = o + j + 1 then _ else if o ≤ o ∧ o ≤ o + j then some (if o = o then .inr (3, mc_fs o j) else rv_mc o rv_σ0 (o - o)) else hb.1 o) = _
    rw [if_neg (by omega), if_pos ⟨Nat.le_refl _, Nat.le_add_right _ _⟩, if_pos rfl]
  · show rv_V X (rv_put (rv_add (rv_mp hb o j s) (rv_mc o rv_σ0 (j + 1)) n) o (.inr (3, (mc_fs o j).set k (.ref (o + j + 1))))) (pc + 2 + 3) L []
    rw [rv_mp_step hk h1 hi]
    exact kk

theorem m_ctor {G : rv_G} (hG : rv_GK G) {d : Nat} (hd : 1 ≤ d) {hb : rv_H} {o s : Nat} (hC : o + 41 ≤ rv_b G + rv_cN) (hS : s + 26451 ≤ rv_cS) : rv_Call G d yX4_init wX4_init [.ref o] (rv_mp hb o 0 s) (fun r h' => r = .inl none ∧ h' = rv_mh (hb.1, o + 41, s + 26451) o (rv_sU rv_σ0 1 8 (nI 1))) := by
  refine rv_start hG (by decide +kernel) (L := [some (.ref o)]) rfl (Nat.le_of_ble_eq_true rfl) (fun X hX1 hX hE => ?_)
  subst hX1
  have hC' : ∀ j, j < 40 → o + j + 2 ≤ rv_b X.1 + rv_cN := fun j hj => by omega
  have hinj : ∀ j, j < 40 → ∀ k, k < 56 → ∀ k', k' < 56 → rv_ap k = j + 1 → rv_ap k' = j + 1 → k' = k := by decide +kernel
  refine rv_aload_n hX dX4_init_0 rfl ?_
  refine rv_objInit hX q2098 q171 q172 (by omega) (Nat.le_of_ble_eq_true rfl) dX4_init_1 ?_
  show rv_V X (rv_mp hb o 0 s) 4 [some (.ref o)] []
  refine rv_aload_n hX dX4_init_4 rfl ?_
  refine nv_bipush hX (m := 11) (by decide) dX4_init_5 ?_
  refine mc_newI hX (j := 0) (k := 1) (by decide) (by decide +kernel) (fun k' h1 h2 => hinj 0 (by decide) 1 (by decide) k' h1 (by decide +kernel) h2) (by decide +kernel) (by decide +kernel) (by decide) (hC' 0 (by decide)) (by omega) dX4_init_7 pX4_7_X4 rfl rfl rfl dX4_init_9 ?_
  refine rv_aload_n hX dX4_init_12 rfl ?_
  refine nv_bipush hX (m := 8) (by decide) dX4_init_13 ?_
  refine mc_newI hX (j := 1) (k := 2) (by decide) (by decide +kernel) (fun k' h1 h2 => hinj 1 (by decide) 2 (by decide) k' h1 (by decide +kernel) h2) (by decide +kernel) (by decide +kernel) (by decide) (hC' 1 (by decide)) (by omega) dX4_init_15 pX4_13_X4 rfl rfl rfl dX4_init_17 ?_
  refine rv_aload_n hX dX4_init_20 rfl ?_
  refine nv_bipush hX (m := 17) (by decide) dX4_init_21 ?_
  refine mc_newI hX (j := 2) (k := 3) (by decide) (by decide +kernel) (fun k' h1 h2 => hinj 2 (by decide) 3 (by decide) k' h1 (by decide +kernel) h2) (by decide +kernel) (by decide +kernel) (by decide) (hC' 2 (by decide)) (by omega) dX4_init_23 pX4_16_X4 rfl rfl rfl dX4_init_25 ?_
  refine rv_aload_n hX dX4_init_28 rfl ?_
  refine nv_bipush hX (m := 17) (by decide) dX4_init_29 ?_
  refine mc_newI hX (j := 3) (k := 4) (by decide) (by decide +kernel) (fun k' h1 h2 => hinj 3 (by decide) 4 (by decide) k' h1 (by decide +kernel) h2) (by decide +kernel) (by decide +kernel) (by decide) (hC' 3 (by decide)) (by omega) dX4_init_31 pX4_19_X4 rfl rfl rfl dX4_init_33 ?_
  refine rv_aload_n hX dX4_init_36 rfl ?_
  refine nv_bipush hX (m := 51) (by decide) dX4_init_37 ?_
  refine mc_newI hX (j := 4) (k := 5) (by decide) (by decide +kernel) (fun k' h1 h2 => hinj 4 (by decide) 5 (by decide) k' h1 (by decide +kernel) h2) (by decide +kernel) (by decide +kernel) (by decide) (hC' 4 (by decide)) (by omega) dX4_init_39 pX4_22_X4 rfl rfl rfl dX4_init_41 ?_
  refine rv_aload_n hX dX4_init_44 rfl ?_
  refine nv_bipush hX (m := 17) (by decide) dX4_init_45 ?_
  refine mc_newI hX (j := 5) (k := 6) (by decide) (by decide +kernel) (fun k' h1 h2 => hinj 5 (by decide) 6 (by decide) k' h1 (by decide +kernel) h2) (by decide +kernel) (by decide +kernel) (by decide) (hC' 5 (by decide)) (by omega) dX4_init_47 pX4_25_X4 rfl rfl rfl dX4_init_49 ?_
  refine rv_aload_n hX dX4_init_52 rfl ?_
  refine nv_bipush hX (m := 102) (by decide) dX4_init_53 ?_
  refine mc_newI hX (j := 6) (k := 7) (by decide) (by decide +kernel) (fun k' h1 h2 => hinj 6 (by decide) 7 (by decide) k' h1 (by decide +kernel) h2) (by decide +kernel) (by decide +kernel) (by decide) (hC' 6 (by decide)) (by omega) dX4_init_55 pX4_28_X4 rfl rfl rfl dX4_init_57 ?_
  refine rv_aload_n hX dX4_init_60 rfl ?_
  refine nv_bipush hX (m := 102) (by decide) dX4_init_61 ?_
  refine mc_newI hX (j := 7) (k := 8) (by decide) (by decide +kernel) (fun k' h1 h2 => hinj 7 (by decide) 8 (by decide) k' h1 (by decide +kernel) h2) (by decide +kernel) (by decide +kernel) (by decide) (hC' 7 (by decide)) (by omega) dX4_init_63 pX4_31_X4 rfl rfl rfl dX4_init_65 ?_
  refine rv_aload_n hX dX4_init_68 rfl ?_
  refine nv_sipush hX (m := 306) (by decide) dX4_init_69 ?_
  refine mc_newI hX (j := 8) (k := 9) (by decide) (by decide +kernel) (fun k' h1 h2 => hinj 8 (by decide) 9 (by decide) k' h1 (by decide +kernel) h2) (by decide +kernel) (by decide +kernel) (by decide) (hC' 8 (by decide)) (by omega) dX4_init_72 pX4_34_X4 rfl rfl rfl dX4_init_74 ?_
  refine rv_aload_n hX dX4_init_77 rfl ?_
  refine nv_bipush hX (m := 17) (by decide) dX4_init_78 ?_
  refine mc_newI hX (j := 9) (k := 10) (by decide) (by decide +kernel) (fun k' h1 h2 => hinj 9 (by decide) 10 (by decide) k' h1 (by decide +kernel) h2) (by decide +kernel) (by decide +kernel) (by decide) (hC' 9 (by decide)) (by omega) dX4_init_80 pX4_37_X4 rfl rfl rfl dX4_init_82 ?_
  refine rv_aload_n hX dX4_init_85 rfl ?_
  refine nv_bipush hX (m := 17) (by decide) dX4_init_86 ?_
  refine mc_newI hX (j := 10) (k := 11) (by decide) (by decide +kernel) (fun k' h1 h2 => hinj 10 (by decide) 11 (by decide) k' h1 (by decide +kernel) h2) (by decide +kernel) (by decide +kernel) (by decide) (hC' 10 (by decide)) (by omega) dX4_init_88 pX4_40_X4 rfl rfl rfl dX4_init_90 ?_
  refine rv_aload_n hX dX4_init_93 rfl ?_
  refine nv_bipush hX (m := 17) (by decide) dX4_init_94 ?_
  refine mc_newI hX (j := 11) (k := 12) (by decide) (by decide +kernel) (fun k' h1 h2 => hinj 11 (by decide) 12 (by decide) k' h1 (by decide +kernel) h2) (by decide +kernel) (by decide +kernel) (by decide) (hC' 11 (by decide)) (by omega) dX4_init_96 pX4_43_X4 rfl rfl rfl dX4_init_98 ?_
  refine rv_aload_n hX dX4_init_101 rfl ?_
  refine nv_bipush hX (m := 62) (by decide) dX4_init_102 ?_
  refine mc_newI hX (j := 12) (k := 13) (by decide) (by decide +kernel) (fun k' h1 h2 => hinj 12 (by decide) 13 (by decide) k' h1 (by decide +kernel) h2) (by decide +kernel) (by decide +kernel) (by decide) (hC' 12 (by decide)) (by omega) dX4_init_104 pX4_46_X4 rfl rfl rfl dX4_init_106 ?_
  refine rv_aload_n hX dX4_init_109 rfl ?_
  refine nv_bipush hX (m := 62) (by decide) dX4_init_110 ?_
  refine mc_newI hX (j := 13) (k := 14) (by decide) (by decide +kernel) (fun k' h1 h2 => hinj 13 (by decide) 14 (by decide) k' h1 (by decide +kernel) h2) (by decide +kernel) (by decide +kernel) (by decide) (hC' 13 (by decide)) (by omega) dX4_init_112 pX4_49_X4 rfl rfl rfl dX4_init_114 ?_
  refine rv_aload_n hX dX4_init_117 rfl ?_
  refine nv_bipush hX (m := 62) (by decide) dX4_init_118 ?_
  refine mc_newI hX (j := 14) (k := 15) (by decide) (by decide +kernel) (fun k' h1 h2 => hinj 14 (by decide) 15 (by decide) k' h1 (by decide +kernel) h2) (by decide +kernel) (by decide +kernel) (by decide) (hC' 14 (by decide)) (by omega) dX4_init_120 pX4_52_X4 rfl rfl rfl dX4_init_122 ?_
  refine rv_aload_n hX dX4_init_125 rfl ?_
  refine nv_bipush hX (m := 62) (by decide) dX4_init_126 ?_
  refine mc_newI hX (j := 15) (k := 16) (by decide) (by decide +kernel) (fun k' h1 h2 => hinj 15 (by decide) 16 (by decide) k' h1 (by decide +kernel) h2) (by decide +kernel) (by decide +kernel) (by decide) (hC' 15 (by decide)) (by omega) dX4_init_128 pX4_55_X4 rfl rfl rfl dX4_init_130 ?_
  refine rv_aload_n hX dX4_init_133 rfl ?_
  refine nv_bipush hX (m := 8) (by decide) dX4_init_134 ?_
  refine mc_newI hX (j := 16) (k := 17) (by decide) (by decide +kernel) (fun k' h1 h2 => hinj 16 (by decide) 17 (by decide) k' h1 (by decide +kernel) h2) (by decide +kernel) (by decide +kernel) (by decide) (hC' 16 (by decide)) (by omega) dX4_init_136 pX4_58_X4 rfl rfl rfl dX4_init_138 ?_
  refine rv_aload_n hX dX4_init_141 rfl ?_
  refine nv_sipush hX (m := 20800) (by decide) dX4_init_142 ?_
  refine mc_newI hX (j := 17) (k := 18) (by decide) (by decide +kernel) (fun k' h1 h2 => hinj 17 (by decide) 18 (by decide) k' h1 (by decide +kernel) h2) (by decide +kernel) (by decide +kernel) (by decide) (hC' 17 (by decide)) (by omega) dX4_init_145 pX4_61_X4 rfl rfl rfl dX4_init_147 ?_
  refine rv_aload_n hX dX4_init_150 rfl ?_
  refine nv_bipush hX (m := 44) (by decide) dX4_init_151 ?_
  refine mc_newI hX (j := 18) (k := 19) (by decide) (by decide +kernel) (fun k' h1 h2 => hinj 18 (by decide) 19 (by decide) k' h1 (by decide +kernel) h2) (by decide +kernel) (by decide +kernel) (by decide) (hC' 18 (by decide)) (by omega) dX4_init_153 pX4_64_X4 rfl rfl rfl dX4_init_155 ?_
  refine rv_aload_n hX dX4_init_158 rfl ?_
  refine nv_sipush hX (m := 2720) (by decide) dX4_init_159 ?_
  refine mc_newI hX (j := 19) (k := 20) (by decide) (by decide +kernel) (fun k' h1 h2 => hinj 19 (by decide) 20 (by decide) k' h1 (by decide +kernel) h2) (by decide +kernel) (by decide +kernel) (by decide) (hC' 19 (by decide)) (by omega) dX4_init_162 pX4_67_X4 rfl rfl rfl dX4_init_164 ?_
  refine rv_aload_n hX dX4_init_167 rfl ?_
  refine nv_sipush hX (m := 1024) (by decide) dX4_init_168 ?_
  refine mc_newI hX (j := 20) (k := 21) (by decide) (by decide +kernel) (fun k' h1 h2 => hinj 20 (by decide) 21 (by decide) k' h1 (by decide +kernel) h2) (by decide +kernel) (by decide +kernel) (by decide) (hC' 20 (by decide)) (by omega) dX4_init_171 pX4_70_X4 rfl rfl rfl dX4_init_173 ?_
  refine rv_aload_n hX dX4_init_176 rfl ?_
  refine nv_bipush hX (m := 8) (by decide) dX4_init_177 ?_
  refine mc_newI hX (j := 21) (k := 25) (by decide) (by decide +kernel) (fun k' h1 h2 => hinj 21 (by decide) 25 (by decide) k' h1 (by decide +kernel) h2) (by decide +kernel) (by decide +kernel) (by decide) (hC' 21 (by decide)) (by omega) dX4_init_179 pX4_73_X4 rfl rfl rfl dX4_init_181 ?_
  refine rv_aload_n hX dX4_init_184 rfl ?_
  refine nv_bipush hX (m := 62) (by decide) dX4_init_185 ?_
  refine mc_newI hX (j := 22) (k := 26) (by decide) (by decide +kernel) (fun k' h1 h2 => hinj 22 (by decide) 26 (by decide) k' h1 (by decide +kernel) h2) (by decide +kernel) (by decide +kernel) (by decide) (hC' 22 (by decide)) (by omega) dX4_init_187 pX4_76_X4 rfl rfl rfl dX4_init_189 ?_
  refine rv_aload_n hX dX4_init_192 rfl ?_
  refine nv_bipush hX (m := 62) (by decide) dX4_init_193 ?_
  refine mc_newI hX (j := 23) (k := 27) (by decide) (by decide +kernel) (fun k' h1 h2 => hinj 23 (by decide) 27 (by decide) k' h1 (by decide +kernel) h2) (by decide +kernel) (by decide +kernel) (by decide) (hC' 23 (by decide)) (by omega) dX4_init_195 pX4_79_X4 rfl rfl rfl dX4_init_197 ?_
  refine rv_aload_n hX dX4_init_200 rfl ?_
  refine nv_bipush hX (m := 62) (by decide) dX4_init_201 ?_
  refine mc_newI hX (j := 24) (k := 28) (by decide) (by decide +kernel) (fun k' h1 h2 => hinj 24 (by decide) 28 (by decide) k' h1 (by decide +kernel) h2) (by decide +kernel) (by decide +kernel) (by decide) (hC' 24 (by decide)) (by omega) dX4_init_203 pX4_82_X4 rfl rfl rfl dX4_init_205 ?_
  refine rv_aload_n hX dX4_init_208 rfl ?_
  refine nv_bipush hX (m := 6) (by decide) dX4_init_209 ?_
  refine mc_newI hX (j := 25) (k := 35) (by decide) (by decide +kernel) (fun k' h1 h2 => hinj 25 (by decide) 35 (by decide) k' h1 (by decide +kernel) h2) (by decide +kernel) (by decide +kernel) (by decide) (hC' 25 (by decide)) (by omega) dX4_init_211 pX4_85_X4 rfl rfl rfl dX4_init_213 ?_
  refine rv_aload_n hX dX4_init_216 rfl ?_
  refine nv_bipush hX (m := 6) (by decide) dX4_init_217 ?_
  refine mc_newI hX (j := 26) (k := 36) (by decide) (by decide +kernel) (fun k' h1 h2 => hinj 26 (by decide) 36 (by decide) k' h1 (by decide +kernel) h2) (by decide +kernel) (by decide +kernel) (by decide) (hC' 26 (by decide)) (by omega) dX4_init_219 pX4_88_X4 rfl rfl rfl dX4_init_221 ?_
  refine rv_aload_n hX dX4_init_224 rfl ?_
  refine nv_bipush hX (m := 8) (by decide) dX4_init_225 ?_
  refine mc_newI hX (j := 27) (k := 37) (by decide) (by decide +kernel) (fun k' h1 h2 => hinj 27 (by decide) 37 (by decide) k' h1 (by decide +kernel) h2) (by decide +kernel) (by decide +kernel) (by decide) (hC' 27 (by decide)) (by omega) dX4_init_227 pX4_91_X4 rfl rfl rfl dX4_init_229 ?_
  refine rv_aload_n hX dX4_init_232 rfl ?_
  refine nv_bipush hX (m := 8) (by decide) dX4_init_233 ?_
  refine mc_newI hX (j := 28) (k := 38) (by decide) (by decide +kernel) (fun k' h1 h2 => hinj 28 (by decide) 38 (by decide) k' h1 (by decide +kernel) h2) (by decide +kernel) (by decide +kernel) (by decide) (hC' 28 (by decide)) (by omega) dX4_init_235 pX4_94_X4 rfl rfl rfl dX4_init_237 ?_
  refine rv_aload_n hX dX4_init_240 rfl ?_
  refine nv_bipush hX (m := 62) (by decide) dX4_init_241 ?_
  refine mc_newI hX (j := 29) (k := 40) (by decide) (by decide +kernel) (fun k' h1 h2 => hinj 29 (by decide) 40 (by decide) k' h1 (by decide +kernel) h2) (by decide +kernel) (by decide +kernel) (by decide) (hC' 29 (by decide)) (by omega) dX4_init_243 pX4_97_X4 rfl rfl rfl dX4_init_245 ?_
  refine rv_aload_n hX dX4_init_248 rfl ?_
  refine nv_bipush hX (m := 62) (by decide) dX4_init_249 ?_
  refine mc_newL hX (j := 30) (k := 41) (by decide) (by decide +kernel) (fun k' h1 h2 => hinj 30 (by decide) 41 (by decide) k' h1 (by decide +kernel) h2) (by decide +kernel) (by decide +kernel) (by decide) (hC' 30 (by decide)) (by omega) dX4_init_251 pX4_100_X4 rfl rfl rfl dX4_init_253 ?_
  refine rv_aload_n hX dX4_init_256 rfl ?_
  refine nv_bipush hX (m := 62) (by decide) dX4_init_257 ?_
  refine mc_newL hX (j := 31) (k := 42) (by decide) (by decide +kernel) (fun k' h1 h2 => hinj 31 (by decide) 42 (by decide) k' h1 (by decide +kernel) h2) (by decide +kernel) (by decide +kernel) (by decide) (hC' 31 (by decide)) (by omega) dX4_init_259 pX4_104_X4 rfl rfl rfl dX4_init_261 ?_
  refine rv_aload_n hX dX4_init_264 rfl ?_
  refine nv_bipush hX (m := 62) (by decide) dX4_init_265 ?_
  refine mc_newI hX (j := 32) (k := 43) (by decide) (by decide +kernel) (fun k' h1 h2 => hinj 32 (by decide) 43 (by decide) k' h1 (by decide +kernel) h2) (by decide +kernel) (by decide +kernel) (by decide) (hC' 32 (by decide)) (by omega) dX4_init_267 pX4_107_X4 rfl rfl rfl dX4_init_269 ?_
  refine rv_aload_n hX dX4_init_272 rfl ?_
  refine nv_bipush hX (m := 62) (by decide) dX4_init_273 ?_
  refine mc_newL hX (j := 33) (k := 44) (by decide) (by decide +kernel) (fun k' h1 h2 => hinj 33 (by decide) 44 (by decide) k' h1 (by decide +kernel) h2) (by decide +kernel) (by decide +kernel) (by decide) (hC' 33 (by decide)) (by omega) dX4_init_275 pX4_110_X4 rfl rfl rfl dX4_init_277 ?_
  refine rv_aload_n hX dX4_init_280 rfl ?_
  refine nv_bipush hX (m := 62) (by decide) dX4_init_281 ?_
  refine mc_newI hX (j := 34) (k := 45) (by decide) (by decide +kernel) (fun k' h1 h2 => hinj 34 (by decide) 45 (by decide) k' h1 (by decide +kernel) h2) (by decide +kernel) (by decide +kernel) (by decide) (hC' 34 (by decide)) (by omega) dX4_init_283 pX4_113_X4 rfl rfl rfl dX4_init_285 ?_
  refine rv_aload_n hX dX4_init_288 rfl ?_
  refine nv_bipush hX (m := 62) (by decide) dX4_init_289 ?_
  refine mc_newL hX (j := 35) (k := 46) (by decide) (by decide +kernel) (fun k' h1 h2 => hinj 35 (by decide) 46 (by decide) k' h1 (by decide +kernel) h2) (by decide +kernel) (by decide +kernel) (by decide) (hC' 35 (by decide)) (by omega) dX4_init_291 pX4_116_X4 rfl rfl rfl dX4_init_293 ?_
  refine rv_aload_n hX dX4_init_296 rfl ?_
  refine nv_bipush hX (m := 62) (by decide) dX4_init_297 ?_
  refine mc_newI hX (j := 36) (k := 47) (by decide) (by decide +kernel) (fun k' h1 h2 => hinj 36 (by decide) 47 (by decide) k' h1 (by decide +kernel) h2) (by decide +kernel) (by decide +kernel) (by decide) (hC' 36 (by decide)) (by omega) dX4_init_299 pX4_119_X4 rfl rfl rfl dX4_init_301 ?_
  refine rv_aload_n hX dX4_init_304 rfl ?_
  refine nv_sipush hX (m := 201) (by decide) dX4_init_305 ?_
  refine mc_newI hX (j := 37) (k := 49) (by decide) (by decide +kernel) (fun k' h1 h2 => hinj 37 (by decide) 49 (by decide) k' h1 (by decide +kernel) h2) (by decide +kernel) (by decide +kernel) (by decide) (hC' 37 (by decide)) (by omega) dX4_init_308 pX4_122_X4 rfl rfl rfl dX4_init_310 ?_
  refine rv_aload_n hX dX4_init_313 rfl ?_
  refine nv_iconst hX (m := 3) (by decide) dX4_init_314 ?_
  refine mc_newI hX (j := 38) (k := 51) (by decide) (by decide +kernel) (fun k' h1 h2 => hinj 38 (by decide) 51 (by decide) k' h1 (by decide +kernel) h2) (by decide +kernel) (by decide +kernel) (by decide) (hC' 38 (by decide)) (by omega) dX4_init_315 pX4_125_X4 rfl rfl rfl dX4_init_317 ?_
  refine rv_aload_n hX dX4_init_320 rfl ?_
  refine nv_iconst hX (m := 3) (by decide) dX4_init_321 ?_
  refine mc_newI hX (j := 39) (k := 55) (by decide) (by decide +kernel) (fun k' h1 h2 => hinj 39 (by decide) 55 (by decide) k' h1 (by decide +kernel) h2) (by decide +kernel) (by decide +kernel) (by decide) (hC' 39 (by decide)) (by omega) dX4_init_322 pX4_128_X4 rfl rfl rfl dX4_init_324 ?_
  have hend : ∀ s', rv_mp hb o 40 s' = rv_mh (hb.1, o + 41, s') o rv_σ0 := fun s' => rv_mp_end
  show rv_V X (rv_mp hb o 40 _) 327 [some (.ref o)] []
  rw [hend]
  refine rv_aload_n hX dX4_init_327 rfl ?_
  refine mv_ga hX (k := 1) (j := 1) gX4_7_X4 (by decide) rfl (by decide) dX4_init_328 ?_
  refine nv_bipush hX (m := 8) (by decide) dX4_init_331 ?_
  refine nv_iconst hX (m := 1) (by decide) dX4_init_333 ?_
  refine mv_st hX (j := 1) (by decide) (by decide) rfl (by decide) (show _ < 11 by decide) dX4_init_334 ?_
  refine rv_return hX hE ⟨rfl, ?_⟩ dX4_init_335
  show rv_mh _ o _ = rv_mh _ o _
  simp only [Nat.add_assoc]
