/-! THE REFERENCE: reasons -/
set_option maxRecDepth 100000
def mRsn (σ : rv_S) (L : List Nat) : Prop := σ.1 48 = nI L.length ∧ ∀ (k f : Nat), L[k]? = some f → σ.2.1 37 k = nI f
theorem mRsn.same {fs js : List Nat} {σ τ : rv_S} {L : List Nat} (h : mRsn σ L) (hs : rv_same fs js σ τ) (h1 : 48 ∉ fs) (h2 : 37 ∉ js) : mRsn τ L := ⟨by rw [hs.1 48 h1]; exact h.1, fun k f e => by rw [hs.2.1 37 h2]; exact h.2 k f e⟩
/-- one fact more, or not: it's written in any case -/
theorem mRsn.put {σ : rv_S} {L : List Nat} {f : Nat} {n : Int32} (h : mRsn σ L) (b : Bool) (hn : n = nI (L.length + (if b = true then 1 else 0))) : mRsn (rv_sF (rv_sU σ 37 L.length (nI f)) 48 n) (L ++ (if b = true then [f] else [])) := by
  refine ⟨?_, fun k g e => ?_⟩
  · rw [rv_sF_1, if_pos rfl, hn, List.length_append]
    cases b <;> rfl
  · rw [rv_sF_2, rv_sU_2]
    by_cases q : k = L.length
    · subst q
      rw [List.getElem?_append_right (Nat.le_refl _), Nat.sub_self] at e
      cases b with
      | true => cases e; rw [if_pos ⟨rfl, rfl⟩]
      | false => cases e
    · rw [if_neg (fun h => q h.2)]
      have hlt : k < L.length := by
        have h9 := (List.getElem?_eq_some_iff.mp e).1
        rw [List.length_append] at h9
        have : (if b = true then [f] else []).length ≤ 1 := by cases b <;> simp
        omega
      rw [List.getElem?_append_left hlt] at e
      exact h.2 k g e
/-- the facts at some places -/
def sp_fs (F : List Nat) (l : List Nat) : List Nat := l.map (fun k => F.getD k 0)
def sp_bitsk (F : List Nat) (has : Nat → Bool) (n : Nat) : List Nat := sp_fs F ((List.range n).filter has)
theorem sp_bitsk_succ {F : List Nat} {has : Nat → Bool} {n : Nat} : sp_bitsk F has (n + 1) = sp_bitsk F has n ++ (if has n = true then [F.getD n 0] else []) := by
  unfold sp_bitsk sp_fs
  rw [List.range_succ, List.filter_append, List.map_append]
  congr 1
  by_cases h : has n = true
  · rw [List.filter_cons_of_pos h, if_pos h]
    rfl
  · rw [List.filter_cons_of_neg h, if_neg h]
    rfl
theorem sp_bitsk_len {F : List Nat} {has : Nat → Bool} {n : Nat} : (sp_bitsk F has n).length ≤ n := by
  unfold sp_bitsk sp_fs
  rw [List.length_map]
  have := List.length_filter_le has (List.range n)
  rw [List.length_range] at this
  exact this
theorem m_layReasons {G : rv_G} (hG : rv_GK G) {d : Nat} {σ : rv_S} {F : List Nat} {w : Int64} {has : Nat → Bool} (hF : mFacts σ F) (h60 : F.length ≤ 60) (hr : mRsn σ []) (hw : ∀ k, lb w k = has k) : mC G d yX4_layReasons wX4_layReasons [.long w] σ (mPv (fun τ => rv_same [48] [37] σ τ ∧ mRsn τ (sp_bitsk F has F.length))) := by
  refine mv_start hG (by decide +kernel) (Nat.le_of_ble_eq_true rfl) (fun X Hb o hX1 hX hE => ?_)
  subst hX1
  show rv_V X (rv_mh Hb o _) 0 [some (.ref o), some (.long w), none, none] []
  have loop : ∀ (n k : Nat) (τ : rv_S), k ≤ F.length → F.length - k < n → rv_same [48] [37] σ τ → mRsn τ (sp_bitsk F has k) → rv_V X (rv_mh Hb o τ) 2 [some (.ref o), some (.long w), none, some (.int (nI k))] [] := by
    intro n
    induction n with
    | zero => intro k τ h1 h2; omega
    | succ n ih =>
      intro k τ h1 h2 h3 h4
      have hF2 := hF.same h3 (by decide) (by decide)
      have hbl := sp_bitsk_len (F := F) (has := has) (n := k)
      refine rv_iload_n hX dX4_layReasons_2 rfl ?_
      refine rv_aload_n hX dX4_layReasons_3 rfl ?_
      refine mv_ga hX (k := 1) (j := 1) gX4_7_X4 (by decide) rfl (by decide) dX4_layReasons_4 ?_
      refine nv_bipush hX (m := 6) (by decide) dX4_layReasons_7 ?_
      refine mv_ld hX (j := 1) (by decide) (by decide) rfl (by decide) (show _ < 11 by omega) dX4_layReasons_9 ?_
      rw [hF2.1]
      first | refine nv_icmp_ge hX 58 (by omega) (by omega) dX4_layReasons_10 (by decide) (fun c_10 => ?_) (fun c_10 => ?_) | refine rv_icmp_ge hX 58 dX4_layReasons_10 (by decide) (fun c_10 => ?_) (fun c_10 => ?_)
      · skip
        have hk : k = F.length := by omega
        subst hk
        refine mv_retv hX hE dX4_layReasons_58 ?_
        exact ⟨h3, h4⟩
      · skip
        obtain ⟨f, hf⟩ : ∃ f, F[k]? = some f := ⟨F[k], List.getElem?_eq_getElem (by omega)⟩
        have hfk := hF2.2.2.2 k f hf
        have hsu := sp_bitsk_succ (F := F) (has := has) (n := k)
        rw [sp_getD hf] at hsu
        refine rv_aload_n hX dX4_layReasons_13 rfl ?_
        refine mv_ga hX (k := 47) (j := 37) gX4_119_X4 (by decide) rfl (by decide) dX4_layReasons_14 ?_
        refine rv_aload_n hX dX4_layReasons_17 rfl ?_
        refine mv_gi hX (k := 48) gX4_344_X4 (by decide) rfl dX4_layReasons_18 ?_
        rw [h4.1]
        refine rv_aload_n hX dX4_layReasons_21 rfl ?_
        refine mv_ga hX (k := 15) (j := 15) gX4_52_X4 (by decide) rfl (by decide) dX4_layReasons_22 ?_
        refine rv_iload_n hX dX4_layReasons_25 rfl ?_
        refine mv_ld hX (j := 15) (by decide) (by decide) rfl (by decide) (show _ < 62 by omega) dX4_layReasons_26 ?_
        rw [hfk]
        refine mv_st hX (j := 37) (by decide) (by decide) rfl (by decide) (show _ < 62 by omega) dX4_layReasons_27 ?_
        refine rv_aload_n hX dX4_layReasons_28 rfl ?_
        refine rv_dup hX dX4_layReasons_29 rfl ?_
        refine mv_gi hX (k := 48) gX4_344_X4 (by decide) rfl dX4_layReasons_30 ?_
        rw [show (rv_sU τ 37 (sp_bitsk F has k).length (nI f)).1 48 = τ.1 48 from rfl, h4.1]
        refine rv_lload_n hX dX4_layReasons_33 rfl ?_
        refine rv_iload_n hX dX4_layReasons_34 rfl ?_
        refine rv_lshr hX dX4_layReasons_35 ?_
        refine rv_lconst hX (v := 1) dX4_layReasons_36 rfl ?_
        refine rv_land hX dX4_layReasons_37 ?_
        refine rv_lconst hX (v := 1) dX4_layReasons_38 rfl ?_
        refine rv_lcmp hX dX4_layReasons_39 ?_
        first | refine zv_if_ne hX 47 dX4_layReasons_40 (by decide) (fun c_40 => ?_) (fun c_40 => ?_) | refine nv_if_ne hX 47 (by omega) dX4_layReasons_40 (by decide) (fun c_40 => ?_) (fun c_40 => ?_) | refine rv_if_ne hX 47 dX4_layReasons_40 (by decide) (fun c_40 => ?_) (fun c_40 => ?_)
        · skip
          refine nv_iconst hX (m := 0) (by decide) dX4_layReasons_47 ?_
          first | refine nv_iadd hX dX4_layReasons_48 ?_ | refine rv_iadd hX dX4_layReasons_48 ?_
          refine mv_pi hX (k := 48) pX4_344_X4 (by decide) rfl rfl rfl dX4_layReasons_49 ?_
          first | refine nv_iinc hX (m := 1) dX4_layReasons_52 rfl (by decide) (rv_st_3 rfl) ?_ | refine rv_iinc hX dX4_layReasons_52 rfl rfl (rv_st_3 rfl) ?_
          refine rv_goto hX 2 dX4_layReasons_55 (by decide) ?_
          have hpt := fun n hn => h4.put (f := f) (n := n) (has k) hn
          rw [← hsu] at hpt
          first
            | (have hb : has k = true := by rw [← hw k]; exact (lb_test (by omega) _).mp ((lb_cmp _ _).mp c_40)
               refine ih (k + 1) _ (by omega) (by omega) (h3.tr ((rv_same.u (by decide)).tr (.f (by decide)))) (hpt _ ?_)
               rw [if_pos hb])
            | (have hb : ¬ has k = true := by
                 rw [← hw k]
                 exact fun e => c_40 ((lb_cmp _ _).mpr ((lb_test (by omega) _).mpr e))
               refine ih (k + 1) _ (by omega) (by omega) (h3.tr ((rv_same.u (by decide)).tr (.f (by decide)))) (hpt _ ?_)
               rw [if_neg hb])
        · skip
          refine nv_iconst hX (m := 1) (by decide) dX4_layReasons_43 ?_
          refine rv_goto hX 48 dX4_layReasons_44 (by decide) ?_
          first | refine nv_iadd hX dX4_layReasons_48 ?_ | refine rv_iadd hX dX4_layReasons_48 ?_
          refine mv_pi hX (k := 48) pX4_344_X4 (by decide) rfl rfl rfl dX4_layReasons_49 ?_
          first | refine nv_iinc hX (m := 1) dX4_layReasons_52 rfl (by decide) (rv_st_3 rfl) ?_ | refine rv_iinc hX dX4_layReasons_52 rfl rfl (rv_st_3 rfl) ?_
          refine rv_goto hX 2 dX4_layReasons_55 (by decide) ?_
          have hpt := fun n hn => h4.put (f := f) (n := n) (has k) hn
          rw [← hsu] at hpt
          first
            | (have hb : has k = true := by rw [← hw k]; exact (lb_test (by omega) _).mp ((lb_cmp _ _).mp c_40)
               refine ih (k + 1) _ (by omega) (by omega) (h3.tr ((rv_same.u (by decide)).tr (.f (by decide)))) (hpt _ ?_)
               rw [if_pos hb])
            | (have hb : ¬ has k = true := by
                 rw [← hw k]
                 exact fun e => c_40 ((lb_cmp _ _).mpr ((lb_test (by omega) _).mpr e))
               refine ih (k + 1) _ (by omega) (by omega) (h3.tr ((rv_same.u (by decide)).tr (.f (by decide)))) (hpt _ ?_)
               rw [if_neg hb])
  refine nv_iconst hX (m := 0) (by decide) dX4_layReasons_0 ?_
  refine rv_istore_n hX dX4_layReasons_1 (rv_st_3 rfl) ?_
  exact loop _ 0 σ (Nat.zero_le _) (Nat.lt_succ_self _) .rf hr
/-- the reasons by which a rule gives a fact with a depth -/
def sp_w1 (F : List Nat) (C : sp_C) (dep : Nat → Nat) (f dp : Nat) (q : sp_Q) : Bool := (sp_key C q == f) && (1 + sp_mxd dep (sp_atk C.its q.1) == dp)
def sp_w2 (C : sp_C) (M : List sp_Q) (dep : Nat → Nat) (f dp : Nat) (key : Nat) : Bool := (sp_gfact C M key == f) && (1 + sp_gd dep C.its (sp_grp C M key) == dp)
def sp_why1 (F : List Nat) (C : sp_C) (dep : Nat → Nat) (f dp : Nat) : Option (List Nat) :=
  if C.gath = none then ((sp_m F C.its (fun _ => none)).find? (sp_w1 F C dep f dp)).map (fun q => sp_fs F (sp_atk C.its q.1))
  else ((sp_keys C (sp_m F C.its (fun _ => none))).find? (sp_w2 C (sp_m F C.its (fun _ => none)) dep f dp)).map (fun key => sp_bitsk F (sp_gf C.its (sp_grp C (sp_m F C.its (fun _ => none)) key)) F.length)
theorem sp_find_app {α : Type} {p : α → Bool} {P Q : List α} (h : P.find? p = none) : (P ++ Q).find? p = Q.find? p := by
  rw [List.find?_append, h]
  rfl
