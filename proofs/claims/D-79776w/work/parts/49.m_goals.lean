/-! THE REFERENCE: goals -/
set_option maxRecDepth 100000
section LW
variable {p : Program} {l : Launch} {e : Env} {R : Room} {s : State} {m : MethodId} {args : Array Value} {below : List Frame} {meth : Method} {c : Code} {H : Heap} {locs : List Loc} {cells slots : Nat} {Q : State → Prop}
theorem rv_ldcwW {cc : ByteArray} (hexec : p.tables.exec = Jvm.exec) (hb : c.code = cc) {own : String} {index : Nat} {v : Int32} (hown : s.vm.findClass own = some m.cls) (hconst : (Jvm.Cond.constant own index v).before args s = true) {g : JFrame} (hg : g.method = m) (hdg : decode cc g.pc = .ok (.ldc_w index, 3))
    (k : W p l e R s m args below meth c H locs cells slots Q { g with pc := g.pc + 3, stack := .int v :: g.stack }) : W p l e R s m args below meth c H locs cells slots Q g := by
  intro T hT X
  obtain ⟨t, a, b⟩ := k T hT X
  refine ⟨t, ?_, b⟩
  obtain ⟨kk, cf, bytes, hk, hcf, hcp, hbb⟩ := Cond.constant_spec hown hconst
  obtain ⟨k', hk', he⟩ := X.warmed.alike.2.2 _ _ hk
  subst hg
  have hdg' : decode c.code g.pc = .ok (.ldc_w index, 3) := by rw [hb]; exact hdg
  have hse : Jvm.Op.ldc_w.sem index = Jvm.Op.ldc.sem index := rfl
  jvm_step X.here [hexec, hdg', hse, Jvm.Op.ldc.wp_int (s := T) (f := g) X.here.top hk' (by rw [he]; exact hcf) hcp, hbb]
  exact a
end LW
theorem rv_ldc_w {X : rv_X} {y : MethodName} {cc : ByteArray} {d : Nat} (hX : rv_K X y cc d) {h : rv_H} {pc : Nat} {L : List (Option Value)} {st : List Value} {ix : Nat} {v : Int32} (hq : (Jvm.Cond.constant y.cls ix v) ∈ lw_all) (dg : decode cc pc = .ok (.ldc_w ix, 3)) (k : rv_V X h (pc + 3) L (.int v :: st)) : rv_V X h pc L st := by
  have hw := rv_words hX hq
  obtain ⟨G, p, e, R, s, m, args, below, meth, c, Qw⟩ := X
  intro H ls locs hR hL hz
  exact rv_ldcwW hX.1 hX.2.1 hX.2.2.1 hw rfl dg (k H ls locs hR hL hz)
def sp_gx (x : Option Nat) : Nat := match x with
  | none => 0
  | some a => a + 1
def sp_goal (rel : Nat) (g : Nat → Option Nat) : Nat := 1030301 * rel + 10201 * sp_gx (g 0) + 101 * sp_gx (g 1) + sp_gx (g 2)
theorem sp_gx_lt {x : Option Nat} (h : ∀ a, x = some a → a < 100) : sp_gx x < 101 := by
  cases x with
  | none => decide
  | some a => have := h a rfl; show a + 1 < 101; omega
theorem sp_gx_add (x : Option Nat) : rv_oi x + nI 1 = nI (sp_gx x) := by
  cases x with
  | none => decide
  | some a => exact nI_add a 1
/-- the value of an item's slot, if it is known and there -/
def sp_open (v : sp_V) (ts : List Nat) (s : Nat) : Option Nat := match ts[s]? with
  | none => none
  | some t => sp_val v t
theorem m_openValue {G : rv_G} (hG : rv_GK G) {d : Nat} (hd : 1 ≤ d) {σ : rv_S} {S : List Nat} {b i s : Nat} {it : sp_I} {v : sp_V} (hS : mRel σ S) (hI : mItem σ b i it) (hw : sp_wfI S it) (hk : it.1 ≤ 1) (hb : b < 17) (hi : i < 6) (hs : s < 3) (hv : mVal σ v) : mC G d yX4_openValue wX4_openValue [.int (nI b), .int (nI i), .int (nI s)] σ (mPi (fun r τ => τ = σ ∧ r = rv_oi (sp_open v it.2.2 s))) := by
  refine mv_start hG (by decide +kernel) (Nat.le_of_ble_eq_true rfl) (fun X Hb o hX1 hX hE => ?_)
  subst hX1
  show rv_V X (rv_mh Hb o _) 0 [some (.ref o), some (.int (nI b)), some (.int (nI i)), some (.int (nI s))] []
  have hS88 := hS.2.1
  have hSw := hw.2.1 hk
  have hlt := (List.getElem?_eq_some_iff.mp hSw).1
  have hlen := hw.len hS.2.2.1
  refine rv_iload_n hX dX4_openValue_0 rfl ?_
  refine rv_aload_n hX dX4_openValue_1 rfl ?_
  refine mv_ga hX (k := 2) (j := 2) gX4_13_X4 (by decide) rfl (by decide) dX4_openValue_2 ?_
  refine rv_aload_n hX dX4_openValue_5 rfl ?_
  refine rv_iload_n hX dX4_openValue_6 rfl ?_
  refine rv_iload_n hX dX4_openValue_7 rfl ?_
  refine mv_calli hX iX4_152 rfl mdX4_whatOf (m_whatOf hG (d := d - 1) (by omega)) (by omega) rfl rfl (Nat.le_of_ble_eq_true rfl) dX4_openValue_8 (fun r_8 τ_8 h_8 => ?_)
  obtain ⟨rfl, rfl⟩ := h_8
  rw [hI.2.1]
  refine mv_ld hX (j := 2) (by decide) (by decide) rfl (by decide) (show _ < 8 by omega) dX4_openValue_11 ?_
  rw [hS.2.2.2 _ _ hSw]
  first | refine nv_icmp_ge hX 29 (by omega) (by omega) dX4_openValue_12 (by decide) (fun c_12 => ?_) (fun c_12 => ?_) | refine rv_icmp_ge hX 29 dX4_openValue_12 (by decide) (fun c_12 => ?_) (fun c_12 => ?_)
  · skip
    refine rv_iconst hX (v := -1) dX4_openValue_29 (by decide) ?_
    refine mv_reti hX hE dX4_openValue_30 ?_
    first
      | (refine ⟨rfl, ?_⟩
         unfold sp_open
         rw [ht])
      | (refine ⟨rfl, ?_⟩
         unfold sp_open
         rw [List.getElem?_eq_none (by omega)]
         rfl)
  · skip
    obtain ⟨t, ht⟩ : ∃ t, it.2.2[s]? = some t := ⟨it.2.2[s], List.getElem?_eq_getElem (by omega)⟩
    have ht8 := hw.2.2.2.2 t (List.mem_of_getElem? ht)
    refine rv_aload_n hX dX4_openValue_15 rfl ?_
    refine rv_aload_n hX dX4_openValue_16 rfl ?_
    refine rv_iload_n hX dX4_openValue_17 rfl ?_
    refine rv_iload_n hX dX4_openValue_18 rfl ?_
    refine rv_iload_n hX dX4_openValue_19 rfl ?_
    refine mv_calli hX iX4_172 rfl mdX4_termOf (m_termOf hG (d := d - 1) (by omega)) (by omega) rfl rfl (Nat.le_of_ble_eq_true rfl) dX4_openValue_20 (fun r_20 τ_20 h_20 => ?_)
    obtain ⟨rfl, rfl⟩ := h_20
    rw [hI.2.2 s t ht]
    refine mv_calli hX iX4_168 rfl mdX4_valueOf (m_valueOf hG (d := d - 1) hv ht8) (by omega) rfl rfl (Nat.le_of_ble_eq_true rfl) dX4_openValue_23 (fun r_23 τ_23 h_23 => ?_)
    obtain ⟨rfl, rfl⟩ := h_23
    refine rv_goto hX 30 dX4_openValue_26 (by decide) ?_
    refine mv_reti hX hE dX4_openValue_30 ?_
    first
      | (refine ⟨rfl, ?_⟩
         unfold sp_open
         rw [ht])
      | (refine ⟨rfl, ?_⟩
         unfold sp_open
         rw [List.getElem?_eq_none (by omega)]
         rfl)
theorem m_goalOf {G : rv_G} (hG : rv_GK G) {d : Nat} {rel : Nat} {g : Nat → Option Nat} : sC G d yX4_goalOf wX4_goalOf [.int (nI rel), .int (rv_oi (g 0)), .int (rv_oi (g 1)), .int (rv_oi (g 2))] (sPi (fun r => r = nI (sp_goal rel g))) := by
  refine sv_start hG (by decide +kernel) (Nat.le_of_ble_eq_true rfl) (fun X h hX1 hX hE => ?_)
  subst hX1
  show rv_V X h 0 [some (.int (nI rel)), some (.int (rv_oi (g 0))), some (.int (rv_oi (g 1))), some (.int (rv_oi (g 2)))] []
  refine rv_ldc_w hX q2641 dX4_goalOf_0 ?_
  rw [show (1030301 : Int32) = nI 1030301 from by decide]
  refine rv_iload_n hX dX4_goalOf_3 rfl ?_
  first | refine nv_imul hX dX4_goalOf_4 ?_ | refine rv_imul hX dX4_goalOf_4 ?_
  refine nv_sipush hX (m := 10201) (by decide) dX4_goalOf_5 ?_
  refine rv_iload_n hX dX4_goalOf_8 rfl ?_
  refine nv_iconst hX (m := 1) (by decide) dX4_goalOf_9 ?_
  first | refine nv_iadd hX dX4_goalOf_10 ?_ | refine rv_iadd hX dX4_goalOf_10 ?_
  rw [sp_gx_add]
  first | refine nv_imul hX dX4_goalOf_11 ?_ | refine rv_imul hX dX4_goalOf_11 ?_
  first | refine nv_iadd hX dX4_goalOf_12 ?_ | refine rv_iadd hX dX4_goalOf_12 ?_
  refine nv_bipush hX (m := 101) (by decide) dX4_goalOf_13 ?_
  refine rv_iload_n hX dX4_goalOf_15 rfl ?_
  refine nv_iconst hX (m := 1) (by decide) dX4_goalOf_16 ?_
  first | refine nv_iadd hX dX4_goalOf_17 ?_ | refine rv_iadd hX dX4_goalOf_17 ?_
  rw [sp_gx_add]
  first | refine nv_imul hX dX4_goalOf_18 ?_ | refine rv_imul hX dX4_goalOf_18 ?_
  first | refine nv_iadd hX dX4_goalOf_19 ?_ | refine rv_iadd hX dX4_goalOf_19 ?_
  refine rv_iload_n hX dX4_goalOf_20 rfl ?_
  refine rv_iadd hX dX4_goalOf_21 ?_
  refine nv_iconst hX (m := 1) (by decide) dX4_goalOf_22 ?_
  refine rv_iadd hX dX4_goalOf_23 ?_
  rw [Int32.add_assoc, sp_gx_add, nI_add]
  exact sv_reti hX hE dX4_goalOf_24 rfl
def mGl (σ : rv_S) (L : List Nat) : Prop := σ.1 50 = nI L.length ∧ L.length ≤ 201 ∧ ∀ (k f : Nat), L[k]? = some f → σ.2.1 38 k = nI f ∧ f < 10000000
theorem mGl.same {fs js : List Nat} {σ τ : rv_S} {P : List Nat} (h : mGl σ P) (hs : rv_same fs js σ τ) (h1 : 50 ∉ fs) (h2 : 38 ∉ js) : mGl τ P := ⟨by rw [hs.1 50 h1]; exact h.1, h.2.1, fun k f e => by rw [hs.2.1 38 h2]; exact h.2.2 k f e⟩
def sp_ag (L : List Nat) (x : Nat) : List Nat := if x ∈ L ∨ 200 < L.length then L else L ++ [x]
theorem m_addGoal {G : rv_G} (hG : rv_GK G) {d : Nat} {σ : rv_S} {P : List Nat} {f : Nat} (hP : mGl σ P) (hf : f < 10000000) : mC G d yX4_addGoal wX4_addGoal [.int (nI f)] σ (mPv (fun τ => mGl τ (sp_ag P f) ∧ rv_same [50] [38] σ τ)) := by
  refine mv_start hG (by decide +kernel) (Nat.le_of_ble_eq_true rfl) (fun X Hb o hX1 hX hE => ?_)
  subst hX1
  show rv_V X (rv_mh Hb o _) 0 [some (.ref o), some (.int (nI f)), none, none] []
  have hP61 := hP.2.1
  have loop : ∀ (n k : Nat) (r : Bool), k ≤ P.length → P.length - k < n → (r = true → f ∈ P) → (r = false → ∀ j, j < k → P[j]? ≠ some f) → rv_V X (rv_mh Hb o σ) 4 [some (.ref o), some (.int (nI f)), some (.int (rv_z r)), some (.int (nI k))] [] := by
    intro n
    induction n with
    | zero => intro k r h1 h2; omega
    | succ n ih =>
      intro k r h1 h2 h3 h4
      have hN : rv_same [50] [38] σ (rv_sF (rv_sU σ 38 P.length (nI f)) 50 (nI (P.length + 1))) := (rv_same.u (by decide)).tr (.f (by decide))
      refine rv_iload_n hX dX4_addGoal_4 rfl ?_
      refine rv_aload_n hX dX4_addGoal_5 rfl ?_
      refine mv_gi hX (k := 50) gX4_367_X4 (by decide) rfl dX4_addGoal_6 ?_
      rw [hP.1]
      first | refine nv_icmp_ge hX 38 (by omega) (by omega) dX4_addGoal_9 (by decide) (fun c_9 => ?_) (fun c_9 => ?_) | refine rv_icmp_ge hX 38 dX4_addGoal_9 (by decide) (fun c_9 => ?_) (fun c_9 => ?_)
      · skip
        refine rv_iload_n hX dX4_addGoal_38 rfl ?_
        first | refine zv_if_ne hX 72 dX4_addGoal_39 (by decide) (fun c_39 => ?_) (fun c_39 => ?_) | refine nv_if_ne hX 72 (by omega) dX4_addGoal_39 (by decide) (fun c_39 => ?_) (fun c_39 => ?_) | refine rv_if_ne hX 72 dX4_addGoal_39 (by decide) (fun c_39 => ?_) (fun c_39 => ?_)
        · skip
          refine mv_retv hX hE dX4_addGoal_72 ?_
          first
            | (have e : sp_ag P f = P := by
                 unfold sp_ag
                 rw [if_pos (Or.inl (h3 c_39))]
               rw [e]
               exact ⟨hP, .rf⟩)
            | (have e : sp_ag P f = P := by
                 unfold sp_ag
                 rw [if_pos (Or.inr c_49)]
               rw [e]
               exact ⟨hP, .rf⟩)
            | (have e : sp_ag P f = P ++ [f] := by
                 unfold sp_ag
                 rw [if_neg]
                 rintro (q | q)
                 · obtain ⟨j, hj⟩ := List.getElem?_of_mem q
                   exact h4 c_39 j (by have := (List.getElem?_eq_some_iff.mp hj).1; omega) hj
                 · omega
               rw [e]
               refine ⟨⟨?_, by rw [List.length_append]; exact Nat.succ_le_succ c_49, fun j a hj => ?_⟩, hN⟩
               · rw [rv_sF_1, if_pos rfl, List.length_append]
                 rfl
               · rw [rv_sF_2, rv_sU_2]
                 by_cases q : j = P.length
                 · subst q
                   rw [List.getElem?_append_right (Nat.le_refl _), Nat.sub_self] at hj
                   cases hj
                   rw [if_pos ⟨rfl, rfl⟩]
                   exact ⟨rfl, hf⟩
                 · rw [if_neg (by omega)]
                   have hlt : j < P.length := by
                     have h9 := (List.getElem?_eq_some_iff.mp hj).1
                     rw [List.length_append] at h9
                     have h8 : j < P.length + 1 := h9
                     omega
                   rw [List.getElem?_append_left hlt] at hj
                   exact hP.2.2 j a hj)
        · skip
          refine rv_aload_n hX dX4_addGoal_42 rfl ?_
          refine mv_gi hX (k := 50) gX4_367_X4 (by decide) rfl dX4_addGoal_43 ?_
          rw [hP.1]
          refine nv_sipush hX (m := 200) (by decide) dX4_addGoal_46 ?_
          first | refine nv_icmp_gt hX 72 (by omega) (by omega) dX4_addGoal_49 (by decide) (fun c_49 => ?_) (fun c_49 => ?_) | refine rv_icmp_gt hX 72 dX4_addGoal_49 (by decide) (fun c_49 => ?_) (fun c_49 => ?_)
          · skip
            refine mv_retv hX hE dX4_addGoal_72 ?_
            first
              | (have e : sp_ag P f = P := by
                   unfold sp_ag
                   rw [if_pos (Or.inl (h3 c_39))]
                 rw [e]
                 exact ⟨hP, .rf⟩)
              | (have e : sp_ag P f = P := by
                   unfold sp_ag
                   rw [if_pos (Or.inr c_49)]
                 rw [e]
                 exact ⟨hP, .rf⟩)
              | (have e : sp_ag P f = P ++ [f] := by
                   unfold sp_ag
                   rw [if_neg]
                   rintro (q | q)
                   · obtain ⟨j, hj⟩ := List.getElem?_of_mem q
                     exact h4 c_39 j (by have := (List.getElem?_eq_some_iff.mp hj).1; omega) hj
                   · omega
                 rw [e]
                 refine ⟨⟨?_, by rw [List.length_append]; exact Nat.succ_le_succ c_49, fun j a hj => ?_⟩, hN⟩
                 · rw [rv_sF_1, if_pos rfl, List.length_append]
                   rfl
                 · rw [rv_sF_2, rv_sU_2]
                   by_cases q : j = P.length
                   · subst q
                     rw [List.getElem?_append_right (Nat.le_refl _), Nat.sub_self] at hj
                     cases hj
                     rw [if_pos ⟨rfl, rfl⟩]
                     exact ⟨rfl, hf⟩
                   · rw [if_neg (by omega)]
                     have hlt : j < P.length := by
                       have h9 := (List.getElem?_eq_some_iff.mp hj).1
                       rw [List.length_append] at h9
                       have h8 : j < P.length + 1 := h9
                       omega
                     rw [List.getElem?_append_left hlt] at hj
                     exact hP.2.2 j a hj)
          · skip
            refine rv_aload_n hX dX4_addGoal_52 rfl ?_
            refine mv_ga hX (k := 49) (j := 38) gX4_122_X4 (by decide) rfl (by decide) dX4_addGoal_53 ?_
            refine rv_aload_n hX dX4_addGoal_56 rfl ?_
            refine mv_gi hX (k := 50) gX4_367_X4 (by decide) rfl dX4_addGoal_57 ?_
            rw [hP.1]
            refine rv_iload_n hX dX4_addGoal_60 rfl ?_
            refine mv_st hX (j := 38) (by decide) (by decide) rfl (by decide) (show _ < 201 by omega) dX4_addGoal_61 ?_
            refine rv_aload_n hX dX4_addGoal_62 rfl ?_
            refine rv_dup hX dX4_addGoal_63 rfl ?_
            refine mv_gi hX (k := 50) gX4_367_X4 (by decide) rfl dX4_addGoal_64 ?_
            rw [show (rv_sU σ 38 P.length (nI f)).1 50 = σ.1 50 from rfl, hP.1]
            refine nv_iconst hX (m := 1) (by decide) dX4_addGoal_67 ?_
            first | refine nv_iadd hX dX4_addGoal_68 ?_ | refine rv_iadd hX dX4_addGoal_68 ?_
            refine mv_pi hX (k := 50) pX4_367_X4 (by decide) rfl rfl rfl dX4_addGoal_69 ?_
            refine mv_retv hX hE dX4_addGoal_72 ?_
            first
              | (have e : sp_ag P f = P := by
                   unfold sp_ag
                   rw [if_pos (Or.inl (h3 c_39))]
                 rw [e]
                 exact ⟨hP, .rf⟩)
              | (have e : sp_ag P f = P := by
                   unfold sp_ag
                   rw [if_pos (Or.inr c_49)]
                 rw [e]
                 exact ⟨hP, .rf⟩)
              | (have e : sp_ag P f = P ++ [f] := by
                   unfold sp_ag
                   rw [if_neg]
                   rintro (q | q)
                   · obtain ⟨j, hj⟩ := List.getElem?_of_mem q
                     exact h4 c_39 j (by have := (List.getElem?_eq_some_iff.mp hj).1; omega) hj
                   · omega
                 rw [e]
                 refine ⟨⟨?_, by rw [List.length_append]; exact Nat.succ_le_succ c_49, fun j a hj => ?_⟩, hN⟩
                 · rw [rv_sF_1, if_pos rfl, List.length_append]
                   rfl
                 · rw [rv_sF_2, rv_sU_2]
                   by_cases q : j = P.length
                   · subst q
                     rw [List.getElem?_append_right (Nat.le_refl _), Nat.sub_self] at hj
                     cases hj
                     rw [if_pos ⟨rfl, rfl⟩]
                     exact ⟨rfl, hf⟩
                   · rw [if_neg (by omega)]
                     have hlt : j < P.length := by
                       have h9 := (List.getElem?_eq_some_iff.mp hj).1
                       rw [List.length_append] at h9
                       have h8 : j < P.length + 1 := h9
                       omega
                     rw [List.getElem?_append_left hlt] at hj
                     exact hP.2.2 j a hj)
      · skip
        obtain ⟨a, ha⟩ : ∃ a, P[k]? = some a := ⟨P[k], List.getElem?_eq_getElem (by omega)⟩
        obtain ⟨ha1, ha2⟩ := hP.2.2 k a ha
        refine rv_iload_n hX dX4_addGoal_12 rfl ?_
        first | refine zv_if_ne hX 26 dX4_addGoal_13 (by decide) (fun c_13 => ?_) (fun c_13 => ?_) | refine nv_if_ne hX 26 (by omega) dX4_addGoal_13 (by decide) (fun c_13 => ?_) (fun c_13 => ?_) | refine rv_if_ne hX 26 dX4_addGoal_13 (by decide) (fun c_13 => ?_) (fun c_13 => ?_)
        · skip
          refine nv_iconst hX (m := 1) (by decide) dX4_addGoal_26 ?_
          refine rv_goto hX 31 dX4_addGoal_27 (by decide) ?_
          refine rv_istore_n hX dX4_addGoal_31 (rv_st_2 rfl) ?_
          first | refine nv_iinc hX (m := 1) dX4_addGoal_32 rfl (by decide) (rv_st_3 rfl) ?_ | refine rv_iinc hX dX4_addGoal_32 rfl rfl (rv_st_3 rfl) ?_
          refine rv_goto hX 4 dX4_addGoal_35 (by decide) ?_
          first
            | exact ih (k + 1) true (by omega) (by omega) (fun _ => h3 c_13) (fun e => by cases e)
            | exact ih (k + 1) true (by omega) (by omega) (fun _ => by rw [← c_23]; exact List.mem_of_getElem? ha) (fun e => by cases e)
            | exact ih (k + 1) false (by omega) (by omega) (fun e => by cases e) (fun _ j hj => by
                by_cases q : j = k
                · subst q
                  rw [ha]
                  exact fun e => c_23 (Option.some.inj e)
                · exact h4 c_13 j (by omega))
        · skip
          refine rv_aload_n hX dX4_addGoal_16 rfl ?_
          refine mv_ga hX (k := 49) (j := 38) gX4_122_X4 (by decide) rfl (by decide) dX4_addGoal_17 ?_
          refine rv_iload_n hX dX4_addGoal_20 rfl ?_
          refine mv_ld hX (j := 38) (by decide) (by decide) rfl (by decide) (show _ < 201 by omega) dX4_addGoal_21 ?_
          rw [ha1]
          refine rv_iload_n hX dX4_addGoal_22 rfl ?_
          first | refine nv_icmp_ne hX 30 (by omega) (by omega) dX4_addGoal_23 (by decide) (fun c_23 => ?_) (fun c_23 => ?_) | refine rv_icmp_ne hX 30 dX4_addGoal_23 (by decide) (fun c_23 => ?_) (fun c_23 => ?_)
          · skip
            refine nv_iconst hX (m := 0) (by decide) dX4_addGoal_30 ?_
            refine rv_istore_n hX dX4_addGoal_31 (rv_st_2 rfl) ?_
            first | refine nv_iinc hX (m := 1) dX4_addGoal_32 rfl (by decide) (rv_st_3 rfl) ?_ | refine rv_iinc hX dX4_addGoal_32 rfl rfl (rv_st_3 rfl) ?_
            refine rv_goto hX 4 dX4_addGoal_35 (by decide) ?_
            first
              | exact ih (k + 1) true (by omega) (by omega) (fun _ => h3 c_13) (fun e => by cases e)
              | exact ih (k + 1) true (by omega) (by omega) (fun _ => by rw [← c_23]; exact List.mem_of_getElem? ha) (fun e => by cases e)
              | exact ih (k + 1) false (by omega) (by omega) (fun e => by cases e) (fun _ j hj => by
                  by_cases q : j = k
                  · subst q
                    rw [ha]
                    exact fun e => c_23 (Option.some.inj e)
                  · exact h4 c_13 j (by omega))
          · skip
            refine nv_iconst hX (m := 1) (by decide) dX4_addGoal_26 ?_
            refine rv_goto hX 31 dX4_addGoal_27 (by decide) ?_
            refine rv_istore_n hX dX4_addGoal_31 (rv_st_2 rfl) ?_
            first | refine nv_iinc hX (m := 1) dX4_addGoal_32 rfl (by decide) (rv_st_3 rfl) ?_ | refine rv_iinc hX dX4_addGoal_32 rfl rfl (rv_st_3 rfl) ?_
            refine rv_goto hX 4 dX4_addGoal_35 (by decide) ?_
            first
              | exact ih (k + 1) true (by omega) (by omega) (fun _ => h3 c_13) (fun e => by cases e)
              | exact ih (k + 1) true (by omega) (by omega) (fun _ => by rw [← c_23]; exact List.mem_of_getElem? ha) (fun e => by cases e)
              | exact ih (k + 1) false (by omega) (by omega) (fun e => by cases e) (fun _ j hj => by
                  by_cases q : j = k
                  · subst q
                    rw [ha]
                    exact fun e => c_23 (Option.some.inj e)
                  · exact h4 c_13 j (by omega))
  refine nv_iconst hX (m := 0) (by decide) dX4_addGoal_0 ?_
  refine rv_istore_n hX dX4_addGoal_1 (rv_st_2 rfl) ?_
  refine nv_iconst hX (m := 0) (by decide) dX4_addGoal_2 ?_
  refine rv_istore_n hX dX4_addGoal_3 (rv_st_3 rfl) ?_
  exact loop _ 0 false (Nat.zero_le _) (Nat.lt_succ_self _) (fun e => by cases e) (fun _ j hj => absurd hj (by omega))
