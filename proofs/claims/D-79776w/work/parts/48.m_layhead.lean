/-! THE REFERENCE: heads laid, goals -/
set_option maxRecDepth 100000
/-- values by what slots of a head are to be; none for an open slot -/
def sp_lay (g : Nat → Option Nat) : List Nat → Nat → sp_V → Option sp_V
  | [], _, v => some v
  | t :: ts, s, v => match g s with
    | none => sp_lay g ts (s + 1) v
    | some a => if t < 200 then (sp_bind v t a).bind (sp_lay g ts (s + 1)) else sp_lay g ts (s + 1) v
theorem m_layHead {G : rv_G} (hG : rv_GK G) {d : Nat} (hd : 2 ≤ d) {σ : rv_S} {S : List Nat} {b rel : Nat} {hts : List Nat} {g : Nat → Option Nat} (hh : mHd σ S b rel hts) (hg : ∀ s a, g s = some a → a < 100) : mC G d yX4_layHead wX4_layHead [.int (nI b), .int (rv_oi (g 0)), .int (rv_oi (g 1)), .int (rv_oi (g 2))] σ (mPz (fun r τ => rv_same [] [28, 29] σ τ ∧ r = (sp_lay g hts 0 (fun _ => none)).isSome ∧ ∀ v, sp_lay g hts 0 (fun _ => none) = some v → mVal τ v ∧ mKb τ (fun _ => none))) := by
  refine mv_start hG (by decide +kernel) (Nat.le_of_ble_eq_true rfl) (fun X Hb o hX1 hX hE => ?_)
  subst hX1
  show rv_V X (rv_mh Hb o _) 0 [some (.ref o), some (.int (nI b)), some (.int (rv_oi (g 0))), some (.int (rv_oi (g 1))), some (.int (rv_oi (g 2))), none, none, none] []
  obtain ⟨b1, b2, b3, b4⟩ := hh.bds
  obtain ⟨h1, h2, h3, h4, h5, h6⟩ := hh
  have loop : ∀ (n s : Nat) (τ : rv_S) (v : sp_V) (x y : Option Value), s ≤ hts.length → hts.length - s < n → rv_same [] [28, 29] σ τ → mVal τ v → mKb τ (fun _ => none) → sp_lay g hts 0 (fun _ => none) = sp_lay g (hts.drop s) s v → rv_V X (rv_mh Hb o τ) 7 [some (.ref o), some (.int (nI b)), some (.int (rv_oi (g 0))), some (.int (rv_oi (g 1))), some (.int (rv_oi (g 2))), some (.int (nI s)), x, y] [] := by
    intro n
    induction n with
    | zero => intro s τ v x y g1 g2; omega
    | succ n ih =>
      intro s τ v x y g1 g2 g3 g4 g5 g6
      by_cases hse : s = hts.length
      · rw [hse, List.drop_length] at g6
        refine rv_iload hX dX4_layHead_7 rfl ?_
        refine rv_aload_n hX dX4_layHead_9 rfl ?_
        refine mv_ga hX (k := 2) (j := 2) gX4_13_X4 (by decide) rfl (by decide) dX4_layHead_10 ?_
        refine rv_aload_n hX dX4_layHead_13 rfl ?_
        refine mv_ga hX (k := 4) (j := 4) gX4_19_X4 (by decide) rfl (by decide) dX4_layHead_14 ?_
        refine rv_iload_n hX dX4_layHead_17 rfl ?_
        refine mv_ld hX (j := 4) (by decide) (by decide) rfl (by decide) (show _ < 17 by omega) dX4_layHead_18 ?_
        rw [g3.2.1 4 (by decide), h3]
        refine mv_ld hX (j := 2) (by decide) (by decide) rfl (by decide) (show _ < 8 by omega) dX4_layHead_19 ?_
        rw [g3.2.1 2 (by decide), b4]
        first | refine nv_icmp_ge hX 93 (by omega) (by omega) dX4_layHead_20 (by decide) (fun c_20 => ?_) (fun c_20 => ?_) | refine rv_icmp_ge hX 93 dX4_layHead_20 (by decide) (fun c_20 => ?_) (fun c_20 => ?_)
        · skip
          refine nv_iconst hX (m := 1) (by decide) dX4_layHead_93 ?_
          refine mv_retz hX hE (b := true) rfl dX4_layHead_94 ?_
          refine ⟨g3, by rw [g6]; rfl, fun w e => ?_⟩
          rw [g6] at e
          cases e
          exact ⟨g4, g5⟩
        · skip
          exact absurd c_20 (by omega)
          --done
      · obtain ⟨t, ht⟩ : ∃ t, hts[s]? = some t := ⟨hts[s]'(by omega), List.getElem?_eq_getElem (by omega)⟩
        have ht2 := h6 t (List.mem_of_getElem? ht)
        rw [sp_drop_get ht] at g6
        have pick : ∀ (X9 : Int32), X9 = rv_oi (g s) → rv_V X (rv_mh Hb o τ) 57 [some (.ref o), some (.int (nI b)), some (.int (rv_oi (g 0))), some (.int (rv_oi (g 1))), some (.int (rv_oi (g 2))), some (.int (nI s)), some (.int (nI t)), y] [.int X9] := by
          intro X9 e9
          subst e9
          cases hgs : g s with
          | none =>
            have g7 : sp_lay g hts 0 (fun _ => none) = sp_lay g (hts.drop (s + 1)) (s + 1) v := by
              rw [g6]
              show (match g s with
                | none => sp_lay g (hts.drop (s + 1)) (s + 1) v
                | some a => if t < 200 then (sp_bind v t a).bind (sp_lay g (hts.drop (s + 1)) (s + 1)) else sp_lay g (hts.drop (s + 1)) (s + 1) v) = _
              rw [hgs]
            refine rv_istore hX dX4_layHead_57 (rv_st_7 rfl) ?_
            refine rv_iload hX dX4_layHead_59 rfl ?_
            refine nv_sipush hX (m := 200) (by decide) dX4_layHead_61 ?_
            first | refine nv_icmp_ge hX 87 (by omega) (by omega) dX4_layHead_64 (by decide) (fun c_64 => ?_) (fun c_64 => ?_) | refine rv_icmp_ge hX 87 dX4_layHead_64 (by decide) (fun c_64 => ?_) (fun c_64 => ?_)
            · skip
              first | refine nv_iinc hX (m := 1) dX4_layHead_87 rfl (by decide) (rv_st_5 rfl) ?_ | refine rv_iinc hX dX4_layHead_87 rfl rfl (rv_st_5 rfl) ?_
              refine rv_goto hX 7 dX4_layHead_90 (by decide) ?_
              exact ih (s + 1) τ v _ _ (by omega) (by omega) g3 g4 g5 g7
            · skip
              refine rv_iload hX dX4_layHead_67 rfl ?_
              refine rv_iconst hX (v := -1) dX4_layHead_69 (by decide) ?_
              first | refine nv_icmp_eq hX 87 (by omega) (by omega) dX4_layHead_70 (by decide) (fun c_70 => ?_) (fun c_70 => ?_) | refine rv_icmp_eq hX 87 dX4_layHead_70 (by decide) (fun c_70 => ?_) (fun c_70 => ?_)
              · skip
                first | refine nv_iinc hX (m := 1) dX4_layHead_87 rfl (by decide) (rv_st_5 rfl) ?_ | refine rv_iinc hX dX4_layHead_87 rfl rfl (rv_st_5 rfl) ?_
                refine rv_goto hX 7 dX4_layHead_90 (by decide) ?_
                exact ih (s + 1) τ v _ _ (by omega) (by omega) g3 g4 g5 g7
              · skip
                exact absurd rfl c_70
                --done
          | some a =>
            have ha := hg s a hgs
            have g7 : sp_lay g hts 0 (fun _ => none) = if t < 200 then (sp_bind v t a).bind (sp_lay g (hts.drop (s + 1)) (s + 1)) else sp_lay g (hts.drop (s + 1)) (s + 1) v := by
              rw [g6]
              show (match g s with
                | none => sp_lay g (hts.drop (s + 1)) (s + 1) v
                | some a => if t < 200 then (sp_bind v t a).bind (sp_lay g (hts.drop (s + 1)) (s + 1)) else sp_lay g (hts.drop (s + 1)) (s + 1) v) = _
              rw [hgs]
            show rv_V X (rv_mh Hb o τ) 57 _ [.int (nI a)]
            refine rv_istore hX dX4_layHead_57 (rv_st_7 rfl) ?_
            refine rv_iload hX dX4_layHead_59 rfl ?_
            refine nv_sipush hX (m := 200) (by decide) dX4_layHead_61 ?_
            first | refine nv_icmp_ge hX 87 (by omega) (by omega) dX4_layHead_64 (by decide) (fun c_64 => ?_) (fun c_64 => ?_) | refine rv_icmp_ge hX 87 dX4_layHead_64 (by decide) (fun c_64 => ?_) (fun c_64 => ?_)
            · skip
              first | refine nv_iinc hX (m := 1) dX4_layHead_87 rfl (by decide) (rv_st_5 rfl) ?_ | refine rv_iinc hX dX4_layHead_87 rfl rfl (rv_st_5 rfl) ?_
              refine rv_goto hX 7 dX4_layHead_90 (by decide) ?_
              first
                | (obtain ⟨u, hu⟩ := Option.isSome_iff_exists.mp (f1.mp c_82)
                   rw [hu] at f2 f3 g7
                   refine ih (s + 1) _ u _ _ (by omega) (by omega) (g3.tr f4) f2 ?_ g7
                   have hkb : sp_kb v ((some u).getD v) (fun _ => none) none = fun _ => none := by
                     funext i
                     unfold sp_kb
                     split <;> rfl
                   rw [hkb] at f3
                   exact f3)
                | (rw [if_neg (by omega)] at g7
                   exact ih (s + 1) τ v _ _ (by omega) (by omega) g3 g4 g5 g7)
            · skip
              rw [if_pos (by omega)] at g7
              refine rv_iload hX dX4_layHead_67 rfl ?_
              refine rv_iconst hX (v := -1) dX4_layHead_69 (by decide) ?_
              first | refine nv_icmp_eq hX 87 (by omega) (by omega) dX4_layHead_70 (by decide) (fun c_70 => ?_) (fun c_70 => ?_) | refine rv_icmp_eq hX 87 dX4_layHead_70 (by decide) (fun c_70 => ?_) (fun c_70 => ?_)
              · skip
                exact absurd c_70 (nI_m1 (by omega))
                --done
              · skip
                refine rv_aload_n hX dX4_layHead_73 rfl ?_
                refine rv_iload hX dX4_layHead_74 rfl ?_
                refine rv_iload hX dX4_layHead_76 rfl ?_
                refine rv_iconst hX (v := -1) dX4_layHead_78 (by decide) ?_
                refine mv_callz hX iX4_179 rfl mdX4_fits (m_fits hG (d := d - 1) (by omega) g4 g5 (show t < 108 by omega) ha (p := none) (fun q e => by cases e)) (by omega) rfl rfl (Nat.le_of_ble_eq_true rfl) dX4_layHead_79 (fun r_79 τ_79 h_79 => ?_)
                obtain ⟨f1, f2, f3, f4⟩ := h_79
                first | refine zv_if_ne hX 87 dX4_layHead_82 (by decide) (fun c_82 => ?_) (fun c_82 => ?_) | refine nv_if_ne hX 87 (by omega) dX4_layHead_82 (by decide) (fun c_82 => ?_) (fun c_82 => ?_) | refine rv_if_ne hX 87 dX4_layHead_82 (by decide) (fun c_82 => ?_) (fun c_82 => ?_)
                · skip
                  first | refine nv_iinc hX (m := 1) dX4_layHead_87 rfl (by decide) (rv_st_5 rfl) ?_ | refine rv_iinc hX dX4_layHead_87 rfl rfl (rv_st_5 rfl) ?_
                  refine rv_goto hX 7 dX4_layHead_90 (by decide) ?_
                  first
                    | (obtain ⟨u, hu⟩ := Option.isSome_iff_exists.mp (f1.mp c_82)
                       rw [hu] at f2 f3 g7
                       refine ih (s + 1) _ u _ _ (by omega) (by omega) (g3.tr f4) f2 ?_ g7
                       have hkb : sp_kb v ((some u).getD v) (fun _ => none) none = fun _ => none := by
                         funext i
                         unfold sp_kb
                         split <;> rfl
                       rw [hkb] at f3
                       exact f3)
                    | (rw [if_neg (by omega)] at g7
                       exact ih (s + 1) τ v _ _ (by omega) (by omega) g3 g4 g5 g7)
                · skip
                  refine nv_iconst hX (m := 0) (by decide) dX4_layHead_85 ?_
                  refine mv_retz hX hE (b := false) rfl dX4_layHead_86 ?_
                  have hbn : sp_bind v t a = none := by
                    cases e : sp_bind v t a with
                    | none => rfl
                    | some u =>
                      have := f1.mpr (by rw [e]; rfl)
                      rw [c_82] at this
                      cases this
                  rw [hbn] at g7
                  have g8 : sp_lay g hts 0 (fun _ => none) = none := g7
                  exact ⟨g3.tr f4, by rw [g8]; rfl, fun w e => by rw [g8] at e; cases e⟩
        refine rv_iload hX dX4_layHead_7 rfl ?_
        refine rv_aload_n hX dX4_layHead_9 rfl ?_
        refine mv_ga hX (k := 2) (j := 2) gX4_13_X4 (by decide) rfl (by decide) dX4_layHead_10 ?_
        refine rv_aload_n hX dX4_layHead_13 rfl ?_
        refine mv_ga hX (k := 4) (j := 4) gX4_19_X4 (by decide) rfl (by decide) dX4_layHead_14 ?_
        refine rv_iload_n hX dX4_layHead_17 rfl ?_
        refine mv_ld hX (j := 4) (by decide) (by decide) rfl (by decide) (show _ < 17 by omega) dX4_layHead_18 ?_
        rw [g3.2.1 4 (by decide), h3]
        refine mv_ld hX (j := 2) (by decide) (by decide) rfl (by decide) (show _ < 8 by omega) dX4_layHead_19 ?_
        rw [g3.2.1 2 (by decide), b4]
        first | refine nv_icmp_ge hX 93 (by omega) (by omega) dX4_layHead_20 (by decide) (fun c_20 => ?_) (fun c_20 => ?_) | refine rv_icmp_ge hX 93 dX4_layHead_20 (by decide) (fun c_20 => ?_) (fun c_20 => ?_)
        · skip
          exact absurd c_20 (by omega)
          --done
        · skip
          refine rv_aload_n hX dX4_layHead_23 rfl ?_
          refine mv_ga hX (k := 5) (j := 5) gX4_22_X4 (by decide) rfl (by decide) dX4_layHead_24 ?_
          refine nv_iconst hX (m := 3) (by decide) dX4_layHead_27 ?_
          refine rv_iload_n hX dX4_layHead_28 rfl ?_
          first | refine nv_imul hX dX4_layHead_29 ?_ | refine rv_imul hX dX4_layHead_29 ?_
          refine rv_iload hX dX4_layHead_30 rfl ?_
          first | refine nv_iadd hX dX4_layHead_32 ?_ | refine rv_iadd hX dX4_layHead_32 ?_
          refine mv_ld hX (j := 5) (by decide) (by decide) rfl (by decide) (show _ < 51 by omega) dX4_layHead_33 ?_
          rw [g3.2.1 5 (by decide), h5 s t ht]
          refine rv_istore hX dX4_layHead_34 (rv_st_6 rfl) ?_
          refine rv_iload hX dX4_layHead_36 rfl ?_
          first | refine zv_if_ne hX 45 dX4_layHead_38 (by decide) (fun c_38 => ?_) (fun c_38 => ?_) | refine nv_if_ne hX 45 (by omega) dX4_layHead_38 (by decide) (fun c_38 => ?_) (fun c_38 => ?_) | refine rv_if_ne hX 45 dX4_layHead_38 (by decide) (fun c_38 => ?_) (fun c_38 => ?_)
          · skip
            refine rv_iload hX dX4_layHead_45 rfl ?_
            refine nv_iconst hX (m := 1) (by decide) dX4_layHead_47 ?_
            first | refine nv_icmp_ne hX 55 (by omega) (by omega) dX4_layHead_48 (by decide) (fun c_48 => ?_) (fun c_48 => ?_) | refine rv_icmp_ne hX 55 dX4_layHead_48 (by decide) (fun c_48 => ?_) (fun c_48 => ?_)
            · skip
              refine rv_iload hX dX4_layHead_55 rfl ?_
              first
                | exact pick _ (by rw [show s = 0 by omega])
                | exact pick _ (by rw [show s = 1 by omega])
                | exact pick _ (by rw [show s = 2 by omega])
            · skip
              refine rv_iload_n hX dX4_layHead_51 rfl ?_
              refine rv_goto hX 57 dX4_layHead_52 (by decide) ?_
              first
                | exact pick _ (by rw [show s = 0 by omega])
                | exact pick _ (by rw [show s = 1 by omega])
                | exact pick _ (by rw [show s = 2 by omega])
          · skip
            refine rv_iload_n hX dX4_layHead_41 rfl ?_
            refine rv_goto hX 57 dX4_layHead_42 (by decide) ?_
            first
              | exact pick _ (by rw [show s = 0 by omega])
              | exact pick _ (by rw [show s = 1 by omega])
              | exact pick _ (by rw [show s = 2 by omega])
  refine rv_aload_n hX dX4_layHead_0 rfl ?_
  refine mv_callv hX iX4_211 rfl mdX4_forget (m_forget hG (d := d - 1)) (by omega) rfl rfl (Nat.le_of_ble_eq_true rfl) dX4_layHead_1 (fun τ_1 h_1 => ?_)
  obtain ⟨f1, f2, f3⟩ := h_1
  refine nv_iconst hX (m := 0) (by decide) dX4_layHead_4 ?_
  refine rv_istore hX dX4_layHead_5 (rv_st_5 rfl) ?_
  exact loop _ 0 _ (fun _ => none) none none (Nat.zero_le _) (Nat.lt_succ_self _) f3 f1 f2 rfl
