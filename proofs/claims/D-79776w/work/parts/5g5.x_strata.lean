/-! THE SYSTEM: strata -/
set_option maxRecDepth 100000
theorem rv_ldcStr {X : rv_X} {y : MethodName} {cc : ByteArray} {d ix : Nat} {h : rv_H} {pc : Nat} {L : List (Option Value)} {st : List Value} {tx : String} (hX : rv_K X y cc d) (hq : (Cond.stringRef y.cls ix tx) ∈ lw_tbl) (dg : decode cc pc = .ok (.ldc ix, 2)) (kk : ∀ q, rv_V X h (pc + 2) L (.ref q :: st)) : rv_V X h pc L st := by
  obtain ⟨G, p, e, R, s, m, args, below, meth, c, Qw⟩ := X
  have hX' := hX
  obtain ⟨-, -, -, -, ⟨⟨a0, h0, -⟩, -⟩, hW, -⟩ := hX'
  have hb0 := h0 _ hq
  have hcur : ∃ cur, G.2.1.vm.findClass y.cls = some cur := by
    have h1 := hb0
    simp only [Cond.before, Cond.holds, Cond.value] at h1
    cases hc : G.2.1.vm.findClass y.cls with
    | none => simp [hc] at h1
    | some cur => exact ⟨cur, rfl⟩
  obtain ⟨cur, hcur⟩ := hcur
  obtain ⟨k, cf, i, a, -, -, -, -, -, hev⟩ := Cond.stringRef_spec hcur hb0
  intro H ls locs hR hL hz
  exact va_ldcS hX.1 hX.2.1 hX.2.2.1 (vk_R.warm hW (vk_R.of hb0 hev)) dg (kk a H ls locs hR hL hz)
theorem sp_srnd_mono : ∀ {cs : List sp_C} {st st' : Nat → Nat} {ch ch' : Bool}, (∀ C, C ∈ cs → C.rel < 8) → sp_srnd cs st ch = some (st', ch') → sp_s8 st ≤ sp_s8 st' ∧ (ch = false → ch' = true → sp_s8 st < sp_s8 st') := by
  intro cs
  induction cs with
  | nil =>
    intro st st' ch ch' _ h
    cases h
    exact ⟨Nat.le_refl _, fun e1 e2 => by rw [e1] at e2; cases e2⟩
  | cons C cs ih =>
    intro st st' ch ch' hc h
    have h' : (if 8 ≤ sp_lst st C then none else if st C.rel < sp_lst st C then sp_srnd cs (sp_put st C.rel (sp_lst st C)) true else sp_srnd cs st ch) = some (st', ch') := h
    split at h'
    · cases h'
    · split at h'
      · rename_i q
        have := sp_s8_put (hc C List.mem_cons_self) q
        have := (ih (fun D hD => hc D (List.mem_cons_of_mem _ hD)) h').1
        exact ⟨by omega, fun _ _ => by omega⟩
      · exact ih (fun D hD => hc D (List.mem_cons_of_mem _ hD)) h'
theorem sp_s8_56 {st : Nat → Nat} (h : ∀ i, st i < 8) : sp_s8 st ≤ 56 := by
  have := h 0; have := h 1; have := h 2; have := h 3; have := h 4; have := h 5; have := h 6; have := h 7
  unfold sp_s8
  omega
theorem x_strata {G : rv_G} (hG : rv_GK G) {d wd n m : Nat} (hd : 8 ≤ d) {rel ta st0 tg ru de fi sk : Nat} {tgd rn dn now : Int32} {S : List Nat} {R : List sp_C} {F : xF} {h : rv_H} (hW : xr G F wd (cW rel ta st0 tg tgd ru de rn dn fi sk now)) (hR : xLp G (xr G F) (xCl G false) ru R) (hR10 : R.length ≤ 10) (hw : ∀ C, C ∈ R → sp_wfC S C) (hS3 : ∀ n, n ∈ S → 1 ≤ n ∧ n ≤ 3) (hS8 : S.length ≤ 8) (hn : 2 ≤ n) (hm : 14 ≤ m) (hH : xH G F [] n m h) : rv_Call G d yX2_strata wX2_strata [.ref wd] h (xT (fun u h' => ∃ a sf st, u = some (.ref a) ∧ sp_strata R = some st ∧ (∀ i, i < 8 → sf i = nI (st i)) ∧ xS G F h [] [(a, cI 8 sf)] (n - 1) (m - 8) h') (fun E h' => E = RX5 ∧ sp_strata R = none ∧ xS G F h [] [] (n - 2) (m - 14) h')) := by
  refine rv_start hG (by decide +kernel) (L := [some (.ref wd), none, none, none, none, none, none, none, none]) rfl (Nat.le_of_ble_eq_true rfl) (fun X hX1 hX hE => ?_)
  subst hX1
  have hS := hH.start
  obtain ⟨rs, hRl, hrs, hxs⟩ := id hR
  obtain ⟨um, ued, ucap, uf, u1, u2⟩ := id hRl
  have hrel : ∀ C, C ∈ R → C.rel < 8 := fun C hC => by
    have := (List.getElem?_eq_some_iff.mp (hw C hC).hd).1
    omega
  have rnd : ∀ (sta w j : Nat) (st : Nat → Nat) (ch : Bool) (sf : Nat → Int32) (x4 x5 x6 x7 x8 : Option Value) (Q : Option ((Nat → Nat) × Bool)) (h1 : rv_H), R.length - j < w → j ≤ R.length → (∀ i, st i < 8) → (∀ i, i < 8 → sf i = nI (st i)) → Q = sp_srnd (R.drop j) st ch → (Q = none → sp_strata R = none) → (∀ (st' : Nat → Nat) (ch' : Bool) (sf' : Nat → Int32) (x3' x4' x5' x6' x7' x8' : Option Value) (h' : rv_H), Q = some (st', ch') → (∀ i, st' i < 8) → (∀ i, i < 8 → sf' i = nI (st' i)) → xS X.1 F h [] [(sta, cI 8 sf')] (n - 1) (m - 8) h' → rv_V X h' 7 [some (.ref wd), some (.ref sta), some (.int (rv_z ch')), x3', x4', x5', x6', x7', x8'] []) → xS X.1 F h [] [(sta, cI 8 sf)] (n - 1) (m - 8) h1 → rv_V X h1 15 [some (.ref wd), some (.ref sta), some (.int (rv_z ch)), some (.int (nI j)), x4, x5, x6, x7, x8] [] := by
    intro sta w
    induction w with
    | zero => intro j st ch sf x4 x5 x6 x7 x8 Q h1 g1; omega
    | succ w ih =>
      intro j st ch sf x4 x5 x6 x7 x8 Q h1 g1 g2 h8 hsf hQ hQn kk hS
      by_cases hj : j = R.length
      · rw [hj, List.drop_length] at hQ
        refine rv_iload_n hX dX2_strata_15 rfl ?_
        refine rv_aload_n hX dX2_strata_16 rfl ?_
        refine rv_getfR hX gX2_34_X2 (hS.f hW) rfl dX2_strata_17 ?_
        refine rv_invVR hX iX2_65 mdJ2_size (hS.f u1) ⟨TJ2, 3, rv_c17⟩ (j_size hG (d := d - 1) (hRl.mono (fun _ _ => hS.f)).L) (by omega) rfl rfl (Nat.le_of_ble_eq_true rfl) dX2_strata_20 (fun v h' hq => ?_) (fun E h' hq => by first | exact hq.elim | cases hq.2 | cases hq.1)
        obtain ⟨rfl, hq⟩ := hq
        cases hq
        rw [hrs]
        refine nv_icmp_ge hX 187 (by omega) (by omega) dX2_strata_23 (by decide) (fun c_23 => ?_) (fun q => absurd q (by omega))
        refine rv_goto hX 7 dX2_strata_187 (by decide) ?_
        exact kk st ch sf _ _ _ _ _ _ _ hQ h8 hsf hS
      · obtain ⟨C, hC⟩ : ∃ C, R[j]? = some C := ⟨R[j], List.getElem?_eq_getElem (by omega)⟩
        have hCR := List.mem_of_getElem? hC
        have hwC := hw C hCR
        have hrelC := hrel C hCR
        obtain ⟨ca, hca, hCl⟩ := xLp.get hrs hxs hC
        obtain ⟨hd1, bo, cgk, cmd, csal, ctl, hc1, ⟨ctm, ctf, hc3, hc4⟩, ⟨bs, hBl, hbs, hbx⟩, hc5⟩ := id hCl
        have hc3 : xr X.1 F hd1 (cO 10 [.int (nI 0), .int (nI C.rel), .ref ctm, .int (nI (C.hts.map xtm).length)]) := hc3
        obtain ⟨bm, bed, bcap, bf, b1, b2⟩ := id hBl
        rw [sp_drop_get hC] at hQ
        have hQ' : Q = if 8 ≤ sp_lst st C then none else if st C.rel < sp_lst st C then sp_srnd (R.drop (j + 1)) (sp_put st C.rel (sp_lst st C)) true else sp_srnd (R.drop (j + 1)) st ch := hQ
        have hl8 := sp_lstk_le (C := C) h8 C.its.length
        have hl9 : sp_lst st C = sp_lstk st C C.its.length := by unfold sp_lst sp_lstk; rw [List.take_length]
        rw [← hl9] at hl8
        have hb6 := hwC.len.2
        have hgo : ∀ s, C.gath = some s → s < 2147483648 := fun s hs => by
          have := (List.getElem?_eq_some_iff.mp (sp_gt_at hs).1).1
          have := hwC.ht3 hS3
          omega
        have h8r := h8 C.rel
        have hsfr := hsf C.rel hrelC
        have loopI : ∀ (v k : Nat) (x7 x8 : Option Value), C.its.length - k < v → k ≤ C.its.length → rv_V X h1 45 [some (.ref wd), some (.ref sta), some (.int (rv_z ch)), some (.int (nI j)), some (.ref ca), some (.int (nI (sp_lstk st C k))), some (.int (nI k)), x7, x8] [] := by
          intro v
          induction v with
          | zero => intro k x7 x8 q1; omega
          | succ v ihv =>
            intro k x7 x8 q1 q2
            have hlk := sp_lstk_le (C := C) h8 k
            by_cases hk : k = C.its.length
            · subst hk
              rw [← hl9]
              refine rv_iload hX dX2_strata_45 rfl ?_
              refine rv_aload hX dX2_strata_47 rfl ?_
              refine rv_getfR hX gX2_94_X10 (hS.f hc1) rfl dX2_strata_49 ?_
              refine rv_invVR hX iX2_65 mdJ2_size (hS.f b1) ⟨TJ2, 3, rv_c17⟩ (j_size hG (d := d - 1) (hBl.mono (fun _ _ => hS.f)).L) (by omega) rfl rfl (Nat.le_of_ble_eq_true rfl) dX2_strata_52 (fun v h' hq => ?_) (fun E h' hq => by first | exact hq.elim | cases hq.2 | cases hq.1)
              obtain ⟨rfl, hq⟩ := hq
              cases hq
              rw [hbs]
              refine nv_icmp_ge hX 135 (by omega) (by omega) dX2_strata_55 (by decide) (fun c_55 => ?_) (fun q => absurd q (by omega))
              refine rv_iload hX dX2_strata_135 rfl ?_
              refine rv_aload_n hX dX2_strata_137 rfl ?_
              refine rv_aload hX dX2_strata_138 rfl ?_
              refine rv_getfR hX gX2_108_X10 (hS.f hc1) rfl dX2_strata_140 ?_
              refine rv_getfR hX gX2_105_X11 (hS.f hc3) rfl dX2_strata_143 ?_
              refine xv_iald hX (hS.mc (k := 0) rfl) (by omega) (by omega) dX2_strata_146 ?_
              rw [hsfr]
              first | refine nv_icmp_le hX 164 (by omega) (by omega) dX2_strata_147 (by decide) (fun c_147 => ?_) (fun c_147 => ?_) | refine rv_icmp_le hX 164 dX2_strata_147 (by decide) (fun c_147 => ?_) (fun c_147 => ?_)
              · skip
                refine rv_iload hX dX2_strata_164 rfl ?_
                refine nv_bipush hX (m := 8) (by decide) dX2_strata_166 ?_
                first | refine nv_icmp_lt hX 181 (by omega) (by omega) dX2_strata_168 (by decide) (fun c_168 => ?_) (fun c_168 => ?_) | refine rv_icmp_lt hX 181 dX2_strata_168 (by decide) (fun c_168 => ?_) (fun c_168 => ?_)
                · skip
                  first | refine nv_iinc hX (m := 1) dX2_strata_181 rfl (by decide) (rv_st_3 rfl) ?_ | refine rv_iinc hX dX2_strata_181 rfl rfl (rv_st_3 rfl) ?_
                  refine rv_goto hX 15 dX2_strata_184 (by decide) ?_
                  rw [if_neg (by omega)] at hQ'
                  first
                    | (rw [if_neg (by omega)] at hQ'
                       exact ih (j + 1) st ch sf _ _ _ _ _ Q _ (by omega) (by omega) h8 hsf hQ' hQn kk hS)
                    | (rw [if_pos (by omega)] at hQ'
                       refine ih (j + 1) (sp_put st C.rel (sp_lst st C)) true _ _ _ _ _ _ Q _ (by omega) (by omega) (fun i => ?_) (fun i hi => ?_) hQ' hQn kk hS
                       · unfold sp_put
                         split
                         · omega
                         · exact h8 i
                       · unfold sp_put
                         show (if i = C.rel then _ else sf i) = _
                         split
                         · rfl
                         · exact hsf i hi)
                · skip
                  refine xv_new hX hS nX2_112 (by omega) (show 6 ≤ _ by omega) dX2_strata_171 (fun a_171 h_171 hS => ?_)
                  have hS := hS.bud (Nat.le_refl _) (show _ - 6 ≤ _ from Nat.le_refl _)
                  refine rv_dup hX dX2_strata_174 rfl ?_
                  refine rv_ldcStr hX q1247 dX2_strata_175 (fun a_175 => ?_)
                  refine rv_invI hX iX2_116 mdX5_init rfl (x_draftX hG (d := d - 1) (by omega) (hS.cpre0 [0] 1 rfl rfl rfl)) (by omega) rfl rfl (Nat.le_of_ble_eq_true rfl) dX2_strata_177 (fun v h' hq => ?_) (fun E h' hq => by first | exact hq.elim | cases hq.2 | cases hq.1)
                  obtain ⟨fs, hu, hQ⟩ := hq
                  have hS := hS.cpost0 [0] 1 rfl rfl rfl hQ
                  cases hu
                  refine rv_athrow hX rv_c4 (hS.mg (k := 1) rfl) dX2_strata_180 ?_
                  exact rv_out hX hE (fun x hx => by cases hx) ⟨rfl, hQn (by rw [hQ']; exact if_pos (by omega)), (hS.drop (List.nil_sublist _)).bud (by omega) (by omega)⟩
              · skip
                refine rv_aload_n hX dX2_strata_150 rfl ?_
                refine rv_aload hX dX2_strata_151 rfl ?_
                refine rv_getfR hX gX2_108_X10 (hS.f hc1) rfl dX2_strata_153 ?_
                refine rv_getfR hX gX2_105_X11 (hS.f hc3) rfl dX2_strata_156 ?_
                refine rv_iload hX dX2_strata_159 rfl ?_
                refine xv_iast hX hS (k := 0) rfl (by omega) (by omega) dX2_strata_161 (fun h_161 hS => ?_)
                refine nv_iconst hX (m := 1) (by decide) dX2_strata_162 ?_
                refine rv_istore_n hX dX2_strata_163 (rv_st_2 rfl) ?_
                refine rv_iload hX dX2_strata_164 rfl ?_
                refine nv_bipush hX (m := 8) (by decide) dX2_strata_166 ?_
                first | refine nv_icmp_lt hX 181 (by omega) (by omega) dX2_strata_168 (by decide) (fun c_168 => ?_) (fun c_168 => ?_) | refine rv_icmp_lt hX 181 dX2_strata_168 (by decide) (fun c_168 => ?_) (fun c_168 => ?_)
                · skip
                  first | refine nv_iinc hX (m := 1) dX2_strata_181 rfl (by decide) (rv_st_3 rfl) ?_ | refine rv_iinc hX dX2_strata_181 rfl rfl (rv_st_3 rfl) ?_
                  refine rv_goto hX 15 dX2_strata_184 (by decide) ?_
                  rw [if_neg (by omega)] at hQ'
                  first
                    | (rw [if_neg (by omega)] at hQ'
                       exact ih (j + 1) st ch sf _ _ _ _ _ Q _ (by omega) (by omega) h8 hsf hQ' hQn kk hS)
                    | (rw [if_pos (by omega)] at hQ'
                       refine ih (j + 1) (sp_put st C.rel (sp_lst st C)) true _ _ _ _ _ _ Q _ (by omega) (by omega) (fun i => ?_) (fun i hi => ?_) hQ' hQn kk hS
                       · unfold sp_put
                         split
                         · omega
                         · exact h8 i
                       · unfold sp_put
                         show (if i = C.rel then _ else sf i) = _
                         split
                         · rfl
                         · exact hsf i hi)
                · skip
                  refine xv_new hX hS nX2_112 (by omega) (show 6 ≤ _ by omega) dX2_strata_171 (fun a_171 h_171 hS => ?_)
                  have hS := hS.bud (Nat.le_refl _) (show _ - 6 ≤ _ from Nat.le_refl _)
                  refine rv_dup hX dX2_strata_174 rfl ?_
                  refine rv_ldcStr hX q1247 dX2_strata_175 (fun a_175 => ?_)
                  refine rv_invI hX iX2_116 mdX5_init rfl (x_draftX hG (d := d - 1) (by omega) (hS.cpre0 [0] 1 rfl rfl rfl)) (by omega) rfl rfl (Nat.le_of_ble_eq_true rfl) dX2_strata_177 (fun v h' hq => ?_) (fun E h' hq => by first | exact hq.elim | cases hq.2 | cases hq.1)
                  obtain ⟨fs, hu, hQ⟩ := hq
                  have hS := hS.cpost0 [0] 1 rfl rfl rfl hQ
                  cases hu
                  refine rv_athrow hX rv_c4 (hS.mg (k := 1) rfl) dX2_strata_180 ?_
                  exact rv_out hX hE (fun x hx => by cases hx) ⟨rfl, hQn (by rw [hQ']; exact if_pos (by omega)), (hS.drop (List.nil_sublist _)).bud (by omega) (by omega)⟩
            · obtain ⟨it, hit⟩ : ∃ it, C.its[k]? = some it := ⟨C.its[k], List.getElem?_eq_getElem (by omega)⟩
              obtain ⟨ie, hie, ⟨tm, tf, i1, i2, i3⟩⟩ := xLp.get hbs hbx hit
              have hwi := hwC.its it (List.mem_of_getElem? hit)
              have hw8 : it.1 ≤ 1 → it.2.1 < 8 := fun q => by
                have := (List.getElem?_eq_some_iff.mp (hwi.2.1 q)).1
                omega
              have hk3 := hwi.1
              have hl1 := sp_lstk_succ (st := st) hit
              have hih : ∀ (z : Nat) (x7 x8 : Option Value), z = sp_lstk st C (k + 1) → rv_V X h1 45 [some (.ref wd), some (.ref sta), some (.int (rv_z ch)), some (.int (nI j)), some (.ref ca), some (.int (nI z)), some (.int (nI (k + 1))), x7, x8] [] := fun z x7 x8 e => by
                rw [e]
                exact ihv (k + 1) x7 x8 (by omega) (by omega)
              have hhi : ¬ it.1 ≤ 1 → sp_lstk st C k = sp_lstk st C (k + 1) := fun q => by
                have e : sp_own st C it = 0 := by unfold sp_own; exact if_pos (by omega)
                rw [hl1, e]
                exact (if_neg (Nat.not_lt_zero _)).symm
              have hlo : ∀ mo, it.1 ≤ 1 → (if it.1 = 1 ∨ C.gath ≠ none then 1 else 0) = mo → Nat.max (sp_lstk st C k) (st it.2.1 + mo) = sp_lstk st C (k + 1) := fun mo q e => by
                have e2 : sp_own st C it = st it.2.1 + mo := by unfold sp_own; rw [if_neg (by omega), e]
                rw [hl1, e2]
                split
                · exact Nat.max_eq_right (by omega)
                · exact Nat.max_eq_left (by omega)
              have h8i := h8 it.2.1
              refine rv_iload hX dX2_strata_45 rfl ?_
              refine rv_aload hX dX2_strata_47 rfl ?_
              refine rv_getfR hX gX2_94_X10 (hS.f hc1) rfl dX2_strata_49 ?_
              refine rv_invVR hX iX2_65 mdJ2_size (hS.f b1) ⟨TJ2, 3, rv_c17⟩ (j_size hG (d := d - 1) (hBl.mono (fun _ _ => hS.f)).L) (by omega) rfl rfl (Nat.le_of_ble_eq_true rfl) dX2_strata_52 (fun v h' hq => ?_) (fun E h' hq => by first | exact hq.elim | cases hq.2 | cases hq.1)
              obtain ⟨rfl, hq⟩ := hq
              cases hq
              rw [hbs]
              refine nv_icmp_ge hX 135 (by omega) (by omega) dX2_strata_55 (by decide) (fun q => absurd q (by omega)) (fun c_55 => ?_)
              refine rv_aload hX dX2_strata_58 rfl ?_
              refine rv_getfR hX gX2_94_X10 (hS.f hc1) rfl dX2_strata_60 ?_
              refine rv_iload hX dX2_strata_63 rfl ?_
              refine rv_invVR hX iX2_69 mdJ2_get (hS.f b1) ⟨TJ2, 3, rv_c17⟩ (j_get hG (d := d - 1) (by omega) (hBl.mono (fun _ _ => hS.f)).L hie) (by omega) rfl rfl (Nat.le_of_ble_eq_true rfl) dX2_strata_65 (fun v h' hq => ?_) (fun E h' hq => by first | exact hq.elim | cases hq.2 | cases hq.1)
              obtain ⟨rfl, hq⟩ := hq
              cases hq
              refine rv_castOR hX (hS.f i1) rv_c10 q1237 dX2_strata_68 ?_
              refine rv_astore hX dX2_strata_71 (rv_st_7 rfl) ?_
              refine rv_aload hX dX2_strata_73 rfl ?_
              refine rv_getfR hX gX2_99_X11 (hS.f i1) rfl dX2_strata_75 ?_
              refine nv_iconst hX (m := 1) (by decide) dX2_strata_78 ?_
              first | refine nv_icmp_eq hX 91 (by omega) (by omega) dX2_strata_79 (by decide) (fun c_79 => ?_) (fun c_79 => ?_) | refine rv_icmp_eq hX 91 dX2_strata_79 (by decide) (fun c_79 => ?_) (fun c_79 => ?_)
              · skip
                have hmo : (if it.1 = 1 ∨ C.gath ≠ none then 1 else 0) = 1 := if_pos (Or.inl (by omega))
                refine nv_iconst hX (m := 1) (by decide) dX2_strata_91 ?_
                refine rv_goto hX 96 dX2_strata_92 (by decide) ?_
                refine rv_istore hX dX2_strata_96 (rv_st_8 rfl) ?_
                refine rv_aload hX dX2_strata_98 rfl ?_
                refine rv_getfR hX gX2_99_X11 (hS.f i1) rfl dX2_strata_100 ?_
                refine nv_iconst hX (m := 1) (by decide) dX2_strata_103 ?_
                first | refine nv_icmp_gt hX 125 (by omega) (by omega) dX2_strata_104 (by decide) (fun c_104 => ?_) (fun c_104 => ?_) | refine rv_icmp_gt hX 125 dX2_strata_104 (by decide) (fun c_104 => ?_) (fun c_104 => ?_)
                · skip
                  refine rv_iload hX dX2_strata_125 rfl ?_
                  refine rv_istore hX dX2_strata_127 (rv_st_5 rfl) ?_
                  first | refine nv_iinc hX (m := 1) dX2_strata_129 rfl (by decide) (rv_st_6 rfl) ?_ | refine rv_iinc hX dX2_strata_129 rfl rfl (rv_st_6 rfl) ?_
                  refine rv_goto hX 45 dX2_strata_132 (by decide) ?_
                  first
                  | exact hih _ _ _ (hlo _ (by omega) hmo)
                  | exact hih _ _ _ (hhi (by omega))
                · skip
                  refine rv_iload hX dX2_strata_107 rfl ?_
                  refine rv_aload_n hX dX2_strata_109 rfl ?_
                  refine rv_aload hX dX2_strata_110 rfl ?_
                  refine rv_getfR hX gX2_105_X11 (hS.f i1) rfl dX2_strata_112 ?_
                  refine xv_iald hX (hS.mc (k := 0) rfl) (by have := hw8 (by omega); omega) (by omega) dX2_strata_115 ?_
                  rw [hsf _ (hw8 (by omega))]
                  refine rv_iload hX dX2_strata_116 rfl ?_
                  first | refine nv_iadd hX dX2_strata_118 ?_ | refine rv_iadd hX dX2_strata_118 ?_
                  refine rv_invS hX iX2_82 mdJ12_max (j_max hG (d := d - 1) (by omega) (by omega)) (by omega) rfl rfl (Nat.le_of_ble_eq_true rfl) dX2_strata_119 (fun v h' hq => ?_) (fun E h' hq => by first | exact hq.elim | cases hq.2 | cases hq.1)
                  obtain ⟨rfl, hq⟩ := hq
                  cases hq
                  refine rv_goto hX 127 dX2_strata_122 (by decide) ?_
                  refine rv_istore hX dX2_strata_127 (rv_st_5 rfl) ?_
                  first | refine nv_iinc hX (m := 1) dX2_strata_129 rfl (by decide) (rv_st_6 rfl) ?_ | refine rv_iinc hX dX2_strata_129 rfl rfl (rv_st_6 rfl) ?_
                  refine rv_goto hX 45 dX2_strata_132 (by decide) ?_
                  first
                  | exact hih _ _ _ (hlo _ (by omega) hmo)
                  | exact hih _ _ _ (hhi (by omega))
              · skip
                refine rv_aload hX dX2_strata_82 rfl ?_
                refine rv_getfR hX gX2_102_X10 (hS.f hc1) rfl dX2_strata_84 ?_
                refine rv_iconst hX (v := -1) dX2_strata_87 (by decide) ?_
                first | refine nv_icmp_eq hX 95 (by omega) (by omega) dX2_strata_88 (by decide) (fun c_88 => ?_) (fun c_88 => ?_) | refine rv_icmp_eq hX 95 dX2_strata_88 (by decide) (fun c_88 => ?_) (fun c_88 => ?_)
                · skip
                  have hmo : (if it.1 = 1 ∨ C.gath ≠ none then 1 else 0) = 0 := if_neg (fun q => q.elim (fun q => by omega) (fun q => q ((rv_oi_m1 hgo).mp c_88)))
                  refine nv_iconst hX (m := 0) (by decide) dX2_strata_95 ?_
                  refine rv_istore hX dX2_strata_96 (rv_st_8 rfl) ?_
                  refine rv_aload hX dX2_strata_98 rfl ?_
                  refine rv_getfR hX gX2_99_X11 (hS.f i1) rfl dX2_strata_100 ?_
                  refine nv_iconst hX (m := 1) (by decide) dX2_strata_103 ?_
                  first | refine nv_icmp_gt hX 125 (by omega) (by omega) dX2_strata_104 (by decide) (fun c_104 => ?_) (fun c_104 => ?_) | refine rv_icmp_gt hX 125 dX2_strata_104 (by decide) (fun c_104 => ?_) (fun c_104 => ?_)
                  · skip
                    refine rv_iload hX dX2_strata_125 rfl ?_
                    refine rv_istore hX dX2_strata_127 (rv_st_5 rfl) ?_
                    first | refine nv_iinc hX (m := 1) dX2_strata_129 rfl (by decide) (rv_st_6 rfl) ?_ | refine rv_iinc hX dX2_strata_129 rfl rfl (rv_st_6 rfl) ?_
                    refine rv_goto hX 45 dX2_strata_132 (by decide) ?_
                    first
                    | exact hih _ _ _ (hlo _ (by omega) hmo)
                    | exact hih _ _ _ (hhi (by omega))
                  · skip
                    refine rv_iload hX dX2_strata_107 rfl ?_
                    refine rv_aload_n hX dX2_strata_109 rfl ?_
                    refine rv_aload hX dX2_strata_110 rfl ?_
                    refine rv_getfR hX gX2_105_X11 (hS.f i1) rfl dX2_strata_112 ?_
                    refine xv_iald hX (hS.mc (k := 0) rfl) (by have := hw8 (by omega); omega) (by omega) dX2_strata_115 ?_
                    rw [hsf _ (hw8 (by omega))]
                    refine rv_iload hX dX2_strata_116 rfl ?_
                    first | refine nv_iadd hX dX2_strata_118 ?_ | refine rv_iadd hX dX2_strata_118 ?_
                    refine rv_invS hX iX2_82 mdJ12_max (j_max hG (d := d - 1) (by omega) (by omega)) (by omega) rfl rfl (Nat.le_of_ble_eq_true rfl) dX2_strata_119 (fun v h' hq => ?_) (fun E h' hq => by first | exact hq.elim | cases hq.2 | cases hq.1)
                    obtain ⟨rfl, hq⟩ := hq
                    cases hq
                    refine rv_goto hX 127 dX2_strata_122 (by decide) ?_
                    refine rv_istore hX dX2_strata_127 (rv_st_5 rfl) ?_
                    first | refine nv_iinc hX (m := 1) dX2_strata_129 rfl (by decide) (rv_st_6 rfl) ?_ | refine rv_iinc hX dX2_strata_129 rfl rfl (rv_st_6 rfl) ?_
                    refine rv_goto hX 45 dX2_strata_132 (by decide) ?_
                    first
                    | exact hih _ _ _ (hlo _ (by omega) hmo)
                    | exact hih _ _ _ (hhi (by omega))
                · skip
                  have hmo : (if it.1 = 1 ∨ C.gath ≠ none then 1 else 0) = 1 := if_pos (Or.inr (fun q => c_88 ((rv_oi_m1 hgo).mpr q)))
                  refine nv_iconst hX (m := 1) (by decide) dX2_strata_91 ?_
                  refine rv_goto hX 96 dX2_strata_92 (by decide) ?_
                  refine rv_istore hX dX2_strata_96 (rv_st_8 rfl) ?_
                  refine rv_aload hX dX2_strata_98 rfl ?_
                  refine rv_getfR hX gX2_99_X11 (hS.f i1) rfl dX2_strata_100 ?_
                  refine nv_iconst hX (m := 1) (by decide) dX2_strata_103 ?_
                  first | refine nv_icmp_gt hX 125 (by omega) (by omega) dX2_strata_104 (by decide) (fun c_104 => ?_) (fun c_104 => ?_) | refine rv_icmp_gt hX 125 dX2_strata_104 (by decide) (fun c_104 => ?_) (fun c_104 => ?_)
                  · skip
                    refine rv_iload hX dX2_strata_125 rfl ?_
                    refine rv_istore hX dX2_strata_127 (rv_st_5 rfl) ?_
                    first | refine nv_iinc hX (m := 1) dX2_strata_129 rfl (by decide) (rv_st_6 rfl) ?_ | refine rv_iinc hX dX2_strata_129 rfl rfl (rv_st_6 rfl) ?_
                    refine rv_goto hX 45 dX2_strata_132 (by decide) ?_
                    first
                    | exact hih _ _ _ (hlo _ (by omega) hmo)
                    | exact hih _ _ _ (hhi (by omega))
                  · skip
                    refine rv_iload hX dX2_strata_107 rfl ?_
                    refine rv_aload_n hX dX2_strata_109 rfl ?_
                    refine rv_aload hX dX2_strata_110 rfl ?_
                    refine rv_getfR hX gX2_105_X11 (hS.f i1) rfl dX2_strata_112 ?_
                    refine xv_iald hX (hS.mc (k := 0) rfl) (by have := hw8 (by omega); omega) (by omega) dX2_strata_115 ?_
                    rw [hsf _ (hw8 (by omega))]
                    refine rv_iload hX dX2_strata_116 rfl ?_
                    first | refine nv_iadd hX dX2_strata_118 ?_ | refine rv_iadd hX dX2_strata_118 ?_
                    refine rv_invS hX iX2_82 mdJ12_max (j_max hG (d := d - 1) (by omega) (by omega)) (by omega) rfl rfl (Nat.le_of_ble_eq_true rfl) dX2_strata_119 (fun v h' hq => ?_) (fun E h' hq => by first | exact hq.elim | cases hq.2 | cases hq.1)
                    obtain ⟨rfl, hq⟩ := hq
                    cases hq
                    refine rv_goto hX 127 dX2_strata_122 (by decide) ?_
                    refine rv_istore hX dX2_strata_127 (rv_st_5 rfl) ?_
                    first | refine nv_iinc hX (m := 1) dX2_strata_129 rfl (by decide) (rv_st_6 rfl) ?_ | refine rv_iinc hX dX2_strata_129 rfl rfl (rv_st_6 rfl) ?_
                    refine rv_goto hX 45 dX2_strata_132 (by decide) ?_
                    first
                    | exact hih _ _ _ (hlo _ (by omega) hmo)
                    | exact hih _ _ _ (hhi (by omega))
        refine rv_iload_n hX dX2_strata_15 rfl ?_
        refine rv_aload_n hX dX2_strata_16 rfl ?_
        refine rv_getfR hX gX2_34_X2 (hS.f hW) rfl dX2_strata_17 ?_
        refine rv_invVR hX iX2_65 mdJ2_size (hS.f u1) ⟨TJ2, 3, rv_c17⟩ (j_size hG (d := d - 1) (hRl.mono (fun _ _ => hS.f)).L) (by omega) rfl rfl (Nat.le_of_ble_eq_true rfl) dX2_strata_20 (fun v h' hq => ?_) (fun E h' hq => by first | exact hq.elim | cases hq.2 | cases hq.1)
        obtain ⟨rfl, hq⟩ := hq
        cases hq
        rw [hrs]
        refine nv_icmp_ge hX 187 (by omega) (by omega) dX2_strata_23 (by decide) (fun q => absurd q (by omega)) (fun c_23 => ?_)
        refine rv_aload_n hX dX2_strata_26 rfl ?_
        refine rv_getfR hX gX2_34_X2 (hS.f hW) rfl dX2_strata_27 ?_
        refine rv_iload_n hX dX2_strata_30 rfl ?_
        refine rv_invVR hX iX2_69 mdJ2_get (hS.f u1) ⟨TJ2, 3, rv_c17⟩ (j_get hG (d := d - 1) (by omega) (hRl.mono (fun _ _ => hS.f)).L hca) (by omega) rfl rfl (Nat.le_of_ble_eq_true rfl) dX2_strata_31 (fun v h' hq => ?_) (fun E h' hq => by first | exact hq.elim | cases hq.2 | cases hq.1)
        obtain ⟨rfl, hq⟩ := hq
        cases hq
        refine rv_castOR hX (hS.f hc1) rv_c9 q1236 dX2_strata_34 ?_
        refine rv_astore hX dX2_strata_37 (rv_st_4 rfl) ?_
        refine nv_iconst hX (m := 0) (by decide) dX2_strata_39 ?_
        refine rv_istore hX dX2_strata_40 (rv_st_5 rfl) ?_
        refine nv_iconst hX (m := 0) (by decide) dX2_strata_42 ?_
        refine rv_istore hX dX2_strata_43 (rv_st_6 rfl) ?_
        exact loopI _ 0 _ _ (Nat.lt_succ_self _) (Nat.zero_le _)
  have loop : ∀ (sta z : Nat) (st : Nat → Nat) (sf : Nat → Int32) (x3 x4 x5 x6 x7 x8 : Option Value) (h1 : rv_H), 56 < z + sp_s8 st → (∀ i, st i < 8) → (∀ i, i < 8 → sf i = nI (st i)) → sp_strata R = sp_strt z R st → xS X.1 F h [] [(sta, cI 8 sf)] (n - 1) (m - 8) h1 → rv_V X h1 7 [some (.ref wd), some (.ref sta), some (.int (rv_z true)), x3, x4, x5, x6, x7, x8] [] := by
    intro sta z
    induction z with
    | zero => intro st sf x3 x4 x5 x6 x7 x8 h1 g1 g2; exact absurd (sp_s8_56 g2) (by omega)
    | succ z ih =>
      intro st sf x3 x4 x5 x6 x7 x8 h1 g1 g2 g3 g4 hS
      have g4' : sp_strata R = match sp_srnd R st false with
        | none => none
        | some (st', ch) => if ch = true then sp_strt z R st' else some st' := g4
      refine rv_iload_n hX dX2_strata_7 rfl ?_
      refine rv_if_eq hX 190 dX2_strata_8 (by decide) (fun q => absurd q (by decide)) (fun c_8 => ?_)
      refine nv_iconst hX (m := 0) (by decide) dX2_strata_11 ?_
      refine rv_istore_n hX dX2_strata_12 (rv_st_2 rfl) ?_
      refine nv_iconst hX (m := 0) (by decide) dX2_strata_13 ?_
      refine rv_istore_n hX dX2_strata_14 (rv_st_3 rfl) ?_
      refine rnd sta _ 0 st false sf _ _ _ _ _ (sp_srnd R st false) _ (Nat.lt_succ_self _) (Nat.zero_le _) g2 g3 (by rw [List.drop_zero]) (fun e => by rw [g4', e]) (fun st' ch' sf' x3' x4' x5' x6' x7' x8' h' e q1 q2 hS => ?_) hS
      rw [e] at g4'
      cases ch' with
      | true => exact ih st' sf' _ _ _ _ _ _ _ (by have := (sp_srnd_mono hrel e).2 rfl rfl; omega) q1 q2 (by rw [g4']; exact if_pos rfl) hS
      | false =>
        refine rv_iload_n hX dX2_strata_7 rfl ?_
        refine rv_if_eq hX 190 dX2_strata_8 (by decide) (fun c_8 => ?_) (fun q => absurd rfl q)
        refine rv_aload_n hX dX2_strata_190 rfl ?_
        refine rv_areturn hX hE (Or.inr ⟨_, rfl⟩) (Or.inr ⟨_, rfl⟩) ?_ dX2_strata_191
        exact ⟨sta, sf', st', rfl, by rw [g4']; exact if_neg (by decide), q2, hS⟩
  refine nv_bipush hX (m := 8) (by decide) dX2_strata_0 ?_
  refine xv_newI hX hS q548 (by omega) (by omega) (by omega) dX2_strata_2 (fun a_2 h_2 hS => ?_)
  refine rv_astore_n hX dX2_strata_4 (rv_st_1 rfl) ?_
  refine nv_iconst hX (m := 1) (by decide) dX2_strata_5 ?_
  refine rv_istore_n hX dX2_strata_6 (rv_st_2 rfl) ?_
  exact loop _ 57 (fun _ => 0) (fun _ => 0) _ _ _ _ _ _ _ (by omega) (fun _ => by decide) (fun _ _ => rfl) rfl hS
