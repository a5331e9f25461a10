/-! THE REFERENCE: by which rule a fact stands -/
set_option maxRecDepth 100000
theorem m_givesWith {G : rv_G} (hG : rv_GK G) {d : Nat} (hd : 7 ≤ d) {σ : rv_S} {S F : List Nat} {b f dp : Nat} {C : sp_C} {dep : Nat → Nat} (hB : mBF σ S F b C) (hsr : sp_srt F) (h60 : F.length ≤ 60) (hcl : ∀ f, f ∈ sp_give F C → f ∈ F) (hdp : mDep σ dep) (hf8 : f < 8000000) (hdl : dp ≤ 1000000) : mC G d yX4_givesWith wX4_givesWith [.int (nI b), .int (nI f), .int (nI dp)] σ (mPz (fun r τ => rv_same [31, 32, 33, 34, 39, 48] [26, 27, 28, 29, 30, 31, 32, 33, 34, 37] σ τ ∧ r = (sp_why1 F C dep f dp).isSome ∧ mRsn τ ((sp_why1 F C dep f dp).getD []))) := by
  refine mv_start hG (by decide +kernel) (Nat.le_of_ble_eq_true rfl) (fun X Hb o hX1 hX hE => ?_)
  subst hX1
  show rv_V X (rv_mh Hb o _) 0 [some (.ref o), some (.int (nI b)), some (.int (nI f)), some (.int (nI dp)), none] []
  have hb17 := hB.2.2.2.2
  have hbds := hB.hd.bds
  have hl3 := hbds.2.2.1
  have hl6 := hB.2.2.2.1.len.2
  have mats : C.gath = none → ∀ (n : Nat) (P Q : List sp_Q) (τ : rv_S), Q.length < n → P ++ Q = sp_m F C.its (fun _ => none) → P.find? (sp_w1 F C dep f dp) = none → mRun τ F C.its Q → rv_same [31, 32, 33, 34, 39, 48] [26, 27, 28, 29, 30, 31, 32, 33, 34, 37] σ τ → mCfg τ S F b (fun p => p) C.its → mRsn τ [] → rv_V X (rv_mh Hb o τ) 90 [some (.ref o), some (.int (nI b)), some (.int (nI f)), some (.int (nI dp)), none] [] := by
    intro hgn n
    induction n with
    | zero => intro P Q τ h; omega
    | succ n ih =>
      intro P Q τ hn hPQ hPf hr hsm hc hrs
      refine rv_aload_n hX dX4_givesWith_90 rfl ?_
      refine mv_callz hX iX4_218 rfl mdX4_nextMatch (m_nextMatch hG (d := d - 1) (by omega) hc hr) (by omega) rfl rfl (Nat.le_of_ble_eq_true rfl) dX4_givesWith_91 (fun r_91 τ_91 h_91 => ?_)
      obtain ⟨n1, n2, n3⟩ := h_91
      first | refine zv_if_eq hX 183 dX4_givesWith_94 (by decide) (fun c_94 => ?_) (fun c_94 => ?_) | refine nv_if_eq hX 183 (by omega) dX4_givesWith_94 (by decide) (fun c_94 => ?_) (fun c_94 => ?_) | refine rv_if_eq hX 183 dX4_givesWith_94 (by decide) (fun c_94 => ?_) (fun c_94 => ?_)
      · skip
        refine nv_iconst hX (m := 0) (by decide) dX4_givesWith_183 ?_
        refine mv_retz hX hE (b := false) rfl dX4_givesWith_184 ?_
        have hQ0 : Q = [] := by
          cases Q with
          | nil => rfl
          | cons q T =>
            have := (n2 q.1 q.2 T rfl).1
            rw [c_94] at this
            cases this
        subst hQ0
        rw [List.append_nil] at hPQ
        have he : sp_why1 F C dep f dp = none := by
          unfold sp_why1
          rw [if_pos hgn, ← hPQ, hPf]
          rfl
        rw [he]
        exact ⟨hsm.tr (n1.mn (by decide) (by decide)), rfl, hrs.same n1 (by decide) (by decide)⟩
      · skip
        obtain ⟨q, T9, hR⟩ : ∃ q T, Q = q :: T := by
          cases Q with
          | nil => have := n3 rfl; rw [c_94] at this; cases this
          | cons q T => exact ⟨q, T, rfl⟩
        subst hR
        have hm := (n2 q.1 q.2 T9 rfl).2
        have hqm : q ∈ sp_m F C.its (fun _ => none) := by rw [← hPQ]; exact List.mem_append_right _ List.mem_cons_self
        obtain ⟨kn1, kn2⟩ := hB.2.2.2.1.known hqm
        have hsm2 := hsm.tr (n1.mn (fs' := [31, 32, 33, 34, 39, 48]) (js' := [26, 27, 28, 29, 30, 31, 32, 33, 34, 37]) (by decide) (by decide))
        have hB2 := hB.same hsm2 (by decide)
        have hc2 := hc.same n1 (by decide) (by decide)
        have hdc2 := hdp.same hsm2 (by decide)
        have hmx := sp_mxd_le hdc2.2 (sp_atk C.its q.1)
        have hrs2 := hrs.same n1 (by decide) (by decide)
        have hkey : sp_key C q < 8000000 := by
          have h1 := sp_hsum_lt (g := 0) hm.val.2 (by decide) C.hts hl3
          have h2 := hbds.1
          unfold sp_key sp_hfact
          omega
        refine rv_aload_n hX dX4_givesWith_97 rfl ?_
        refine rv_iload_n hX dX4_givesWith_98 rfl ?_
        refine mv_calli hX iX4_222 rfl mdX4_headFact (m_headFact hG (d := d - 1) (by omega) hB2.hd hm.val kn1) (by omega) rfl rfl (Nat.le_of_ble_eq_true rfl) dX4_givesWith_99 (fun r_99 τ_99 h_99 => ?_)
        obtain ⟨rfl, rfl⟩ := h_99
        show rv_V X _ _ _ (.int (nI (sp_key C q)) :: _)
        refine rv_iload_n hX dX4_givesWith_102 rfl ?_
        first | refine nv_icmp_ne hX 90 (by omega) (by omega) dX4_givesWith_103 (by decide) (fun c_103 => ?_) (fun c_103 => ?_) | refine rv_icmp_ne hX 90 dX4_givesWith_103 (by decide) (fun c_103 => ?_) (fun c_103 => ?_)
        · skip
          have hwf : sp_w1 F C dep f dp q = false := by
            unfold sp_w1
            rw [Bool.and_eq_false_iff]
            first
              | (left; simpa using c_103)
              | (right; simpa using c_113)
          refine ih (P ++ [q]) T9 _ (by have : T9.length + 1 < n + 1 := hn; omega) (by rw [List.append_assoc]; exact hPQ) ?_ (Or.inr ⟨q.1, q.2, hm⟩) hsm2 hc2 hrs2
          rw [sp_find_app hPf, List.find?_cons_of_neg (by rw [hwf]; decide)]
          rfl
        · skip
          refine nv_iconst hX (m := 1) (by decide) dX4_givesWith_106 ?_
          refine rv_aload_n hX dX4_givesWith_107 rfl ?_
          refine mv_calli hX iX4_225 rfl mdX4_matchDepth (m_matchDepth hG (d := d - 1) (by omega) hc2 hm.tri (hm.dep hdc2) hdc2.2) (by omega) rfl rfl (Nat.le_of_ble_eq_true rfl) dX4_givesWith_108 (fun r_108 τ_108 h_108 => ?_)
          obtain ⟨rfl, rfl⟩ := h_108
          first | refine nv_iadd hX dX4_givesWith_111 ?_ | refine rv_iadd hX dX4_givesWith_111 ?_
          refine rv_iload_n hX dX4_givesWith_112 rfl ?_
          first | refine nv_icmp_ne hX 90 (by omega) (by omega) dX4_givesWith_113 (by decide) (fun c_113 => ?_) (fun c_113 => ?_) | refine rv_icmp_ne hX 90 dX4_givesWith_113 (by decide) (fun c_113 => ?_) (fun c_113 => ?_)
          · skip
            have hwf : sp_w1 F C dep f dp q = false := by
              unfold sp_w1
              rw [Bool.and_eq_false_iff]
              first
                | (left; simpa using c_103)
                | (right; simpa using c_113)
            refine ih (P ++ [q]) T9 _ (by have : T9.length + 1 < n + 1 := hn; omega) (by rw [List.append_assoc]; exact hPQ) ?_ (Or.inr ⟨q.1, q.2, hm⟩) hsm2 hc2 hrs2
            rw [sp_find_app hPf, List.find?_cons_of_neg (by rw [hwf]; decide)]
            rfl
          · skip
            refine nv_iconst hX (m := 0) (by decide) dX4_givesWith_116 ?_
            refine rv_istore hX dX4_givesWith_117 (rv_st_4 rfl) ?_
            have hwt : sp_w1 F C dep f dp q = true := by
              unfold sp_w1
              rw [Bool.and_eq_true]
              exact ⟨by simpa using c_103, by simpa using c_113⟩
            have he : sp_why1 F C dep f dp = some (sp_fs F (sp_atk C.its q.1)) := by
              unfold sp_why1
              rw [if_pos hgn, ← hPQ, sp_find_app hPf, List.find?_cons_of_pos hwt]
              rfl
            have hkl := hm.tri.1
            have items : ∀ (m s : Nat) (υ : rv_S), s ≤ C.its.length → C.its.length - s < m → rv_same [48] [37] τ_108 υ → mRsn υ (sp_fs F (sp_atk (C.its.take s) (q.1.take s))) → rv_V X (rv_mh Hb o υ) 119 [some (.ref o), some (.int (nI b)), some (.int (nI f)), some (.int (nI dp)), some (.int (nI s))] [] := by
              intro m
              induction m with
              | zero => intro s υ i1 i2; omega
              | succ m ihm =>
                intro s υ i1 i2 i3 i4
                have hlen9 : (sp_fs F (sp_atk (C.its.take s) (q.1.take s))).length ≤ s := by
                  unfold sp_fs
                  rw [List.length_map]
                  have : ∀ (a : List sp_I) (b : List Nat), (sp_atk a b).length ≤ a.length := by
                    intro a
                    induction a with
                    | nil => intro b; exact Nat.le_refl _
                    | cons x a iha =>
                      intro b
                      cases b with
                      | nil => exact Nat.zero_le _
                      | cons y b =>
                        have := iha b
                        show (if x.1 = 0 then y :: sp_atk a b else sp_atk a b).length ≤ a.length + 1
                        split
                        · rw [List.length_cons]; omega
                        · omega
                  have := this (C.its.take s) (q.1.take s)
                  rw [List.length_take] at this
                  omega
                have hBu := hB2.same i3 (by decide)
                have hmu := hm.same i3 (by decide) (by decide)
                refine rv_iload hX dX4_givesWith_119 rfl ?_
                refine rv_aload_n hX dX4_givesWith_121 rfl ?_
                refine mv_ga hX (k := 6) (j := 6) gX4_25_X4 (by decide) rfl (by decide) dX4_givesWith_122 ?_
                refine rv_iload_n hX dX4_givesWith_125 rfl ?_
                refine mv_ld hX (j := 6) (by decide) (by decide) rfl (by decide) (show _ < 17 by omega) dX4_givesWith_126 ?_
                rw [hBu.2.2.1.len]
                first | refine nv_icmp_ge hX 181 (by omega) (by omega) dX4_givesWith_127 (by decide) (fun c_127 => ?_) (fun c_127 => ?_) | refine rv_icmp_ge hX 181 dX4_givesWith_127 (by decide) (fun c_127 => ?_) (fun c_127 => ?_)
                · skip
                  have hs : s = C.its.length := by omega
                  refine nv_iconst hX (m := 1) (by decide) dX4_givesWith_181 ?_
                  refine mv_retz hX hE (b := true) rfl dX4_givesWith_182 ?_
                  rw [he]
                  refine ⟨hsm2.tr (i3.mn (by decide) (by decide)), rfl, ?_⟩
                  rw [hs, List.take_length, List.take_of_length_le (by omega)] at i4
                  exact i4
                · skip
                  obtain ⟨it, hit⟩ : ∃ it, C.its[s]? = some it := ⟨C.its[s], List.getElem?_eq_getElem (by omega)⟩
                  obtain ⟨k, hk⟩ : ∃ k, q.1[s]? = some k := ⟨q.1[s]'(by omega), List.getElem?_eq_getElem (by omega)⟩
                  have hI := hBu.2.2.1.its s it hit
                  have hwI := (hB.2.2.2.1.its it (List.mem_of_getElem? hit)).1
                  obtain ⟨ht1, ht2⟩ := hmu.tri.2 s k hk
                  have hat := sp_atk_take hkl hit hk
                  refine rv_aload_n hX dX4_givesWith_130 rfl ?_
                  refine mv_ga hX (k := 47) (j := 37) gX4_119_X4 (by decide) rfl (by decide) dX4_givesWith_131 ?_
                  refine rv_aload_n hX dX4_givesWith_134 rfl ?_
                  refine mv_gi hX (k := 48) gX4_344_X4 (by decide) rfl dX4_givesWith_135 ?_
                  rw [i4.1]
                  refine rv_aload_n hX dX4_givesWith_138 rfl ?_
                  refine mv_ga hX (k := 15) (j := 15) gX4_52_X4 (by decide) rfl (by decide) dX4_givesWith_139 ?_
                  refine rv_aload_n hX dX4_givesWith_142 rfl ?_
                  refine mv_ga hX (k := 36) (j := 27) gX4_88_X4 (by decide) rfl (by decide) dX4_givesWith_143 ?_
                  refine rv_iload hX dX4_givesWith_146 rfl ?_
                  refine mv_ld hX (j := 27) (by decide) (by decide) rfl (by decide) (show _ < 6 by omega) dX4_givesWith_148 ?_
                  rw [ht1]
                  refine mv_ld hX (j := 15) (by decide) (by decide) rfl (by decide) (show _ < 62 by omega) dX4_givesWith_149 ?_
                  refine mv_st hX (j := 37) (by decide) (by decide) rfl (by decide) (show _ < 62 by omega) dX4_givesWith_150 ?_
                  refine rv_aload_n hX dX4_givesWith_151 rfl ?_
                  refine rv_dup hX dX4_givesWith_152 rfl ?_
                  refine mv_gi hX (k := 48) gX4_344_X4 (by decide) rfl dX4_givesWith_153 ?_
                  rw [show ∀ v, (rv_sU υ 37 (sp_fs F (sp_atk (C.its.take s) (q.1.take s))).length v).1 48 = υ.1 48 from fun _ => rfl, i4.1]
                  refine rv_aload_n hX dX4_givesWith_156 rfl ?_
                  refine rv_iload_n hX dX4_givesWith_157 rfl ?_
                  refine rv_iload hX dX4_givesWith_158 rfl ?_
                  refine mv_calli hX iX4_148 rfl mdX4_kindOf (m_kindOf hG (d := d - 1) (by omega)) (by omega) rfl rfl (Nat.le_of_ble_eq_true rfl) dX4_givesWith_160 (fun r_160 τ_160 h_160 => ?_)
                  obtain ⟨rfl, rfl⟩ := h_160
                  rw [rv_sU_2, if_neg (by omega), hI.1]
                  first | refine zv_if_ne hX 170 dX4_givesWith_163 (by decide) (fun c_163 => ?_) (fun c_163 => ?_) | refine nv_if_ne hX 170 (by omega) dX4_givesWith_163 (by decide) (fun c_163 => ?_) (fun c_163 => ?_) | refine rv_if_ne hX 170 dX4_givesWith_163 (by decide) (fun c_163 => ?_) (fun c_163 => ?_)
                  · skip
                    refine nv_iconst hX (m := 0) (by decide) dX4_givesWith_170 ?_
                    first | refine nv_iadd hX dX4_givesWith_171 ?_ | refine rv_iadd hX dX4_givesWith_171 ?_
                    refine mv_pi hX (k := 48) pX4_344_X4 (by decide) rfl rfl rfl dX4_givesWith_172 ?_
                    first | refine nv_iinc hX (m := 1) dX4_givesWith_175 rfl (by decide) (rv_st_4 rfl) ?_ | refine rv_iinc hX dX4_givesWith_175 rfl rfl (rv_st_4 rfl) ?_
                    refine rv_goto hX 119 dX4_givesWith_178 (by decide) ?_
                    first
                      | (have hkF : k < F.length := by
                           refine sp_m_ks hqm k ?_
                           have h8 : k ∈ sp_atk (C.its.take (s + 1)) (q.1.take (s + 1)) := by rw [hat, if_pos c_163]; exact List.mem_append_right _ (List.mem_singleton.mpr rfl)
                           have h2 : ∀ (a c : List sp_I) (b e : List Nat), a.length = b.length → ∀ x, x ∈ sp_atk a b → x ∈ sp_atk (a ++ c) (b ++ e) := by
                             intro a
                             induction a with
                             | nil => intro c b e _ x hx; cases hx
                             | cons y a iha =>
                               intro c b e hl x hx
                               cases b with
                               | nil => cases hl
                               | cons z b =>
                                 have hx' : x ∈ (if y.1 = 0 then z :: sp_atk a b else sp_atk a b) := hx
                                 show x ∈ (if y.1 = 0 then z :: sp_atk (a ++ c) (b ++ e) else sp_atk (a ++ c) (b ++ e))
                                 split at hx'
                                 · rename_i q
                                   rw [if_pos q]
                                   rcases List.mem_cons.mp hx' with rfl | hx'
                                   · exact List.mem_cons_self
                                   · exact List.mem_cons_of_mem _ (iha c b e (Nat.succ.inj hl) x hx')
                                 · rename_i q
                                   rw [if_neg q]
                                   exact iha c b e (Nat.succ.inj hl) x hx'
                           have h3 := h2 _ (C.its.drop (s + 1)) _ (q.1.drop (s + 1)) (by rw [List.length_take, List.length_take, hkl]) _ h8
                           rw [List.take_append_drop, List.take_append_drop] at h3
                           exact h3
                         have hkf : F[k]? = some (F.getD k 0) := by rw [List.getD_eq_getElem?_getD, List.getElem?_eq_getElem hkF]; rfl
                         have hfa := hBu.2.1.2.2.2 k _ hkf
                         rw [hfa]
                         refine ihm (s + 1) _ (by omega) (by omega) (i3.tr ((rv_same.u (by decide)).tr (.f (by decide)))) ?_
                         have h4 := i4.put (f := F.getD k 0) (n := nI ((sp_fs F (sp_atk (C.its.take s) (q.1.take s))).length + 1)) true rfl
                         rw [if_pos rfl] at h4
                         rw [hat, if_pos c_163]
                         unfold sp_fs
                         rw [List.map_append]
                         exact h4)
                      | (refine ihm (s + 1) _ (by omega) (by omega) (i3.tr ((rv_same.u (by decide)).tr (.f (by decide)))) ?_
                         rw [hat, if_neg (by omega), List.append_nil]
                         refine ⟨by rw [rv_sF_1, if_pos rfl]; rfl, fun j g e => ?_⟩
                         rw [rv_sF_2, rv_sU_2, if_neg (by have := (List.getElem?_eq_some_iff.mp e).1; omega)]
                         exact i4.2 j g e)
                  · skip
                    refine nv_iconst hX (m := 1) (by decide) dX4_givesWith_166 ?_
                    refine rv_goto hX 171 dX4_givesWith_167 (by decide) ?_
                    first | refine nv_iadd hX dX4_givesWith_171 ?_ | refine rv_iadd hX dX4_givesWith_171 ?_
                    refine mv_pi hX (k := 48) pX4_344_X4 (by decide) rfl rfl rfl dX4_givesWith_172 ?_
                    first | refine nv_iinc hX (m := 1) dX4_givesWith_175 rfl (by decide) (rv_st_4 rfl) ?_ | refine rv_iinc hX dX4_givesWith_175 rfl rfl (rv_st_4 rfl) ?_
                    refine rv_goto hX 119 dX4_givesWith_178 (by decide) ?_
                    first
                      | (have hkF : k < F.length := by
                           refine sp_m_ks hqm k ?_
                           have h8 : k ∈ sp_atk (C.its.take (s + 1)) (q.1.take (s + 1)) := by rw [hat, if_pos c_163]; exact List.mem_append_right _ (List.mem_singleton.mpr rfl)
                           have h2 : ∀ (a c : List sp_I) (b e : List Nat), a.length = b.length → ∀ x, x ∈ sp_atk a b → x ∈ sp_atk (a ++ c) (b ++ e) := by
                             intro a
                             induction a with
                             | nil => intro c b e _ x hx; cases hx
                             | cons y a iha =>
                               intro c b e hl x hx
                               cases b with
                               | nil => cases hl
                               | cons z b =>
                                 have hx' : x ∈ (if y.1 = 0 then z :: sp_atk a b else sp_atk a b) := hx
                                 show x ∈ (if y.1 = 0 then z :: sp_atk (a ++ c) (b ++ e) else sp_atk (a ++ c) (b ++ e))
                                 split at hx'
                                 · rename_i q
                                   rw [if_pos q]
                                   rcases List.mem_cons.mp hx' with rfl | hx'
                                   · exact List.mem_cons_self
                                   · exact List.mem_cons_of_mem _ (iha c b e (Nat.succ.inj hl) x hx')
                                 · rename_i q
                                   rw [if_neg q]
                                   exact iha c b e (Nat.succ.inj hl) x hx'
                           have h3 := h2 _ (C.its.drop (s + 1)) _ (q.1.drop (s + 1)) (by rw [List.length_take, List.length_take, hkl]) _ h8
                           rw [List.take_append_drop, List.take_append_drop] at h3
                           exact h3
                         have hkf : F[k]? = some (F.getD k 0) := by rw [List.getD_eq_getElem?_getD, List.getElem?_eq_getElem hkF]; rfl
                         have hfa := hBu.2.1.2.2.2 k _ hkf
                         rw [hfa]
                         refine ihm (s + 1) _ (by omega) (by omega) (i3.tr ((rv_same.u (by decide)).tr (.f (by decide)))) ?_
                         have h4 := i4.put (f := F.getD k 0) (n := nI ((sp_fs F (sp_atk (C.its.take s) (q.1.take s))).length + 1)) true rfl
                         rw [if_pos rfl] at h4
                         rw [hat, if_pos c_163]
                         unfold sp_fs
                         rw [List.map_append]
                         exact h4)
                      | (refine ihm (s + 1) _ (by omega) (by omega) (i3.tr ((rv_same.u (by decide)).tr (.f (by decide)))) ?_
                         rw [hat, if_neg (by omega), List.append_nil]
                         refine ⟨by rw [rv_sF_1, if_pos rfl]; rfl, fun j g e => ?_⟩
                         rw [rv_sF_2, rv_sU_2, if_neg (by have := (List.getElem?_eq_some_iff.mp e).1; omega)]
                         exact i4.2 j g e)
            exact items _ 0 _ (Nat.zero_le _) (Nat.lt_succ_self _) .rf hrs2
  have grps : ∀ (s t : Nat) (P : List sp_Q), C.gath = some s → C.hts[s]? = some t → 200 ≤ t → P = sp_m F C.its (fun _ => none) → ∀ (υ : rv_S), rv_same [31, 32, 33, 34, 39, 48] [26, 27, 28, 29, 30, 31, 32, 33, 34, 37] σ υ → mGr υ C dep ((t - 200) % 8) P (sp_keys C P) → mRsn υ [] → ∀ (n j : Nat), j ≤ (sp_keys C P).length → (sp_keys C P).length - j < n → ((sp_keys C P).take j).find? (sp_w2 C P dep f dp) = none → rv_V X (rv_mh Hb o υ) 21 [some (.ref o), some (.int (nI b)), some (.int (nI f)), some (.int (nI dp)), some (.int (nI j))] [] := by
    intro s t P hs ht ht2 hP υ h3 h4 hrs n
    have hgt : C.gt = t := by
      unfold sp_C.gt
      rw [hs]
      exact sp_getD ht
    have hgx : C.gx = (t - 200) % 8 := by unfold sp_C.gx; rw [hgt]
    have hgne : C.gath ≠ none := by rw [hs]; simp
    have hs3 := (List.getElem?_eq_some_iff.mp ht).1
    have hB2 := hB.same h3 (by decide)
    have hK61 := h4.2.1
    induction n with
    | zero => intro j h1 h2; omega
    | succ n ih =>
      intro j h1 h2 hno
      refine rv_iload hX dX4_givesWith_21 rfl ?_
      refine rv_aload_n hX dX4_givesWith_23 rfl ?_
      refine mv_gi hX (k := 39) gX4_208_X4 (by decide) rfl dX4_givesWith_24 ?_
      rw [h4.1]
      first | refine nv_icmp_ge hX 73 (by omega) (by omega) dX4_givesWith_27 (by decide) (fun c_27 => ?_) (fun c_27 => ?_) | refine rv_icmp_ge hX 73 dX4_givesWith_27 (by decide) (fun c_27 => ?_) (fun c_27 => ?_)
      · skip
        refine nv_iconst hX (m := 0) (by decide) dX4_givesWith_73 ?_
        refine mv_retz hX hE (b := false) rfl dX4_givesWith_74 ?_
        have hke : (sp_keys C P).take j = sp_keys C P := List.take_of_length_le (by omega)
        rw [hke] at hno
        have he : sp_why1 F C dep f dp = none := by
          unfold sp_why1
          rw [if_neg hgne, ← hP, hno]
          rfl
        rw [he]
        exact ⟨h3, rfl, hrs⟩
      · skip
        obtain ⟨key, hkey⟩ : ∃ key, (sp_keys C P)[j]? = some key := ⟨(sp_keys C P)[j], List.getElem?_eq_getElem (by omega)⟩
        have hkm := List.mem_of_getElem? hkey
        obtain ⟨k1, k2, k3, k4, k5, k6⟩ := h4.2.2 j key hkey
        have hex : ∃ a, a < 100 ∧ sp_hasv ((t - 200) % 8) (sp_grp C P key) a = true := by
          obtain ⟨q, hq⟩ := sp_grp_ne hkm
          have hqP : q ∈ sp_m F C.its (fun _ => none) := by rw [← hP]; exact (List.mem_filter.mp hq).1
          obtain ⟨y, hy⟩ := Option.isSome_iff_exists.mp ((hB.2.2.2.1.known hqP).2 t (List.mem_of_getElem? ht) ht2)
          refine ⟨y, sp_m_bd sp_none_bd q hqP _ y hy, ?_⟩
          unfold sp_hasv
          rw [List.any_eq_true]
          exact ⟨q, hq, by rw [hy]; simp⟩
        have hgf : sp_gfact C P key = key + sp_wt s * sp_min99 (sp_agg ((t - 200) / 8) (sp_hasv ((t - 200) % 8) (sp_grp C P key))) := by
          unfold sp_gfact
          rw [hgt, hgx, hs]
          rfl
        have hgF : sp_gfact C P key ∈ F := hcl _ (by unfold sp_give; rw [if_neg hgne, ← hP]; exact List.mem_map.mpr ⟨key, hkm, rfl⟩)
        have hg8 := hB.2.1.2.2.1 _ hgF
        have hgd0 := sp_gd_le (dep := dep) (its := C.its) (m := 1000000) hdp.2 (sp_grp C P key)
        have htk := sp_take_get hkey
        refine rv_aload_n hX dX4_givesWith_30 rfl ?_
        refine rv_iload_n hX dX4_givesWith_31 rfl ?_
        refine rv_iload hX dX4_givesWith_32 rfl ?_
        refine mv_calli hX iX4_248 rfl mdX4_groupFact (m_groupFact hG (d := d - 1) (by omega) hB2.hd hB2.2.2.2.1.hts hs ht (by omega) k1 k2 k3 k4 hex) (by omega) rfl rfl (Nat.le_of_ble_eq_true rfl) dX4_givesWith_34 (fun r_34 τ_34 h_34 => ?_)
        obtain ⟨rfl, rfl⟩ := h_34
        rw [← hgf]
        refine rv_iload_n hX dX4_givesWith_37 rfl ?_
        first | refine nv_icmp_ne hX 67 (by omega) (by omega) dX4_givesWith_38 (by decide) (fun c_38 => ?_) (fun c_38 => ?_) | refine rv_icmp_ne hX 67 dX4_givesWith_38 (by decide) (fun c_38 => ?_) (fun c_38 => ?_)
        · skip
          first | refine nv_iinc hX (m := 1) dX4_givesWith_67 rfl (by decide) (rv_st_4 rfl) ?_ | refine rv_iinc hX dX4_givesWith_67 rfl rfl (rv_st_4 rfl) ?_
          refine rv_goto hX 21 dX4_givesWith_70 (by decide) ?_
          have hwf : sp_w2 C P dep f dp key = false := by
            unfold sp_w2
            rw [Bool.and_eq_false_iff]
            first
              | (left; simpa using c_38)
              | (right; simpa using c_51)
          refine ih (j + 1) (by omega) (by omega) ?_
          rw [htk, sp_find_app hno, List.find?_cons_of_neg (by rw [hwf]; decide)]
          rfl
        · skip
          refine nv_iconst hX (m := 1) (by decide) dX4_givesWith_41 ?_
          refine rv_aload_n hX dX4_givesWith_42 rfl ?_
          refine mv_ga hX (k := 43) (j := 33) gX4_107_X4 (by decide) rfl (by decide) dX4_givesWith_43 ?_
          refine rv_iload hX dX4_givesWith_46 rfl ?_
          refine mv_ld hX (j := 33) (by decide) (by decide) rfl (by decide) (show _ < 62 by omega) dX4_givesWith_48 ?_
          rw [k5]
          first | refine nv_iadd hX dX4_givesWith_49 ?_ | refine rv_iadd hX dX4_givesWith_49 ?_
          refine rv_iload_n hX dX4_givesWith_50 rfl ?_
          first | refine nv_icmp_ne hX 67 (by omega) (by omega) dX4_givesWith_51 (by decide) (fun c_51 => ?_) (fun c_51 => ?_) | refine rv_icmp_ne hX 67 dX4_givesWith_51 (by decide) (fun c_51 => ?_) (fun c_51 => ?_)
          · skip
            first | refine nv_iinc hX (m := 1) dX4_givesWith_67 rfl (by decide) (rv_st_4 rfl) ?_ | refine rv_iinc hX dX4_givesWith_67 rfl rfl (rv_st_4 rfl) ?_
            refine rv_goto hX 21 dX4_givesWith_70 (by decide) ?_
            have hwf : sp_w2 C P dep f dp key = false := by
              unfold sp_w2
              rw [Bool.and_eq_false_iff]
              first
                | (left; simpa using c_38)
                | (right; simpa using c_51)
            refine ih (j + 1) (by omega) (by omega) ?_
            rw [htk, sp_find_app hno, List.find?_cons_of_neg (by rw [hwf]; decide)]
            rfl
          · skip
            refine rv_aload_n hX dX4_givesWith_54 rfl ?_
            refine rv_aload_n hX dX4_givesWith_55 rfl ?_
            refine mv_ga hX (k := 44) (j := 34) gX4_110_X4 (by decide) rfl (by decide) dX4_givesWith_56 ?_
            refine rv_iload hX dX4_givesWith_59 rfl ?_
            refine mv_lld hX (j := 34) (by decide) (by decide) rfl (by decide) (show _ < 62 by omega) dX4_givesWith_61 ?_
            refine mv_callv hX iX4_347 rfl mdX4_layReasons (m_layReasons hG (d := d - 1) hB2.2.1 h60 hrs k6) (by omega) rfl rfl (Nat.le_of_ble_eq_true rfl) dX4_givesWith_62 (fun τ_62 h_62 => ?_)
            obtain ⟨y1, y2⟩ := h_62
            refine nv_iconst hX (m := 1) (by decide) dX4_givesWith_65 ?_
            refine mv_retz hX hE (b := true) rfl dX4_givesWith_66 ?_
            have hwt : sp_w2 C P dep f dp key = true := by
              unfold sp_w2
              rw [Bool.and_eq_true]
              exact ⟨by simpa using c_38, by simpa using c_51⟩
            have he : sp_why1 F C dep f dp = some (sp_bitsk F (sp_gf C.its (sp_grp C P key)) F.length) := by
              unfold sp_why1
              rw [if_neg hgne, ← hP]
              have h8 : sp_keys C P = (sp_keys C P).take j ++ (sp_keys C P).drop j := (List.take_append_drop _ _).symm
              rw [h8, sp_find_app hno, sp_drop_get hkey, List.find?_cons_of_pos hwt]
              rfl
            rw [he]
            exact ⟨h3.tr (y1.mn (by decide) (by decide)), rfl, y2⟩
  have hZ : rv_same [48] [] σ (rv_sF σ 48 (nI 0)) := .f (by decide)
  have hZ2 := hZ.mn (fs' := [31, 32, 33, 34, 39, 48]) (js' := [26, 27, 28, 29, 30, 31, 32, 33, 34, 37]) (by decide) (by decide)
  have hR0 : mRsn (rv_sF σ 48 (nI 0)) [] := ⟨by rw [rv_sF_1, if_pos rfl]; rfl, fun k g e => by cases e⟩
  refine rv_aload_n hX dX4_givesWith_0 rfl ?_
  refine nv_iconst hX (m := 0) (by decide) dX4_givesWith_1 ?_
  refine mv_pi hX (k := 48) pX4_344_X4 (by decide) rfl rfl rfl dX4_givesWith_2 ?_
  refine rv_aload_n hX dX4_givesWith_5 rfl ?_
  refine rv_iload_n hX dX4_givesWith_6 rfl ?_
  refine mv_callz hX iX4_236 rfl mdX4_isGathering (m_isGathering hG (d := d - 1) (hB.same hZ (by decide)).hd) (by omega) rfl rfl (Nat.le_of_ble_eq_true rfl) dX4_givesWith_7 (fun r_7 τ_7 h_7 => ?_)
  obtain ⟨rfl, hg⟩ := h_7
  first | refine zv_if_eq hX 75 dX4_givesWith_10 (by decide) (fun c_10 => ?_) (fun c_10 => ?_) | refine nv_if_eq hX 75 (by omega) dX4_givesWith_10 (by decide) (fun c_10 => ?_) (fun c_10 => ?_) | refine rv_if_eq hX 75 dX4_givesWith_10 (by decide) (fun c_10 => ?_) (fun c_10 => ?_)
  · skip
    have hgn : C.gath = none := by
      have : (sp_gslot C.hts 0).isSome = false := hg.symm.trans c_10
      cases e : C.gath with
      | none => rfl
      | some s =>
        have e' : sp_gslot C.hts 0 = some s := e
        rw [e'] at this
        cases this
    refine rv_aload_n hX dX4_givesWith_75 rfl ?_
    refine mv_callv hX iX4_211 rfl mdX4_forget (m_forget hG (d := d - 1)) (by omega) rfl rfl (Nat.le_of_ble_eq_true rfl) dX4_givesWith_76 (fun τ_76 h_76 => ?_)
    obtain ⟨f1, f2, f3⟩ := h_76
    refine rv_aload_n hX dX4_givesWith_79 rfl ?_
    refine rv_iload_n hX dX4_givesWith_80 rfl ?_
    refine rv_aload_n hX dX4_givesWith_81 rfl ?_
    refine mv_ga hX (k := 6) (j := 6) gX4_25_X4 (by decide) rfl (by decide) dX4_givesWith_82 ?_
    refine rv_iload_n hX dX4_givesWith_85 rfl ?_
    refine mv_ld hX (j := 6) (by decide) (by decide) rfl (by decide) (show _ < 17 by omega) dX4_givesWith_86 ?_
    rw [f3.2.1 6 (by decide), hZ.2.1 6 (by decide), hB.2.2.1.len]
    refine mv_callv hX iX4_214 rfl mdX4_beginMatches (m_beginMatches hG (d := d - 1)) (by omega) rfl rfl (Nat.le_of_ble_eq_true rfl) dX4_givesWith_87 (fun τ_87 h_87 => ?_)
    obtain ⟨g1, g2, g3, g4, g5, g6⟩ := h_87
    have hS1 := hZ2.tr (f3.mn (by decide) (by decide))
    have hS2 := hS1.tr (g6.mn (by decide) (by decide))
    exact mats hgn _ [] _ τ_87 (Nat.lt_succ_self _) rfl rfl (Or.inl ⟨fun _ => none, ⟨f1.same g6 (by decide), f2.same g6 (by decide), g3, g4, sp_snd.okA hB.2.2.2.1.its (sp_has_none _) hB.2.2.2.1.snd⟩, rfl⟩) hS2 ((hB.same hS2 (by decide)).cfg' g1 g2 g5) ((hR0.same f3 (by decide) (by decide)).same g6 (by decide) (by decide))
  · skip
    obtain ⟨s, hs⟩ := Option.isSome_iff_exists.mp (hg.symm.trans c_10)
    obtain ⟨_, t, ht', ht2⟩ := sp_gslot_get hs
    have ht : C.hts[s]? = some t := by rw [Nat.sub_zero] at ht'; exact ht'
    refine rv_aload_n hX dX4_givesWith_13 rfl ?_
    refine rv_iload_n hX dX4_givesWith_14 rfl ?_
    refine mv_callv hX iX4_245 rfl mdX4_gatherAll (m_gatherAll hG (d := d - 1) (by omega) (hB.same hZ (by decide)) (hdp.same hZ (by decide)) hs ht) (by omega) rfl rfl (Nat.le_of_ble_eq_true rfl) dX4_givesWith_15 (fun τ_15 h_15 => ?_)
    obtain ⟨a1, P, Q, a2, a3, a4⟩ := h_15
    refine nv_iconst hX (m := 0) (by decide) dX4_givesWith_18 ?_
    refine rv_istore hX dX4_givesWith_19 (rv_st_4 rfl) ?_
    have hk60 := sp_closed_keys hl3 hs ht ht2 hsr h60 hcl a2
    have hQ : Q = [] := by
      rcases a4 with a4 | a4
      · exact a4
      · omega
    subst hQ
    rw [List.append_nil] at a2
    exact grps s t P hs ht ht2 a2 _ (hZ2.tr (a1.mn (by decide) (by decide))) a3 (hR0.same a1 (by decide) (by decide)) _ 0 (Nat.zero_le _) (Nat.lt_succ_self _) rfl
