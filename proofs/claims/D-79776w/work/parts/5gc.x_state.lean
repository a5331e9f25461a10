/-! THE SYSTEM: its state -/
set_option maxRecDepth 100000
/-- what a group gives, and by which facts -/
def xTgm (C : sp_C) (F : List Nat) (f : Nat) (m : Int64) : Prop := (∃ key, key ∈ sp_keys C (sp_m F C.its (fun _ => none)) ∧ sp_gfact C (sp_m F C.its (fun _ => none)) key = f ∧ (∀ k, k < 62 → lb m k = sp_gf C.its (sp_grp C (sp_m F C.its (fun _ => none)) key) k) ∧ lb m 62 = true ∧ lb m 63 = false) ∨ ((∀ key, key ∈ sp_keys C (sp_m F C.its (fun _ => none)) → sp_gfact C (sp_m F C.its (fun _ => none)) key ≠ f) ∧ m = 0)
/-- the reasons of a world -/
def xRsn (G : rv_G) (rd : Nat → rv_C → Prop) (a : Nat) (w : wW) : Prop := ∃ (st tg dr dp xo : Nat) (ch : Int32) (r : Nat → Nat) (tf : Nat → Option Nat) (df : Nat → Int64) (pf : Nat → Int32), rd a (cO 11 [.ref st, .ref tg, .ref dr, .ref dp, .int ch, .ref xo]) ∧ xFc rd st w.F r ∧ rd tg (cQ w.R.length tf) ∧ rd dr (cL 60 df) ∧ rd dp (cI 60 pf) ∧ (∀ i f, w.F[i]? = some f → pf i = nI (sp_dpt w.R w.F w.kT f)) ∧ (∀ i j, i < w.F.length → j < 64 → (lb (df i) j = true ↔ sp_dir w.R w.F i j)) ∧ ∀ k C, w.R[k]? = some C → (C.gath = none → tf k = none) ∧ (C.gath ≠ none → ∃ ma mf, tf k = some ma ∧ rd ma (cL 60 mf) ∧ ∀ i f, w.F[i]? = some f → xTgm C w.F f (mf i))
/-- by what a fact stands -/
def xWy (rd : Nat → rv_C → Prop) (a : Nat) (w : wW) (f : Nat) : Prop := ∃ (fa : Nat) (ff : Nat → Int32) (rl : Int32), rd a (cO 13 [.int rl, .int (nI (sp_rsnF w.R w.F w.kT f).2.length), .ref fa]) ∧ rd fa (cI 60 ff) ∧ (match (sp_rsnF w.R w.F w.kT f).1 with
  | none => rl = nI 1000
  | some i => ∃ C, w.R[i]? = some C ∧ rl = nI C.num) ∧ ∀ k x, (sp_rsnF w.R w.F w.kT f).2[k]? = some x → ff k = nI x
def xRz (G : rv_G) (rd : Nat → rv_C → Prop) (w : wW) (rv lv : Value) (lf : Int32) : Prop := ∃ rs, rv = .ref rs ∧ xRsn G rd rs w ∧ (lv = .null ∨ ∃ a f, lv = .ref a ∧ lf = nI f ∧ f ∈ w.F ∧ xWy rd a w f)
/-- an item that is typed -/
def xDi (S : List Nat) (i : Nat) (it : sp_I) (N : xM) : Prop := ∃ tm tf, N = [(i, cO 10 [.int (nI it.1), .int (nI it.2.1), .ref tm, .int (nI it.2.2.length)]), (tm, cI (sp_tof S it) tf)] ∧ ∀ k t, it.2.2[k]? = some t → tf k = nI t
/-- the draft -/
def xDr (S : List Nat) (d : wDr) (dv : Value) (Nd : xM) : Prop := (d.k = 0 ∧ dv = .null ∧ Nd = []) ∨ (d.k ≠ 0 ∧ ∃ (cl hi ht bo ba : Nat) (nm gk md sal mc : Int32) (tl : Bool) (hf : Nat → Int32) (bf : Nat → Option Nat) (es : List Nat) (Ni : List xM), dv = .ref cl ∧ Nd = (cl, cO 9 [.int nm, .ref hi, .int (rv_oi (sp_gslot d.hts 0)), .int gk, .ref bo, .int (rv_z (decide (d.k = 2))), .int md, .int sal, .int (rv_z tl)]) :: (hi, cO 10 [.int (nI 0), .int (nI d.rel), .ref ht, .int (nI d.hts.length)]) :: (ht, cI (S.getD d.rel 0) hf) :: (bo, lO mc ba d.its.length) :: (ba, cR 6 bf) :: Ni.flatten ∧ (∀ k t, d.hts[k]? = some t → hf k = nI (xtm t)) ∧ (∀ s, sp_gslot d.hts 0 = some s → gk = nI ((d.hts.getD s 0 - 200) / 8)) ∧ (d.k = 2 → md = nI d.mod ∧ sal = d.sal ∧ tl = d.tells) ∧ (lsf es bf ∧ ∀ i v, es.length ≤ i → bf i = some v → False) ∧ (es.length = d.its.length ∧ Ni.length = d.its.length) ∧ ∀ (k i : Nat) (it : sp_I) (N : xM), es[k]? = some i → d.its[k]? = some it → Ni[k]? = some N → xDi S i it N)
/-- the system's state: Wg tells which world lies in which object -/
def xSt (G : rv_G) (F : xF) (xo : Nat) (s : wS) (M : xM) : Prop := ∃ (wd bg : Nat) (dv rv rw lv : Value) (lf : Int32) (Nb Nd : xM) (ws : List Nat) (Wg : Nat → Option wW), M = (xo, cO 0 [.ref wd, dv, .ref bg, rv, rw, lv, .int lf]) :: (Nb ++ Nd) ∧ ((∀ a w, Wg a = some w → xW G (xr G F) a w) ∧ Wg wd = some s.w) ∧ (xAL G bg ws Nb ∧ ws.length = s.b.length ∧ ∀ (i a : Nat) (w : wW), ws[i]? = some a → s.b[i]? = some w → Wg a = some w) ∧ xDr s.w.S s.d dv Nd ∧ (rw = .null ∨ ∃ w0 w, rw = .ref w0 ∧ Wg w0 = some w ∧ xRz G (xr G F) w rv lv lf)
/-- what a call leaves: ex the exceptions by their codes -/
def xOq (G : rv_G) (F : xF) (xo : Nat) (A : List Nat) (n m : Nat) (h : rv_H) (ex : List String) (vd : Bool) (a : wA) : rv_O → rv_H → Prop := fun o h' => ∃ F1 M1, xle F F1 h A ∧ xSt G F1 xo a.2.2 M1 ∧ xS G F1 h A M1 (n - 40000) (m - 200000) h' ∧ match o with
  | .inl u => a.1 = 0 ∧ u = if vd = true then none else some (.int a.2.1)
  | .inr E => ∃ i, ex[i]? = some E ∧ a.1 = i + 1
theorem xOq.ret {G : rv_G} {F : xF} {xo : Nat} {n m n' m' : Nat} {h h' : rv_H} {M : xM} {s : wS} {ex : List String} {v : Int32} (hSt : xSt G F xo s M) (hS : xS G F h (xad M) M n' m' h') (hn : n ≤ n' + 40000) (hm : m ≤ m' + 200000) : xOq G F xo (xad M) n m h ex false (0, v, s) (.inl (some (.int v))) h' := ⟨F, M, .rf, hSt, hS.bud (by omega) (by omega), rfl, rfl⟩
theorem xOq.thr {G : rv_G} {F : xF} {xo : Nat} {n m n' m' : Nat} {h h' : rv_H} {M : xM} {s : wS} {ex : List String} {vd : Bool} {a : wA} {E : String} {i : Nat} (ha : a.1 = i + 1 ∧ a.2.2 = s) (hi : ex[i]? = some E) (hSt : xSt G F xo s M) (hS : xS G F h (xad M) M n' m' h') (hn : n ≤ n' + 40000) (hm : m ≤ m' + 200000) : xOq G F xo (xad M) n m h ex vd a (.inr E) h' := by
  refine ⟨F, M, .rf, ?_, hS.bud (by omega) (by omega), i, hi, ha.1⟩
  rw [ha.2]
  exact hSt
theorem xSt.cell {G : rv_G} {F : xF} {xo : Nat} {s : wS} {M : xM} (h : xSt G F xo s M) : ∃ (wd : Nat) (a1 a2 a3 a4 a5 a6 : Value) (M' : xM), M = (xo, cO 0 [.ref wd, a1, a2, a3, a4, a5, a6]) :: M' ∧ xW G (xr G F) wd s.w := by
  obtain ⟨wd, bg, dv, rv, rw, lv, lf, Nb, Nd, ws, Wg, h1, ⟨h2, h3⟩, -⟩ := h
  exact ⟨wd, _, _, _, _, _, _, _, h1, h2 wd _ h3⟩
/-! checks -/
theorem xbx {G : rv_G} {h : rv_H} {a : Nat} {es xs : List Nat} (hE : es.length = xs.length ∧ ∀ (i e : Nat) (x : Nat), es[i]? = some e → xs[i]? = some x → xBx G (rv_rd G h) e x) {i x : Nat} (hx : xs[i]? = some x) : ∃ e, es[i]? = some e ∧ rv_rd G h e (cO 20 [.int (nI x)]) := by
  have hl := (List.getElem?_eq_some_iff.mp hx).1
  have hl2 : i < es.length := by rw [hE.1]; exact hl
  exact ⟨es[i], List.getElem?_eq_getElem hl2, Or.inr (hE.2 i _ x (List.getElem?_eq_getElem hl2) hx)⟩
theorem x_isProper {G : rv_G} (hG : rv_GK G) {d xo wd f : Nat} (hd : 3 ≤ d) {a1 a2 a3 a4 a5 a6 : Value} {w : wW} {h : rv_H} (hX0 : rv_rd G h xo (cO 0 [.ref wd, a1, a2, a3, a4, a5, a6])) (hW : xW G (rv_rd G h) wd w) (hS8 : w.S.length ≤ 8 ∧ ∀ n, n ∈ w.S → 1 ≤ n ∧ n ≤ 3) (hf : f / 1000000 < w.S.length) (hf2 : f < 2147483648) : rv_Call G d yX1_isProper wX1_isProper [.ref xo, .int (nI f)] h (xN (fun u h' => h' = h ∧ u = some (.int (rv_z (decide (sp_faultN w.S f = 0)))))) := by
  refine rv_start hG (by decide +kernel) (L := [some (.ref xo), some (.int (nI f)), none]) rfl (Nat.le_of_ble_eq_true rfl) (fun X hX1 hX hE => ?_)
  subst hX1
  obtain ⟨rel, ta, st, tg, ru, de, fi, sk, tf, r, ps, w1, ⟨es, hL, hes⟩, -⟩ := hW
  obtain ⟨lm, led, lcap, lf, l1, l2⟩ := id hL
  obtain ⟨k, hk⟩ : ∃ k, w.S[f / 1000000]? = some k := ⟨w.S[f / 1000000], List.getElem?_eq_getElem hf⟩
  have hk3 := hS8.2 k (List.mem_of_getElem? hk)
  obtain ⟨e, he, hb⟩ := xbx (a := rel) hes hk
  have hfn : sp_faultN w.S f = if (if k = 1 then f % 10000 else if k = 2 then f % 100 else 0) = 0 then 0 else 2 := by
    unfold sp_faultN
    rw [hk]
  have s1 : sp_slot f 1 = f / 100 % 100 := rfl
  have s2 : sp_slot f 2 = f % 100 := rfl
  have hT : (k = 1 → f % 10000 = 0) → (k = 2 → f % 100 = 0) → decide (sp_faultN w.S f = 0) = true := fun q1 q2 => by
    have e : (if k = 1 then f % 10000 else if k = 2 then f % 100 else 0) = 0 := by
      split
      · rename_i q; exact q1 q
      · split
        · rename_i q; exact q2 q
        · rfl
    rw [hfn, if_pos e]
    rfl
  have hN1 : k = 1 → f % 10000 ≠ 0 → decide (sp_faultN w.S f = 0) = false := fun q1 q2 => by
    rw [hfn, if_pos q1, if_neg q2]
    rfl
  have hN2 : k = 2 → f % 100 ≠ 0 → decide (sp_faultN w.S f = 0) = false := fun q1 q2 => by
    have e : (if k = 1 then f % 10000 else if k = 2 then f % 100 else 0) ≠ 0 := by
      rw [if_neg (by omega : ¬ k = 1), if_pos q1]
      exact q2
    rw [hfn, if_neg e]
    rfl
  refine rv_aload_n hX dX1_isProper_0 rfl ?_
  refine rv_getfR hX gX1_21_X1 hX0 rfl dX1_isProper_1 ?_
  refine rv_getfR hX gX1_55_X2 w1 rfl dX1_isProper_4 ?_
  refine rv_iload_n hX dX1_isProper_7 rfl ?_
  refine rv_invS hX iX1_66 mdX1_relationOf (x_relationOf hG (d := d - 1) hf2) (by omega) rfl rfl (Nat.le_of_ble_eq_true rfl) dX1_isProper_8 (fun v h' hq => ?_) (fun E h' hq => by first | exact hq.elim | cases hq.2 | cases hq.1)
  obtain ⟨rfl, hq⟩ := hq
  cases hq
  refine rv_invVR hX iX1_70 mdJ2_get l1 ⟨TJ2, 3, rv_c17⟩ (j_get hG (d := d - 1) (by omega) hL.L he) (by omega) rfl rfl (Nat.le_of_ble_eq_true rfl) dX1_isProper_11 (fun v h' hq => ?_) (fun E h' hq => by first | exact hq.elim | cases hq.2 | cases hq.1)
  obtain ⟨rfl, hq⟩ := hq
  cases hq
  refine rv_castOR hX hb rv_c20 q839 dX1_isProper_14 ?_
  refine rv_invVR hX iX1_74 mdJ17_intValue hb ⟨TJ17, 1, rv_c20⟩ (j_intValue hG (d := d - 1) hb) (by omega) rfl rfl (Nat.le_of_ble_eq_true rfl) dX1_isProper_17 (fun v h' hq => ?_) (fun E h' hq => by first | exact hq.elim | cases hq.2 | cases hq.1)
  obtain ⟨rfl, hq⟩ := hq
  cases hq
  refine rv_istore_n hX dX1_isProper_20 (rv_st_2 rfl) ?_
  refine rv_iload_n hX dX1_isProper_21 rfl ?_
  refine nv_iconst hX (m := 1) (by decide) dX1_isProper_22 ?_
  first | refine nv_icmp_gt hX 34 (by omega) (by omega) dX1_isProper_23 (by decide) (fun c_23 => ?_) (fun c_23 => ?_) | refine rv_icmp_gt hX 34 dX1_isProper_23 (by decide) (fun c_23 => ?_) (fun c_23 => ?_)
  · skip
    refine rv_iload_n hX dX1_isProper_34 rfl ?_
    refine nv_iconst hX (m := 2) (by decide) dX1_isProper_35 ?_
    first | refine nv_icmp_gt hX 47 (by omega) (by omega) dX1_isProper_36 (by decide) (fun c_36 => ?_) (fun c_36 => ?_) | refine rv_icmp_gt hX 47 dX1_isProper_36 (by decide) (fun c_36 => ?_) (fun c_36 => ?_)
    · skip
      refine nv_iconst hX (m := 1) (by decide) dX1_isProper_47 ?_
      refine rv_goto hX 52 dX1_isProper_48 (by decide) ?_
      refine rv_ireturn hX hE rfl ?_ dX1_isProper_52
      refine ⟨rfl, ?_⟩
      first
        | (rw [hT (fun _ => by omega) (fun _ => by omega)]; rfl)
        | (rw [hN1 (by omega) (by omega)]; rfl)
        | (rw [hN2 (by omega) (by omega)]; rfl)
    · skip
      refine rv_iload_n hX dX1_isProper_39 rfl ?_
      refine nv_iconst hX (m := 2) (by decide) dX1_isProper_40 ?_
      refine rv_invS hX iX1_77 mdX1_slotOf (x_slotOf hG (d := d - 1) hf2 (by omega)) (by omega) rfl rfl (Nat.le_of_ble_eq_true rfl) dX1_isProper_41 (fun v h' hq => ?_) (fun E h' hq => by first | exact hq.elim | cases hq.2 | cases hq.1)
      obtain ⟨rfl, hq⟩ := hq
      cases hq
      first | refine zv_if_ne hX 51 dX1_isProper_44 (by decide) (fun c_44 => ?_) (fun c_44 => ?_) | refine nv_if_ne hX 51 (by omega) dX1_isProper_44 (by decide) (fun c_44 => ?_) (fun c_44 => ?_) | refine rv_if_ne hX 51 dX1_isProper_44 (by decide) (fun c_44 => ?_) (fun c_44 => ?_)
      · skip
        refine nv_iconst hX (m := 0) (by decide) dX1_isProper_51 ?_
        refine rv_ireturn hX hE rfl ?_ dX1_isProper_52
        refine ⟨rfl, ?_⟩
        first
          | (rw [hT (fun _ => by omega) (fun _ => by omega)]; rfl)
          | (rw [hN1 (by omega) (by omega)]; rfl)
          | (rw [hN2 (by omega) (by omega)]; rfl)
      · skip
        refine nv_iconst hX (m := 1) (by decide) dX1_isProper_47 ?_
        refine rv_goto hX 52 dX1_isProper_48 (by decide) ?_
        refine rv_ireturn hX hE rfl ?_ dX1_isProper_52
        refine ⟨rfl, ?_⟩
        first
          | (rw [hT (fun _ => by omega) (fun _ => by omega)]; rfl)
          | (rw [hN1 (by omega) (by omega)]; rfl)
          | (rw [hN2 (by omega) (by omega)]; rfl)
  · skip
    refine rv_iload_n hX dX1_isProper_26 rfl ?_
    refine nv_iconst hX (m := 1) (by decide) dX1_isProper_27 ?_
    refine rv_invS hX iX1_77 mdX1_slotOf (x_slotOf hG (d := d - 1) hf2 (by omega)) (by omega) rfl rfl (Nat.le_of_ble_eq_true rfl) dX1_isProper_28 (fun v h' hq => ?_) (fun E h' hq => by first | exact hq.elim | cases hq.2 | cases hq.1)
    obtain ⟨rfl, hq⟩ := hq
    cases hq
    first | refine zv_if_ne hX 51 dX1_isProper_31 (by decide) (fun c_31 => ?_) (fun c_31 => ?_) | refine nv_if_ne hX 51 (by omega) dX1_isProper_31 (by decide) (fun c_31 => ?_) (fun c_31 => ?_) | refine rv_if_ne hX 51 dX1_isProper_31 (by decide) (fun c_31 => ?_) (fun c_31 => ?_)
    · skip
      refine nv_iconst hX (m := 0) (by decide) dX1_isProper_51 ?_
      refine rv_ireturn hX hE rfl ?_ dX1_isProper_52
      refine ⟨rfl, ?_⟩
      first
        | (rw [hT (fun _ => by omega) (fun _ => by omega)]; rfl)
        | (rw [hN1 (by omega) (by omega)]; rfl)
        | (rw [hN2 (by omega) (by omega)]; rfl)
    · skip
      refine rv_iload_n hX dX1_isProper_34 rfl ?_
      refine nv_iconst hX (m := 2) (by decide) dX1_isProper_35 ?_
      first | refine nv_icmp_gt hX 47 (by omega) (by omega) dX1_isProper_36 (by decide) (fun c_36 => ?_) (fun c_36 => ?_) | refine rv_icmp_gt hX 47 dX1_isProper_36 (by decide) (fun c_36 => ?_) (fun c_36 => ?_)
      · skip
        refine nv_iconst hX (m := 1) (by decide) dX1_isProper_47 ?_
        refine rv_goto hX 52 dX1_isProper_48 (by decide) ?_
        refine rv_ireturn hX hE rfl ?_ dX1_isProper_52
        refine ⟨rfl, ?_⟩
        first
          | (rw [hT (fun _ => by omega) (fun _ => by omega)]; rfl)
          | (rw [hN1 (by omega) (by omega)]; rfl)
          | (rw [hN2 (by omega) (by omega)]; rfl)
      · skip
        refine rv_iload_n hX dX1_isProper_39 rfl ?_
        refine nv_iconst hX (m := 2) (by decide) dX1_isProper_40 ?_
        refine rv_invS hX iX1_77 mdX1_slotOf (x_slotOf hG (d := d - 1) hf2 (by omega)) (by omega) rfl rfl (Nat.le_of_ble_eq_true rfl) dX1_isProper_41 (fun v h' hq => ?_) (fun E h' hq => by first | exact hq.elim | cases hq.2 | cases hq.1)
        obtain ⟨rfl, hq⟩ := hq
        cases hq
        first | refine zv_if_ne hX 51 dX1_isProper_44 (by decide) (fun c_44 => ?_) (fun c_44 => ?_) | refine nv_if_ne hX 51 (by omega) dX1_isProper_44 (by decide) (fun c_44 => ?_) (fun c_44 => ?_) | refine rv_if_ne hX 51 dX1_isProper_44 (by decide) (fun c_44 => ?_) (fun c_44 => ?_)
        · skip
          refine nv_iconst hX (m := 0) (by decide) dX1_isProper_51 ?_
          refine rv_ireturn hX hE rfl ?_ dX1_isProper_52
          refine ⟨rfl, ?_⟩
          first
            | (rw [hT (fun _ => by omega) (fun _ => by omega)]; rfl)
            | (rw [hN1 (by omega) (by omega)]; rfl)
            | (rw [hN2 (by omega) (by omega)]; rfl)
        · skip
          refine nv_iconst hX (m := 1) (by decide) dX1_isProper_47 ?_
          refine rv_goto hX 52 dX1_isProper_48 (by decide) ?_
          refine rv_ireturn hX hE rfl ?_ dX1_isProper_52
          refine ⟨rfl, ?_⟩
          first
            | (rw [hT (fun _ => by omega) (fun _ => by omega)]; rfl)
            | (rw [hN1 (by omega) (by omega)]; rfl)
            | (rw [hN2 (by omega) (by omega)]; rfl)
