/-! bits of longs -/
set_option maxRecDepth 100000
def lb (w : Int64) (k : Nat) : Bool := w.toBitVec.getLsbD k
theorem lb_or (a b : Int64) (k : Nat) : lb (a ||| b) k = (lb a k || lb b k) := by
  unfold lb
  rw [Int64.toBitVec_or, BitVec.getLsbD_or]
theorem lb_0 (k : Nat) : lb 0 k = false := by
  show (BitVec.ofNat 64 0).getLsbD k = false
  simp
theorem lb_sh : ∀ v : Fin 64, (nI v.1).toInt64 &&& 63 = Int64.ofNat v.1 := by decide +kernel
theorem lb_one {v : Nat} (hv : v < 64) (k : Nat) : lb ((1 : Int64) <<< ((nI v).toInt64 &&& 63)) k = decide (k = v) := by
  rw [lb_sh ⟨v, hv⟩]
  unfold lb
  rw [Int64.toBitVec_shiftLeft]
  have e : ((Int64.ofNat v).toBitVec.smod 64) = BitVec.ofNat 64 v := (show ∀ v : Fin 64, ((Int64.ofNat v.1).toBitVec.smod 64) = BitVec.ofNat 64 v.1 by decide +kernel) ⟨v, hv⟩
  show ((1 : BitVec 64) <<< ((Int64.ofNat v).toBitVec.smod 64)).getLsbD k = _
  rw [e, BitVec.shiftLeft_eq']
  have e2 : (BitVec.ofNat 64 v).toNat = v := by rw [BitVec.toNat_ofNat]; omega
  rw [e2, BitVec.getLsbD_shiftLeft]
  have e3 : ∀ j, (1 : BitVec 64).getLsbD j = decide (j = 0) := fun j => by
    have := BitVec.getLsbD_one (w := 64) (i := j)
    simpa using this
  rw [e3]
  by_cases h : k = v
  · subst h
    simp [hv]
  · by_cases g : k < v
    · simp [g, h]
    · have : ¬ k - v = 0 := by omega
      simp [this, h]
theorem lb_test {v : Nat} (hv : v < 64) (w : Int64) : (w >>> ((nI v).toInt64 &&& 63)) &&& 1 = 1 ↔ lb w v = true := by
  rw [lb_sh ⟨v, hv⟩]
  unfold lb
  have e : ((Int64.ofNat v).toBitVec.smod 64) = BitVec.ofNat 64 v := (show ∀ v : Fin 64, ((Int64.ofNat v.1).toBitVec.smod 64) = BitVec.ofNat 64 v.1 by decide +kernel) ⟨v, hv⟩
  have e2 : (BitVec.ofNat 64 v).toNat = v := by rw [BitVec.toNat_ofNat]; omega
  rw [← Int64.toBitVec_inj, Int64.toBitVec_and, Int64.toBitVec_shiftRight]
  show (w.toBitVec.sshiftRight' ((Int64.ofNat v).toBitVec.smod 64)) &&& (1 : BitVec 64) = (1 : BitVec 64) ↔ _
  rw [e]
  show (w.toBitVec.sshiftRight (BitVec.ofNat 64 v).toNat) &&& (1 : BitVec 64) = (1 : BitVec 64) ↔ _
  rw [e2]
  have e3 : ∀ j, (1 : BitVec 64).getLsbD j = decide (j = 0) := fun j => by
    have := BitVec.getLsbD_one (w := 64) (i := j)
    simpa using this
  have h0 : (w.toBitVec.sshiftRight v).getLsbD 0 = w.toBitVec.getLsbD v := by
    rw [BitVec.getLsbD_sshiftRight]
    simp [hv]
  constructor
  · intro h
    have := congrArg (fun x => BitVec.getLsbD x 0) h
    simp only [BitVec.getLsbD_and, e3, h0] at this
    simpa using this
  · intro h
    apply BitVec.eq_of_getLsbD_eq
    intro i hi
    rw [BitVec.getLsbD_and, e3]
    by_cases q : i = 0
    · subst q
      rw [h0, h]
      rfl
    · simp [q]
theorem lb_cmp (a b : Int64) : lg_cmp a b = 0 ↔ a = b := by
  unfold lg_cmp
  split
  · rename_i h
    exact ⟨fun e => absurd e (by decide), fun e => by subst e; exact absurd h (by simp)⟩
  · split
    · rename_i h1 h2
      exact ⟨fun _ => by simpa using h2, fun _ => rfl⟩
    · rename_i h1 h2
      exact ⟨fun e => absurd e (by decide), fun e => absurd e (by simpa using h2)⟩
