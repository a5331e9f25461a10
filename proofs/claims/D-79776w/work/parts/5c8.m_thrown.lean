/-! THE REFERENCE: which exception the last call told -/
set_option maxRecDepth 100000
theorem m_thrown {G : rv_G} (hG : rv_GK G) {d : Nat} {σ : rv_S} : mC G d yX4_thrown wX4_thrown [] σ (mPi (fun r τ => τ = σ ∧ r = σ.1 0)) := by
  refine mv_start hG (by decide +kernel) (Nat.le_of_ble_eq_true rfl) (fun X Hb o hX1 hX hE => ?_)
  subst hX1
  show rv_V X (rv_mh Hb o _) 0 [some (.ref o)] []
  refine rv_aload_n hX dX4_thrown_0 rfl ?_
  refine mv_gi hX (k := 0) gX4_131_X4 (by decide) rfl dX4_thrown_1 ?_
  refine mv_reti hX hE dX4_thrown_4 ?_
  exact ⟨rfl, rfl⟩
