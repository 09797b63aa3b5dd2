/-! X: shelves: plain laws -/
set_option maxRecDepth 100000
theorem hoB {b : Nat} (hb : b < 60) : ¬ nI (10 + b) = -1 ∧ ¬ inN (nI (10 + b)) 5 := by
  refine ⟨fun w => ?_, fun w => ?_⟩
  · have := congrArg Int32.toNatClampNeg w
    rw [nI_clamp (by omega)] at this
    exact absurd this (by show ¬ 10 + b = 0; omega)
  · obtain ⟨h1, h2⟩ := inN_cl (by decide) w
    rw [nI_clamp (by omega)] at h1
    omega
theorem hoR {k : Nat} (hk : k < 5) : ¬ nI k = -1 ∧ inN (nI k) 5 := by
  refine ⟨fun w => ?_, k, hk, rfl⟩
  have := nI_pos (n := k) (by omega)
  rw [w] at this
  exact this (by decide)
/-- rows hold what their kind keeps -/
def kpOK (σ : MSt) : Prop := ∀ s k, s < 6 → rowK σ s = some k → ∀ j, j < lenN σ s → rowV k (σ.2.2 (60 * s + j)) = σ.2.2 (60 * s + j)
