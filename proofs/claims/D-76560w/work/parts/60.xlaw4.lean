/-! X: plain laws: a promise in thought -/
set_option maxRecDepth 100000
def sWhat0 (v : HV) (t : Nat) (o : Int32) (kd ls x k w : Nat) : Prop := sStands (pNew v.1 v.2.2.1 o (-1) (nI w) (nI kd) (nI ls) (nI t), v.2.1, v.2.2.1 + 1, v.2.2.2) t o (nI x) k
theorem ar_ext {σ τ : MSt} (h1 : τ.1 = σ.1) (h2 : ∀ k i, τ.2.1 k i = σ.2.1 k i) (h3 : τ.2.2 = σ.2.2) : τ = σ := by
  obtain ⟨a, b, c⟩ := τ
  obtain ⟨a', b', c'⟩ := σ
  have h1 : a = a' := h1
  have h3 : c = c' := h3
  have h2 : b = b' := funext fun k => funext fun i => h2 k i
  rw [h1, h2, h3]
theorem addS_one {σ : MSt} (o kd ls : Int32) (hn : σ.1 2 < 15) : sA (addS σ o (-1) (nI 0) kd) 3 (30 + σ.1 2) ls = tOne σ o (nI 0) kd ls := by
  refine ar_ext rfl (fun k i => ?_) rfl
  unfold addS tOne bOne
  simp only [sA_2, sN_2]
  by_cases h3 : k = 3
  · subst h3
    by_cases a1 : i = 30 + σ.1 2
    · subst a1; first | (simp; done) | (simp; intros; omega)
    · simp [a1, sN_1]
  · simp [h3, sN_1]
theorem tOne_w {σ : MSt} (o w w' kd ls : Int32) (hn : σ.1 2 < 15) : sA (tOne σ o w kd ls) 3 (σ.1 2) w' = tOne σ o w' kd ls := by
  refine ar_ext rfl (fun k i => ?_) rfl
  unfold tOne bOne
  simp only [sA_2, sN_2]
  by_cases h3 : k = 3
  · subst h3
    by_cases a1 : i = σ.1 2
    · subst a1
      simp
      repeat rw [if_neg (by omega)]
    · simp [a1]
  · simp [h3]
theorem byOK.thk {σ : MSt} (h : byOK σ) {o : Int32} (ho : inN o (σ.1 0)) (w kd ls : Int32) : byOK (tOne σ o w kd ls) := fun p hp => by
  have hp : p < σ.1 2 + 1 := hp
  have e4 : (tOne σ o w kd ls).2.1 4 p = if p = σ.1 2 then o else σ.2.1 4 p := by
    unfold tOne bOne
    simp only [sA_2, sN_2]
    by_cases q : p = σ.1 2 <;> simp [q]
  rw [e4]
  by_cases q : p = σ.1 2
  · rw [if_pos q]
    obtain ⟨j, hj, rfl⟩ := ho
    exact ⟨j, hj, rfl⟩
  · rw [if_neg q]
    exact h p (by omega)
theorem tOne_eq {σ : MSt} (o w kd ls : Int32) (hn : σ.1 2 < 15) : xEq (sN (tOne σ o w kd ls) 2 (σ.1 2)) σ := by
  refine ⟨rfl, fun k _ _ _ _ => ?_, fun p hp => ?_, fun k _ h3 h4 h5 _ => ?_, rfl⟩
  · show σ.1 k = va_up (va_up σ.1 2 (σ.1 2 + 1)) 2 (σ.1 2) k
    unfold va_up
    by_cases h : k = 2 <;> simp [h]
  · have hp : p < σ.1 2 := hp
    show xP σ p = xP (bOne (sN σ 2 (σ.1 2 + 1)) (σ.1 2) o (-1) w kd ls) p
    rw [bOne_at _ hn _ _ _ _ _ (by omega), if_neg (by omega)]
    rfl
  · exact (bOne_ne (sN σ 2 (σ.1 2 + 1)) (σ.1 2) o (-1) w kd ls h3 h4 h5).symm
