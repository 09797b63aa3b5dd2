/-! SPEC 16: what the law's loop keeps -/
set_option maxRecDepth 100000
def lnI (σ : MSt) (b : Nat) (ls : List (List Nat × List Nat)) (k : Nat) (r : Int32) (τ : MSt) : Prop := (r = 1 ∧ lnsR σ ls b τ ∧ b ≤ σ.1 7 ∧ σ.1 7 ≤ b + k ∧ lawRes σ = (if sgnT σ b = nI 59 then pLs (sgnT σ) (eAll σ) k (b + 1) ls else (true, b, ls))) ∨ (r = 0 ∧ gar σ τ ∧ τ.1 15 = b ∧ b ≤ σ.1 7 ∧ lawRes σ = (false, b, ls))
theorem lnsR_at {σ τ : MSt} {ls : List (List Nat × List Nat)} {b : Nat} (h : lnsR σ ls b τ) : lnsR σ ls (b + 1) (emS τ (b + 1) []) := by
  obtain ⟨k1, k2, k3, k4, k5, k6, k7⟩ := h
  have e : emS τ (b + 1) [] = sN τ 15 (b + 1) := by
    have := emS_at τ (τ.1 15) (b + 1) []
    rw [emS_0] at this
    exact this.symm
  rw [e]
  refine ⟨gar_sN k1 (by decide) _, ?_, ?_, ?_, ?_, by omega, ?_⟩
  · show va_up τ.1 15 (b + 1) 15 = b + 1
    exact va_up_self _ _ _
  · show va_up τ.1 15 (b + 1) 16 = 0
    rw [va_up_ne _ _ (by decide)]; exact k3
  · show va_up τ.1 15 (b + 1) 17 ≤ b + 1
    rw [va_up_ne _ _ (by decide)]; omega
  · show va_up τ.1 15 (b + 1) 18 = _
    rw [va_up_ne _ _ (by decide)]; exact k5
  · intro i q hq
    obtain ⟨a, a1, a2, a3, a4, a5⟩ := k7 i q hq
    exact ⟨a, a1, a2, a3, by show _ ≤ va_up τ.1 15 (b + 1) 17; rw [va_up_ne _ _ (by decide)]; exact a4, a5⟩
theorem lnI_step {σ τ τ' : MSt} {r : Int32} {a k : Nat} {ls : List (List Nat × List Nat)} (h : lnsR σ ls a τ) (ha : a ≤ σ.1 7) (h2 : 2 * ls.length ≤ a) (hk : σ.1 7 ≤ a + k) (hR : lawRes σ = pLs (sgnT σ) (eAll σ) (k + 1) a ls) (hp : lnPost τ r τ') : ∃ b ls', lnI σ b ls' k r τ' := by
  have hg := h.1
  have h15 := h.2.1
  unfold lnPost at hp
  rw [gar_sgn hg, gar_eAll hg, h15] at hp
  obtain ⟨p1, p2, p3⟩ := pl_good (σ := σ) ha
  rcases hp with ⟨c1, c2, c3⟩ | ⟨c1, c2, c3, c4⟩
  · refine ⟨(pLine (sgnT σ) (eAll σ) a).2.1, ls ++ [((pLine (sgnT σ) (eAll σ) a).2.2.1, (pLine (sgnT σ) (eAll σ) a).2.2.2)], Or.inl ⟨c2, ?_, p2, by omega, ?_⟩⟩
    · have hlt := pl_lt (σ := σ) ha c1
      rw [c3]
      exact lnsR_step h p1 (by omega) (by have := h.2.2.2.1; rw [List.length_append]; omega) (pl_wf c1)
    · rw [hR]
      show (if (pLine (sgnT σ) (eAll σ) a).1 = true then _ else _) = _
      rw [if_pos c1]
  · refine ⟨(pLine (sgnT σ) (eAll σ) a).2.1, ls, Or.inr ⟨c2, gar_trans hg c4, c3, p2, ?_⟩⟩
    rw [hR]
    show (if (pLine (sgnT σ) (eAll σ) a).1 = true then _ else _) = _
    rw [if_neg (by rw [c1]; exact Bool.noConfusion)]
theorem lnsR_0 (σ : MSt) : lnsR σ [] 0 (sN (sN (sN (sN σ 15 0) 16 0) 17 0) 18 0) := by
  refine ⟨gar_sN (gar_sN (gar_sN (gar_sN (gar_refl σ) (by decide) _) (by decide) _) (by decide) _) (by decide) _, ?_, ?_, ?_, ?_, Nat.zero_le _, fun i q h => absurd h (by simp)⟩
  · show va_up (va_up (va_up (va_up σ.1 15 0) 16 0) 17 0) 18 0 15 = 0
    rw [va_up_ne _ _ (by decide), va_up_ne _ _ (by decide), va_up_ne _ _ (by decide), va_up_self]
  · show va_up (va_up (va_up (va_up σ.1 15 0) 16 0) 17 0) 18 0 16 = 0
    rw [va_up_ne _ _ (by decide), va_up_ne _ _ (by decide), va_up_self]
  · show va_up (va_up (va_up (va_up σ.1 15 0) 16 0) 17 0) 18 0 17 ≤ 0
    rw [va_up_ne _ _ (by decide), va_up_self]; exact Nat.le_refl _
  · show va_up (va_up (va_up (va_up σ.1 15 0) 16 0) 17 0) 18 0 18 = 0
    exact va_up_self _ _ _
/-- the end of the loop -/
theorem lnI_so {σ τ : MSt} {b k : Nat} {ls : List (List Nat × List Nat)} {r : Int32} (h : lnI σ b ls k r τ) (h1 : ¬ r = 0) (h2 : ¬ sgnT σ b = nI 59) : lawRes σ = (true, b, ls) ∧ lnsR σ ls b τ := by
  obtain ⟨-, a2, a3, a4, a5⟩ := h.resolve_right (fun z => h1 z.1)
  rw [if_neg h2] at a5
  exact ⟨a5, a2⟩
theorem lnI_no {σ τ : MSt} {b k : Nat} {ls : List (List Nat × List Nat)} {r : Int32} (h : lnI σ b ls k r τ) (h1 : r = 0) : lawRes σ = (false, b, ls) ∧ gar σ τ ∧ τ.1 15 = b := by
  obtain ⟨-, a2, a3, a4, a5⟩ := h.resolve_left (fun z => absurd (h1.symm.trans z.1) (by decide))
  exact ⟨a5, a2, a3⟩
theorem cpS_sA_ne (σ : MSt) {k k' : Nat} (h : k ≠ k') (f : Nat → Int32) (i : Nat) (x : Int32) : sA (cpS σ k f) k' i x = cpS (sA σ k' i x) k f := by
  show (σ.1, va_up (va_up σ.2.1 k f) k' (va_up (va_up σ.2.1 k f k') i x), σ.2.2) = (σ.1, va_up (va_up σ.2.1 k' (va_up (σ.2.1 k') i x)) k f, σ.2.2)
  rw [va_up_ne _ _ (show k' ≠ k from fun z => h z.symm), up_comm σ.2.1 h]
/-- the same but for the tape's length, the law and what the reader writes down -/
def garL (σ τ : MSt) : Prop := (∀ k, ¬ (15 ≤ k ∧ k ≤ 18) → ¬ k = 7 → ¬ k = 9 → ¬ k = 10 → τ.1 k = σ.1 k) ∧ (∀ k, ¬ (19 ≤ k ∧ k ≤ 22) → ¬ (11 ≤ k ∧ k ≤ 14) → τ.2.1 k = σ.2.1 k) ∧ τ.2.2 = σ.2.2
def lawPost (σ : MSt) (r : Int32) (τ : MSt) : Prop := (lawSo σ ∧ r = 1 ∧ τ.1 7 = 0 ∧ garL σ τ ∧ lawM τ (some (lawRes σ).2.2)) ∨ (¬ lawSo σ ∧ r = -100 - nI (lawRes σ).2.1 ∧ gar (sN σ 7 0) τ)
theorem gar_sN7 {σ τ : MSt} (h : gar σ τ) (v : Nat) : gar (sN σ 7 v) (sN τ 7 v) := by
  refine ⟨fun k hk => ?_, h.2.1, h.2.2⟩
  show va_up τ.1 7 v k = va_up σ.1 7 v k
  by_cases q : k = 7
  · rw [q, va_up_self, va_up_self]
  · rw [va_up_ne _ _ q, va_up_ne _ _ q]; exact h.1 k hk
def lawW (τ : MSt) (f g e c : Nat → Int32) : MSt := cpS (cpS (cpS (cpS (sN (sN (sN τ 7 0) 9 1) 10 (τ.1 18)) 11 f) 12 g) 13 e) 14 c
theorem law_gar {σ τ : MSt} (h : gar σ τ) (f g e c : Nat → Int32) : garL σ (lawW τ f g e c) := by
  refine ⟨fun k h1 h2 h3 h4 => ?_, fun k h1 h2 => ?_, h.2.2⟩
  · show va_up (va_up (va_up τ.1 7 0) 9 1) 10 (τ.1 18) k = _
    rw [va_up_ne _ _ h4, va_up_ne _ _ h3, va_up_ne _ _ h2]; exact h.1 k h1
  · show va_up (va_up (va_up (va_up τ.2.1 11 f) 12 g) 13 e) 14 c k = _
    rw [va_up_ne _ _ (by omega), va_up_ne _ _ (by omega), va_up_ne _ _ (by omega), va_up_ne _ _ (by omega)]; exact h.2.1 k h1
theorem law_fin {σ τ : MSt} {ls : List (List Nat × List Nat)} {b : Nat} {f g e c : Nat → Int32} (h : lnsR σ ls b τ) (hb : b ≤ 120) (hf : ∀ j, j < τ.1 18 → f j = τ.2.1 19 j) (hg : ∀ j, j < τ.1 18 → g j = τ.2.1 20 j) (he : ∀ j, j < τ.1 18 → e j = τ.2.1 21 j) (hc : ∀ j, j < τ.1 17 → c j = τ.2.1 22 j) : lawM (lawW τ f g e c) (some ls) := by
  obtain ⟨k1, k2, k3, k4, k5, k6, k7⟩ := h
  refine ⟨rfl, ?_, by omega, fun i q hq => ?_⟩
  · show va_up (va_up (va_up τ.1 7 0) 9 1) 10 (τ.1 18) 10 = _
    rw [va_up_self]; exact k5
  · have hi : i < τ.1 18 := by
      rw [k5]
      rcases Nat.lt_or_ge i ls.length with z | z
      · exact z
      · rw [List.getElem?_eq_none z] at hq; exact absurd hq (by simp)
    obtain ⟨a, a1, a2, a3, a4, a5, a6, a7⟩ := k7 i q hq
    exact ⟨a, (hf i hi).trans a1, (hg i hi).trans a2, (he i hi).trans a3, by omega, sg_congr _ _ (fun j _ hj => (hc j (by omega)).symm) a5, sg_congr _ _ (fun j _ hj => (hc j (by omega)).symm) a6, a7⟩
theorem lnI_b {σ τ : MSt} {b k : Nat} {ls : List (List Nat × List Nat)} {r : Int32} (h : lnI σ b ls k r τ) : τ.1 15 = b ∧ b ≤ σ.1 7 ∧ τ.1 7 = σ.1 7 := by
  rcases h with ⟨-, a2, a3, -, -⟩ | ⟨-, a2, a3, a4, -⟩
  · exact ⟨a2.2.1, a3, gar_7 a2.1⟩
  · exact ⟨a3, a4, gar_7 a2⟩
