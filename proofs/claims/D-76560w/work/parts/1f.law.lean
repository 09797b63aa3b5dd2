/-! SPEC 13: lines, the law told -/
set_option maxRecDepth 100000
theorem emS_sA (σ : MSt) (b : Nat) (cs : List Nat) {k : Nat} (hk : k ≠ 22) (i : Nat) (x : Int32) : sA (emS σ b cs) k i x = emS (sA σ k i x) b cs := by
  show (va_up (va_up σ.1 17 (σ.1 17 + cs.length)) 15 b, va_up (va_up σ.2.1 22 (appF (σ.2.1 22) (σ.1 17) cs)) k (va_up (va_up σ.2.1 22 (appF (σ.2.1 22) (σ.1 17) cs) k) i x), σ.2.2) = (va_up (va_up σ.1 17 (σ.1 17 + cs.length)) 15 b, va_up (va_up σ.2.1 k (va_up (σ.2.1 k) i x)) 22 (appF (va_up σ.2.1 k (va_up (σ.2.1 k) i x) 22) (σ.1 17) cs), σ.2.2)
  rw [va_up_ne _ _ hk, va_up_ne _ _ (show (22 : Nat) ≠ k from fun z => hk z.symm), up_comm σ.2.1 (show (22 : Nat) ≠ k from fun z => hk z.symm)]
theorem emS_sN (σ : MSt) (b : Nat) (cs : List Nat) {k : Nat} (h1 : k ≠ 15) (h2 : k ≠ 17) (v : Nat) : sN (emS σ b cs) k v = emS (sN σ k v) b cs := by
  show (va_up (va_up (va_up σ.1 17 (σ.1 17 + cs.length)) 15 b) k v, va_up σ.2.1 22 (appF (σ.2.1 22) (σ.1 17) cs), σ.2.2) = (va_up (va_up (va_up σ.1 k v) 17 (va_up σ.1 k v 17 + cs.length)) 15 b, va_up σ.2.1 22 (appF (σ.2.1 22) (va_up σ.1 k v 17) cs), σ.2.2)
  rw [va_up_ne _ _ (show (17 : Nat) ≠ k from fun z => h2 z.symm), up_comm (va_up σ.1 17 _) (show (15 : Nat) ≠ k from fun z => h1 z.symm), up_comm σ.1 (show (17 : Nat) ≠ k from fun z => h2 z.symm)]
/-- one line: whether it was one, where it ends, its question, its answer -/
def pLine (T : Nat → Int32) (E : Nat → Res) (a : Nat) : Bool × Nat × List Nat × List Nat :=
  if (E a).1 = true then (if T (E a).2.1 = nI 63 then ((E ((E a).2.1 + 1)).1, (E ((E a).2.1 + 1)).2.1, (E a).2.2, (E ((E a).2.1 + 1)).2.2) else (true, (E a).2.1, [], (E a).2.2)) else (false, (E a).2.1, [], (E a).2.2)
def eAll (σ : MSt) : Nat → Res := prE (sgnT σ) (σ.1 7) (prO (sgnT σ) (σ.1 7) 6) 5
/-- the new line's places -/
def lnX (σ : MSt) (q g : List Nat) : MSt := sA (sN (sA (sA σ 19 (σ.1 18) (nI (σ.1 17))) 20 (σ.1 18) (nI (σ.1 17 + q.length))) 18 (σ.1 18 + 1)) 21 (σ.1 18) (nI (σ.1 17 + (q ++ g).length))
/-- the same but for what the reader writes down as it goes -/
def gar (σ τ : MSt) : Prop := (∀ k, ¬ (15 ≤ k ∧ k ≤ 18) → τ.1 k = σ.1 k) ∧ (∀ k, ¬ (19 ≤ k ∧ k ≤ 22) → τ.2.1 k = σ.2.1 k) ∧ τ.2.2 = σ.2.2
theorem gar_refl (σ : MSt) : gar σ σ := ⟨fun _ _ => rfl, fun _ _ => rfl, rfl⟩
theorem gar_trans {σ τ υ : MSt} (h : gar σ τ) (g : gar τ υ) : gar σ υ := ⟨fun k hk => (g.1 k hk).trans (h.1 k hk), fun k hk => (g.2.1 k hk).trans (h.2.1 k hk), g.2.2.trans h.2.2⟩
theorem gar_sA {σ τ : MSt} (h : gar σ τ) {k : Nat} (hk : 19 ≤ k ∧ k ≤ 22) (i : Nat) (x : Int32) : gar σ (sA τ k i x) := ⟨h.1, fun j hj => (up2_n _ _ _ (show j ≠ k from fun z => hj (z ▸ hk))).trans (h.2.1 j hj), h.2.2⟩
theorem gar_sN {σ τ : MSt} (h : gar σ τ) {k : Nat} (hk : 15 ≤ k ∧ k ≤ 18) (v : Nat) : gar σ (sN τ k v) := ⟨fun j hj => (va_up_ne _ _ (show j ≠ k from fun z => hj (z ▸ hk))).trans (h.1 j hj), h.2.1, h.2.2⟩
theorem gar_cp {σ τ : MSt} (h : gar σ τ) (f : Nat → Int32) : gar σ (cpS τ 22 f) := ⟨h.1, fun j hj => (va_up_ne _ _ (show j ≠ 22 by omega)).trans (h.2.1 j hj), h.2.2⟩
theorem gar_emS {σ τ : MSt} (h : gar σ τ) (b : Nat) (cs : List Nat) : gar σ (emS τ b cs) := gar_sN (gar_sN (gar_cp h _) (by decide) _) (by decide) _
def lnPost (σ : MSt) (r : Int32) (τ : MSt) : Prop := ((pLine (sgnT σ) (eAll σ) (σ.1 15)).1 = true ∧ r = 1 ∧ τ = emS (lnX σ (pLine (sgnT σ) (eAll σ) (σ.1 15)).2.2.1 (pLine (sgnT σ) (eAll σ) (σ.1 15)).2.2.2) (pLine (sgnT σ) (eAll σ) (σ.1 15)).2.1 ((pLine (sgnT σ) (eAll σ) (σ.1 15)).2.2.1 ++ (pLine (sgnT σ) (eAll σ) (σ.1 15)).2.2.2)) ∨ ((pLine (sgnT σ) (eAll σ) (σ.1 15)).1 = false ∧ r = 0 ∧ τ.1 15 = (pLine (sgnT σ) (eAll σ) (σ.1 15)).2.1 ∧ gar σ τ)
theorem pl_bad {T : Nat → Int32} {E : Nat → Res} {a : Nat} (h : ¬ (E a).1 = true) : pLine T E a = (false, (E a).2.1, [], (E a).2.2) := if_neg h
theorem pl_one {T : Nat → Int32} {E : Nat → Res} {a : Nat} (h : (E a).1 = true) (g : ¬ T (E a).2.1 = nI 63) : pLine T E a = (true, (E a).2.1, [], (E a).2.2) := by unfold pLine; rw [if_pos h]; exact if_neg g
theorem pl_two {T : Nat → Int32} {E : Nat → Res} {a : Nat} (h : (E a).1 = true) (g : T (E a).2.1 = nI 63) : pLine T E a = ((E ((E a).2.1 + 1)).1, (E ((E a).2.1 + 1)).2.1, (E a).2.2, (E ((E a).2.1 + 1)).2.2) := by unfold pLine; rw [if_pos h]; exact if_pos g
theorem pl_good {σ : MSt} {a : Nat} (ha : a ≤ σ.1 7) : a ≤ (pLine (sgnT σ) (eAll σ) a).2.1 ∧ (pLine (sgnT σ) (eAll σ) a).2.1 ≤ σ.1 7 ∧ (pLine (sgnT σ) (eAll σ) a).2.2.1.length + (pLine (sgnT σ) (eAll σ) a).2.2.2.length + a ≤ (pLine (sgnT σ) (eAll σ) a).2.1 := by
  have hL := sgnT_lim σ
  have hG : good (σ.1 7) (eAll σ) := good_prE hL (good_prO hL 6) 5
  obtain ⟨g1, g2, g3, g4⟩ := hG a ha
  by_cases h : (eAll σ a).1 = true
  · by_cases g : sgnT σ (eAll σ a).2.1 = nI 63
    · rw [pl_two h g]
      obtain ⟨i1, i2, i3, i4⟩ := hG ((eAll σ a).2.1 + 1) (sgnT_lt g (by decide))
      exact ⟨by show a ≤ (eAll σ ((eAll σ a).2.1 + 1)).2.1; omega, i2, by show (eAll σ a).2.2.length + (eAll σ ((eAll σ a).2.1 + 1)).2.2.length + a ≤ (eAll σ ((eAll σ a).2.1 + 1)).2.1; omega⟩
    · rw [pl_one h g]
      exact ⟨g1, g2, by show 0 + (eAll σ a).2.2.length + a ≤ (eAll σ a).2.1; omega⟩
  · rw [pl_bad h]
    exact ⟨g1, g2, by show 0 + (eAll σ a).2.2.length + a ≤ (eAll σ a).2.1; omega⟩
