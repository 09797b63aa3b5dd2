/-! X: one promise more; fewer -/
set_option maxRecDepth 100000
/-- a promise more, not counted as promised -/
def addS (σ : MSt) (b t w kd : Int32) : MSt := sN (bOne σ (σ.1 2) b t w kd (nI 30)) 2 (σ.1 2 + 1)
theorem bOne_at (σ : MSt) {n : Nat} (hn : n < 15) (b t w kd ls : Int32) {q : Nat} (hq : q < 15) : xP (bOne σ n b t w kd ls) q = if q = n then [.int b, .int t, .int w, .int kd, .int ls, .int (nI (σ.1 6)), .int (nI 0)] else xP σ q := by
  unfold xP bOne
  simp only [sA_2]
  by_cases h : q = n
  · subst h
    simp
  · rw [if_neg h]
    repeat rw [if_neg (by omega)]
theorem new_prom {D : va_G} {Λ : LT} {I : AH} {L : LawT} {σ : MSt} {a : Nat} {b t w kd : Int32} {h : AH} {nm km kd0 : Nat → Int32} (hm : σ.1 2 < 14) (hIa : I a = none) (hr : XR Λ I L (hid σ nm km kd0)) (hw : XW D (Λ.1, upR Λ.2 1 (σ.1 2) (some a)) (hup I a (.inr (4, [.int b, .int t, .int w, .int kd, .int (nI 30), .int (nI (σ.1 6)), .int (nI 0)]))) (hid σ nm km kd0) h) : XH D (upL Λ.1 2 (σ.1 2) a, upR Λ.2 1 (σ.1 2) (some a)) I L (addS σ b t w kd) (hup h (Λ.1 0 38) (.inr (0, (xF (Λ.1, upR Λ.2 1 (σ.1 2) (some a)) σ).set 3 (.int (nI (σ.1 2 + 1)))))) := by
  have hb : ∀ j, j ≠ 3 → j ≠ 4 → j ≠ 5 → (addS σ b t w kd).2.1 j = σ.2.1 j := fun j h3 h4 h5 => bOne_ne _ _ _ _ _ _ _ h3 h4 h5
  have hs1 : ∀ j, j ≠ 3 → j ≠ 4 → j ≠ 5 → (hid (addS σ b t w kd) nm km kd0).2.1 j = (hid σ nm km kd0).2.1 j := fun j h3 h4 h5 => hid_congr (hb j h3 h4 h5)
  have hxP : ∀ q, xP (hid (addS σ b t w kd) nm km kd0) q = xP (bOne σ (σ.1 2) b t w kd (nI 30)) q := fun q => rfl
  refine ⟨nm, km, kd0, ?_, ?_⟩
  · obtain ⟨r1, r2, r3, r4, r5, r6, r7⟩ := hr
    have e29 := hs1 29 (by decide) (by decide) (by decide)
    have e33 := hs1 33 (by decide) (by decide) (by decide)
    have e35 := hs1 35 (by decide) (by decide) (by decide)
    have e38 := hs1 38 (by decide) (by decide) (by decide)
    refine ⟨fun i hi => ?_, fun i hi => ?_, fun i hi => ?_, ⟨fun i hi => ?_, fun i hi => ?_⟩, fun i hi => ?_, fun s hs => ?_, ?_⟩
    · exact r1 i hi
    · have hi : i < σ.1 2 + 1 := hi
      show upR Λ.2 1 (σ.1 2) (some a) 1 i = some (upL Λ.1 2 (σ.1 2) a 2 i)
      rw [upR_k, upL_at]
      by_cases q : i = σ.1 2
      · rw [q, va_up_self, if_pos ⟨rfl, rfl⟩]
      · rw [va_up_ne _ _ q, if_neg (fun z => q z.2)]
        exact r2 i (by show i < σ.1 2; omega)
    · rw [e33]; exact r3 i hi
    · rw [e29]; exact r4.1 i hi
    · rw [e29]; exact r4.2 i hi
    · unfold kdN; rw [e35]; exact r5 i hi
    · rw [e38, rowK_congr e38]; exact r6 s hs
    · exact r7
  · refine XW.upA (Λ := (Λ.1, upR Λ.2 1 (σ.1 2) (some a))) (k := 0) (i := 38) (kA := 2) (iA := σ.1 2) (a0 := a) (eA := .inr (4, [.int b, .int t, .int w, .int kd, .int (nI 30), .int (nI (σ.1 6)), .int (nI 0)])) hw x38n ?_ ?_ ?_ ?_ ?_ (hup_self _ _ _) ?_ (fun b e hb => hup_out b e hb hIa)
    · rw [x38]
      unfold xF
      rw [hs1 25 (by decide) (by decide) (by decide), hs1 50 (by decide) (by decide) (by decide), hs1 29 (by decide) (by decide) (by decide), hs1 30 (by decide) (by decide) (by decide)]
      rfl
    · intro k' i' hne
      show upL Λ.1 2 (σ.1 2) a k' i' = Λ.1 k' i'
      rw [upL_at, if_neg hne]
    · show upL Λ.1 2 (σ.1 2) a 2 (σ.1 2) = a
      rw [upL_at, if_pos ⟨rfl, rfl⟩]
    · exact fun z => absurd z.1 (by decide)
    · intro k' i' h1 h2
      match k', h1, h2 with
      | 0, h1, h2 =>
        have h38 : i' ≠ 38 := fun q => h1 ⟨rfl, q⟩
        refine Or.inr ?_
        rw [xC_0 _ _ _ h38, xC_0 _ _ _ h38]
        unfold xA
        rw [hs1 8 (by decide) (by decide) (by decide), hs1 37 (by decide) (by decide) (by decide), hs1 51 (by decide) (by decide) (by decide), hs1 52 (by decide) (by decide) (by decide), hs1 53 (by decide) (by decide) (by decide), hs1 54 (by decide) (by decide) (by decide)]
        rfl
      | 1, _, _ => exact Or.inr (by rw [xC_1, xC_1]; unfold xc1; rw [hs1 1 (by decide) (by decide) (by decide)]; rfl)
      | 2, h1, h2 =>
        have hn : i' ≠ σ.1 2 := fun z => h2 ⟨rfl, z⟩
        rw [xC_2, xC_2]
        unfold xc2
        by_cases q : i' < σ.1 2
        · refine Or.inr ?_
          rw [if_pos (show i' < (hid (addS σ b t w kd) nm km kd0).1 2 from by show i' < σ.1 2 + 1; omega), if_pos (show i' < (hid σ nm km kd0).1 2 from q), hxP, bOne_at σ (by omega) _ _ _ _ _ (by omega), if_neg hn]
          rfl
        · exact Or.inl (if_neg (show ¬ i' < (hid (addS σ b t w kd) nm km kd0).1 2 from by show ¬ i' < σ.1 2 + 1; omega))
      | 3, _, _ => exact Or.inr (by rw [xC_3, xC_3]; unfold xc3; rw [rowK_congr (hs1 38 (by decide) (by decide) (by decide))]; rfl)
      | 4, _, _ => exact Or.inr (by rw [xC_4, xC_4]; unfold xc4; rw [rowK_congr (hs1 38 (by decide) (by decide) (by decide)), xI_congr (hs1 39 (by decide) (by decide) (by decide)) rfl i'])
      | n + 5, _, _ => exact Or.inl rfl
    · rw [xC_2]
      unfold xc2
      rw [if_pos (show σ.1 2 < (hid (addS σ b t w kd) nm km kd0).1 2 from Nat.lt_succ_self _), hxP, bOne_at σ (by omega) _ _ _ _ _ (by omega), if_pos rfl]
theorem addS_led (σ : MSt) (b t w kd x : Int32) : addS (sA σ 25 0 x) b t w kd = sN (sA (bOne σ (σ.1 2) b t w kd (nI 30)) 25 0 x) 2 (σ.1 2 + 1) := by
  unfold addS bOne
  have h : ∀ (τ : MSt) (k i : Nat) (y : Int32), k ≠ 25 → sA (sA τ 25 0 x) k i y = sA (sA τ k i y) 25 0 x := fun τ k i y hk => sA_comm τ (fun z => hk z.symm) _ _ _ _
  show sN (sA (sA (sA (sA (sA (sA (sA (sA σ 25 0 x) 4 (σ.1 2) b) 5 (σ.1 2) t) 3 (σ.1 2) w) 3 (15 + σ.1 2) kd) 3 (30 + σ.1 2) (nI 30)) 3 (45 + σ.1 2) (nI (σ.1 6))) 3 (60 + σ.1 2) (nI 0)) 2 (σ.1 2 + 1) = _
  rw [h _ 4 _ _ (by decide), h _ 5 _ _ (by decide), h _ 3 _ _ (by decide), h _ 3 _ _ (by decide), h _ 3 _ _ (by decide), h _ 3 _ _ (by decide), h _ 3 _ _ (by decide)]
theorem addS_new (σ : MSt) (b t w kd : Int32) : addS (sA σ 25 0 (σ.2.1 25 0 + nI 1)) b t w kd = newS σ b t w kd := addS_led σ b t w kd _
/-- fewer promises -/
theorem PutXH.less {D : va_G} {Λ : LT} {I : AH} {L : LawT} {σ : MSt} {n : Nat} (hn : n ≤ σ.1 2) : PutXH D Λ I L σ 3 (.int (nI n)) (sN σ 2 n) := fun nm km kd => by
  refine ⟨⟨rfl, rfl, fun k' i' hne => ?_⟩, fun hr => ?_⟩
  · match k', hne with
    | 0, hne =>
      have h38 : i' ≠ 38 := fun q => hne ⟨rfl, q⟩
      exact Or.inr (by rw [xC_0 _ _ _ h38, xC_0 _ _ _ h38]; rfl)
    | 1, _ => exact Or.inr rfl
    | 2, _ =>
      rw [xC_2, xC_2]
      unfold xc2
      by_cases q : i' < n
      · exact Or.inr (by rw [if_pos (show i' < (hid (sN σ 2 n) nm km kd).1 2 from q), if_pos (show i' < (hid σ nm km kd).1 2 from Nat.lt_of_lt_of_le q hn)]; rfl)
      · exact Or.inl (if_neg (show ¬ i' < (hid (sN σ 2 n) nm km kd).1 2 from q))
    | 3, _ => exact Or.inr rfl
    | 4, _ => exact Or.inr rfl
    | m + 5, _ => exact Or.inl rfl
  · obtain ⟨r1, r2, r3, r4, r5, r6, r7⟩ := hr
    exact ⟨r1, fun i hi => r2 i (Nat.lt_of_lt_of_le hi hn), r3, r4, r5, r6, r7⟩
/-- two states that the component can't tell apart -/
def xEq (σ σ' : MSt) : Prop := σ'.1 50 = σ.1 50 ∧ (∀ k, k < 42 → k ≠ 9 → k ≠ 10 → (k < 15 ∨ 24 < k) → σ'.1 k = σ.1 k) ∧ (∀ p, p < σ.1 2 → xP σ' p = xP σ p) ∧ (∀ k, (k < 11 ∨ 24 < k) → k ≠ 3 → k ≠ 4 → k ≠ 5 → k ≠ 41 → σ'.2.1 k = σ.2.1 k) ∧ σ'.2.2 = σ.2.2
theorem xVn_in {j : Nat} (hj : xVn j = true) : j = 0 ∨ j = 2 ∨ j = 27 ∨ j = 28 ∨ j = 31 ∨ j = 34 := by
  unfold xVn at hj
  split at hj
  · simp
  · simp
  · simp
  · simp
  · simp
  · simp
  · cases hj
theorem xV_in {j : Nat} (hj : xV j = true) : j = 29 ∨ j = 33 ∨ j = 35 ∨ j = 38 ∨ j = 53 ∨ j = 54 := by
  unfold xV at hj
  split at hj
  · simp
  · simp
  · simp
  · simp
  · simp
  · simp
  · cases hj
theorem xF_eqv {Λ : LT} {σ σ' : MSt} (e50 : σ'.1 50 = σ.1 50) (hN : ∀ k, k < 42 → k ≠ 9 → k ≠ 10 → (k < 15 ∨ 24 < k) → σ'.1 k = σ.1 k) (hA : ∀ k, (k < 11 ∨ 24 < k) → k ≠ 3 → k ≠ 4 → k ≠ 5 → k ≠ 41 → σ'.2.1 k = σ.2.1 k) : xF Λ σ' = xF Λ σ := by
  have a25 := hA 25 (by decide) (by decide) (by decide) (by decide) (by decide)
  have a50 := hA 50 (by decide) (by decide) (by decide) (by decide) (by decide)
  have a29 := hA 29 (by decide) (by decide) (by decide) (by decide) (by decide)
  have a30 := hA 30 (by decide) (by decide) (by decide) (by decide) (by decide)
  have n0 := hN 0 (by decide) (by decide) (by decide) (Or.inl (by decide))
  have n2 := hN 2 (by decide) (by decide) (by decide) (Or.inl (by decide))
  have n6 := hN 6 (by decide) (by decide) (by decide) (Or.inl (by decide))
  have n7 := hN 7 (by decide) (by decide) (by decide) (Or.inl (by decide))
  have n26 := hN 26 (by decide) (by decide) (by decide) (Or.inr (by decide))
  have n27 := hN 27 (by decide) (by decide) (by decide) (Or.inr (by decide))
  have n28 := hN 28 (by decide) (by decide) (by decide) (Or.inr (by decide))
  have n31 := hN 31 (by decide) (by decide) (by decide) (Or.inr (by decide))
  have n32 := hN 32 (by decide) (by decide) (by decide) (Or.inr (by decide))
  have n34 := hN 34 (by decide) (by decide) (by decide) (Or.inr (by decide))
  have n36 := hN 36 (by decide) (by decide) (by decide) (Or.inr (by decide))
  unfold xF
  rw [a25, a50, a29, a30, n0, n2, n6, n7, n26, n27, n28, n31, n32, n34, n36, e50]
theorem xA_eqv {D : va_G} {Λ : LT} {σ σ' : MSt} (hA : ∀ k, (k < 11 ∨ 24 < k) → k ≠ 3 → k ≠ 4 → k ≠ 5 → k ≠ 41 → σ'.2.1 k = σ.2.1 k) : xA D Λ σ' = xA D Λ σ := by
  have a8 := hA 8 (by decide) (by decide) (by decide) (by decide) (by decide)
  have a37 := hA 37 (by decide) (by decide) (by decide) (by decide) (by decide)
  have a51 := hA 51 (by decide) (by decide) (by decide) (by decide) (by decide)
  have a52 := hA 52 (by decide) (by decide) (by decide) (by decide) (by decide)
  have a53 := hA 53 (by decide) (by decide) (by decide) (by decide) (by decide)
  have a54 := hA 54 (by decide) (by decide) (by decide) (by decide) (by decide)
  unfold xA
  rw [a8, a37, a51, a52, a53, a54]
theorem xC_eqv {D : va_G} {Λ : LT} {σ σ' : MSt} (e50 : σ'.1 50 = σ.1 50) (hN : ∀ k, k < 42 → k ≠ 9 → k ≠ 10 → (k < 15 ∨ 24 < k) → σ'.1 k = σ.1 k) (hP : ∀ p, p < σ.1 2 → xP σ' p = xP σ p) (hA : ∀ k, (k < 11 ∨ 24 < k) → k ≠ 3 → k ≠ 4 → k ≠ 5 → k ≠ 41 → σ'.2.1 k = σ.2.1 k) (hL : σ'.2.2 = σ.2.2) : ∀ k i, xC D Λ σ' k i = xC D Λ σ k i := by
  have n0 := hN 0 (by decide) (by decide) (by decide) (Or.inl (by decide))
  have n2 := hN 2 (by decide) (by decide) (by decide) (Or.inl (by decide))
  have a1 := hA 1 (by decide) (by decide) (by decide) (by decide) (by decide)
  have a38 := rowK_congr (hA 38 (by decide) (by decide) (by decide) (by decide) (by decide))
  have a39 := xI_congr (D := D) (hA 39 (by decide) (by decide) (by decide) (by decide) (by decide)) hL
  have aF := xF_eqv (Λ := Λ) e50 hN hA
  have aA := xA_eqv (D := D) (Λ := Λ) hA
  intro k i
  match k with
  | 0 =>
    by_cases h38 : i = 38
    · rw [h38, x38, x38, aF]
    · exact (xC_0 _ _ _ h38).trans ((congrFun aA i).trans (xC_0 _ _ _ h38).symm)
  | 1 => rw [xC_1, xC_1]; unfold xc1; rw [a1, n0]
  | 2 =>
    rw [xC_2, xC_2]
    unfold xc2
    rw [n2]
    by_cases q : i < σ.1 2
    · rw [if_pos q, if_pos q, hP i q]
    · rw [if_neg q, if_neg q]
  | 3 => rw [xC_3, xC_3]; unfold xc3; rw [a38]
  | 4 => rw [xC_4, xC_4]; unfold xc4; rw [a38, a39]
  | n + 5 => rw [xC_5, xC_5]
theorem XH.eqv {D : va_G} {Λ : LT} {I : AH} {L : LawT} {σ σ' : MSt} {h : AH} (he : xEq σ σ') (hs : XH D Λ I L σ h) : XH D Λ I L σ' h := by
  obtain ⟨nm, km, kd, hr, hw⟩ := hs
  obtain ⟨e50, eN, eP, eA, eL⟩ := he
  have hA : ∀ k, (k < 11 ∨ 24 < k) → k ≠ 3 → k ≠ 4 → k ≠ 5 → k ≠ 41 → (hid σ' nm km kd).2.1 k = (hid σ nm km kd).2.1 k := fun k a b c d e => hid_congr (eA k a b c d e)
  refine ⟨nm, km, kd, XR_congr (σ := hid σ nm km kd) (fun j hj => ?_) (fun j hj => ?_) hr, hw.less (fun k' i' => Or.inr (xC_eqv (σ := hid σ nm km kd) (σ' := hid σ' nm km kd) e50 eN eP hA eL k' i')) rfl (fun _ _ q => q)⟩
  · have := xVn_in hj
    exact eN j (by omega) (by omega) (by omega) (by omega)
  · have := xV_in hj
    exact hA j (by omega) (by omega) (by omega) (by omega) (by omega)
