/-! X: plain laws: the image; changes -/
set_option maxRecDepth 100000
theorem log1X_t {σ : MSt} {c : Nat} (h : σ.1 36 < 24) : sN (sA σ 37 (σ.1 36) (nI c)) 36 (σ.1 36 + 1) = logS σ [c] := log1_t h
/-- what the image keeps is no more than what is there -/
def imL (σ : MSt) : Prop := σ.1 27 ≤ σ.1 0 ∧ σ.1 28 ≤ σ.1 2
theorem img_close {D : va_G} {Λ : LT} {I : AH} {L : LawT} {σ τ : MSt} {nm km kd f g : Nat → Int32} {h : AH} (ho : σ.1 0 ≤ 8) (hm : σ.1 2 ≤ 14) (hr : XR Λ I L (hid σ nm km kd)) (hf : ∀ j, j < σ.1 0 → f j = σ.2.1 1 j) (hg : ∀ j, j < σ.1 2 → g j = σ.2.1 3 (60 + j)) (h1 : τ.1 = (imgS σ).1) (h2 : ∀ j, j ≠ 29 → j ≠ 30 → τ.2.1 j = σ.2.1 j) (h22 : τ.2.1 29 22 = nI (σ.1 6)) (h30 : ∀ j, j < 5 → τ.2.1 30 j = σ.2.1 25 j) (h3 : τ.2.2 = σ.2.2) (hw : XW D Λ I (hid τ nm f g) h) : XH D Λ I L (imgS σ) h := by
  have e2 : ∀ j, j ≠ 29 → j ≠ 30 → (imgS σ).2.1 j = σ.2.1 j := fun j a b => by
    show va_up (va_up σ.2.1 29 _) 30 _ j = _
    rw [va_up_ne _ _ b, va_up_ne _ _ a]
  have e29 : (imgS σ).2.1 29 = fun j => if j < 8 then σ.2.1 1 j else if j < 22 then σ.2.1 3 (60 + (j - 8)) else if j = 22 then nI (σ.1 6) else σ.2.1 29 j := by
    show va_up (va_up σ.2.1 29 (fun j => if j < 8 then σ.2.1 1 j else if j < 22 then σ.2.1 3 (60 + (j - 8)) else if j = 22 then nI (σ.1 6) else σ.2.1 29 j)) 30 (fun j => if j < 5 then σ.2.1 25 j else σ.2.1 30 j) 29 = _
    rw [va_up_ne _ _ (by decide), va_up_self]
  have e30 : (imgS σ).2.1 30 = fun j => if j < 5 then σ.2.1 25 j else σ.2.1 30 j := by
    show va_up (va_up σ.2.1 29 (fun j => if j < 8 then σ.2.1 1 j else if j < 22 then σ.2.1 3 (60 + (j - 8)) else if j = 22 then nI (σ.1 6) else σ.2.1 29 j)) 30 (fun j => if j < 5 then σ.2.1 25 j else σ.2.1 30 j) 30 = _
    rw [va_up_self]
  have hU : ∀ j, j ≠ 29 → j ≠ 30 → (hid (imgS σ) nm f g).2.1 j = (hid τ nm f g).2.1 j := fun j a b => hid_congr ((e2 j a b).trans (h2 j a b).symm)
  have eF : xF Λ (hid (imgS σ) nm f g) = xF Λ (hid τ nm f g) := by
    unfold xF
    rw [hU 25 (by decide) (by decide), hU 50 (by decide) (by decide)]
    rw [show (hid (imgS σ) nm f g).2.1 29 22 = (hid τ nm f g).2.1 29 22 from by
      show (imgS σ).2.1 29 22 = τ.2.1 29 22
      rw [h22, e29]; rfl]
    have q : ∀ j, j < 5 → (hid (imgS σ) nm f g).2.1 30 j = (hid τ nm f g).2.1 30 j := fun j hj => by
      show (imgS σ).2.1 30 j = τ.2.1 30 j
      rw [h30 j hj, e30]
      show (if j < 5 then _ else _) = _
      rw [if_pos hj]
    rw [q 0 (by decide), q 1 (by decide), q 2 (by decide), q 3 (by decide), q 4 (by decide)]
    rw [show (hid (imgS σ) nm f g).1 = (hid τ nm f g).1 from h1.symm]
  refine ⟨nm, f, g, ?_, hw.less (fun k i => Or.inr ?_) rfl (fun _ _ q => q)⟩
  · obtain ⟨r1, r2, r3, r4, r5, r6, r7⟩ := hr
    refine ⟨r1, r2, ?_, ⟨fun i hi => ?_, fun i hi => ?_⟩, ?_, ?_, r7⟩
    · intro e he
      rw [show (hid (imgS σ) nm f g).2.1 33 = (hid σ nm km kd).2.1 33 from e2 33 (by decide) (by decide)]
      exact r3 e he
    · have hi : i < σ.1 0 := hi
      show f i = (imgS σ).2.1 29 i
      rw [hf i hi, e29]
      show _ = if i < 8 then _ else _
      rw [if_pos (by omega)]
    · have hi : i < σ.1 2 := hi
      show g i = (imgS σ).2.1 29 (8 + i)
      rw [hg i hi, e29]
      show _ = if 8 + i < 8 then _ else if 8 + i < 22 then _ else _
      rw [if_neg (by omega), if_pos (by omega), Nat.add_sub_cancel_left]
    · intro b hb
      unfold kdN
      rw [show (hid (imgS σ) nm f g).2.1 35 = (hid σ nm km kd).2.1 35 from e2 35 (by decide) (by decide)]
      exact r5 b hb
    · intro s hs
      have e38 : (hid (imgS σ) nm f g).2.1 38 = (hid σ nm km kd).2.1 38 := e2 38 (by decide) (by decide)
      rw [e38, rowK_congr e38]
      exact r6 s hs
  · by_cases z : k = 0 ∧ i = 38
    · rw [z.1, z.2, x38, x38, eF]
    · exact xC_congr (σ := hid τ nm f g) (σ' := hid (imgS σ) nm f g) rfl (fun _ _ => rfl) (show (imgS σ).1 0 = τ.1 0 by rw [h1]) (show (imgS σ).1 2 = τ.1 2 by rw [h1]) (fun j hj => hU j (by rintro rfl; cases hj) (by rintro rfl; cases hj)) h3.symm k i z
theorem put7 {D : va_G} {Λ : LT} {σ : MSt} {n : Nat} : PutOK D Λ Λ σ 7 (.int (nI n)) (sN (sN σ 32 n) 31 (σ.1 31 - σ.1 32 + n)) := PutOK.of (by
  have e : (sN (sN σ 32 n) 31 (σ.1 31 - σ.1 32 + n)).1 31 - (sN (sN σ 32 n) 31 (σ.1 31 - σ.1 32 + n)).1 32 = σ.1 31 - σ.1 32 := by
    show σ.1 31 - σ.1 32 + n - n = _
    rw [Nat.add_sub_cancel]
  unfold xF
  rw [e]
  rfl) rfl rfl (fun _ _ => rfl) rfl
theorem put8 {D : va_G} {Λ : LT} {σ : MSt} {u : Nat} : PutOK D Λ Λ σ 8 (.int (nI u)) (sN σ 31 (σ.1 32 + u)) := PutOK.of (by
  have e : (sN σ 31 (σ.1 32 + u)).1 31 - (sN σ 31 (σ.1 32 + u)).1 32 = u := by
    show σ.1 32 + u - σ.1 32 = _
    rw [Nat.add_sub_cancel_left]
  unfold xF
  rw [e]
  rfl) rfl rfl (fun _ _ => rfl) rfl
theorem XH.kn {D : va_G} {Λ : LT} {I : AH} {L : LawT} {σ : MSt} {h : AH} {a : Nat} {e : va_E} (hs : XH D Λ I L σ h) (hI : I a = some e) : h a = some e := by
  obtain ⟨nm, km, kd, -, hw⟩ := hs
  exact hw.2.2.1 a e hI
theorem XH.chg {D : va_G} {Λ : LT} {I : AH} {L : LawT} {σ : MSt} {h : AH} (hs : XH D Λ I L σ h) {e : Nat} (he : e < σ.1 31) : ∃ a, Λ.2 6 e = some a ∧ I a = some (.inr (5, [.int (σ.2.1 33 (4 * e + 1)), .int (σ.2.1 33 (4 * e)), .int (σ.2.1 33 (4 * e + 2)), .int (σ.2.1 33 (4 * e + 3))])) := by
  obtain ⟨nm, km, kd, hr, -⟩ := hs
  exact hr.2.2.1 e he
theorem undo_close {D : va_G} {Λ : LT} {I : AH} {L : LawT} {σ τ : MSt} {nm km kd : Nat → Int32} {h : AH} (hr : XR Λ I L (hid σ nm km kd)) (hN : ∀ j, j ≠ 32 → τ.1 j = σ.1 j) (h2 : τ.2 = σ.2) (hw : XW D Λ I (hid τ nm km kd) h) : XH D Λ I L τ h := by
  refine ⟨nm, km, kd, XR_congr (σ := hid σ nm km kd) (fun j hj => ?_) (fun j hj => ?_) hr, hw⟩
  · exact hN j (by have := xVn_in hj; omega)
  · exact hid_congr (by rw [h2])
