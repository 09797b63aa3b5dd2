/-! X: plain laws: a change more -/
set_option maxRecDepth 100000
theorem sN_ext {σ τ : MSt} (h1 : ∀ k, τ.1 k = σ.1 k) (h2 : ∀ k i, τ.2.1 k i = σ.2.1 k i) (h3 : τ.2.2 = σ.2.2) : τ = σ := ar_ext (funext h1) h2 h3
theorem push_sA (τ : MSt) (n w : Nat) (h v : Int32) {k : Nat} (hk : k ≠ 33) (i : Nat) (x : Int32) : sA (chPush τ n w h v) k i x = chPush (sA τ k i x) n w h v := by
  refine sN_ext (fun _ => rfl) (fun a b => ?_) rfl
  unfold chPush
  simp only [sA_2, sN_2, sA_1]
  by_cases h1 : a = k
  · subst h1; simp [hk]
  · simp [h1]
theorem push_sN (τ : MSt) (n w : Nat) (h v : Int32) (x : Nat) : sN (chPush τ n w h v) 6 x = chPush (sN τ 6 x) n w h v := by
  refine sN_ext (fun k => ?_) (fun a b => rfl) rfl
  unfold chPush
  simp only [sN_1, sA_1]
  by_cases h1 : k = 6
  · subst h1; simp
  · simp [h1]
theorem push_sSet (τ : MSt) (n w : Nat) (h v x : Int32) (n' w' : Nat) : sSet (chPush τ n w h v) n' w' x = chPush (sSet τ n' w' x) n w h v := by
  unfold sSet
  by_cases h0 : w' = 0
  · rw [if_pos h0, if_pos h0]; exact push_sA _ _ _ _ _ (by decide) _ _
  · rw [if_neg h0, if_neg h0]
    by_cases h6 : w' = 6
    · rw [if_pos h6, if_pos h6]; exact push_sN _ _ _ _ _ _
    · rw [if_neg h6, if_neg h6]; exact push_sA _ _ _ _ _ (by decide) _ _
def shF (σ : MSt) : Nat → Int32 := fun j => if j < 156 then σ.2.1 33 (j + 4) else σ.2.1 33 j
/-- the changes without the first, nothing taken back -/
def shX (σ : MSt) : MSt := sN (sN (cpS σ 33 (shF σ)) 32 39) 31 39
theorem push_shX {σ : MSt} (h32 : σ.1 32 = 40) (n w : Nat) (h v : Int32) : chPush (shX σ) n w h v = chPush (chShift σ) n w h v := by
  refine sN_ext (fun k => ?_) (fun a b => ?_) rfl
  · unfold chPush shX chShift cpS
    simp only [sN_1, sA_1, h32]
    by_cases h1 : k = 31
    · subst h1; simp
    · by_cases h2 : k = 32
      · subst h2; simp
      · simp [h1, h2]
  · unfold chPush shX chShift cpS
    simp only [sA_2, sN_2, sA_1, sN_1, h32]
    rfl
theorem shift_sSet {σ : MSt} (n w : Nat) (x : Int32) : sSet (chShift σ) n w x = chShift (sSet σ n w x) := by
  have hA : ∀ (k i : Nat), k ≠ 33 → sA (chShift σ) k i x = chShift (sA σ k i x) := by
    intro k i hk
    refine sN_ext (fun _ => rfl) (fun a b => ?_) rfl
    have e33 : (sA σ k i x).2.1 33 = σ.2.1 33 := up2_n _ _ _ (fun z => hk z.symm)
    unfold chShift
    rw [e33]
    simp only [sA_2, sN_2]
    show (if a = k ∧ b = i then x else va_up σ.2.1 33 _ a b) = va_up (sA σ k i x).2.1 33 _ a b
    by_cases h1 : a = 33
    · subst h1
      rw [va_up_self, va_up_self, if_neg (fun z => hk z.1.symm)]
    · rw [va_up_ne _ _ h1, va_up_ne _ _ h1, sA_2]
  unfold sSet
  by_cases h0 : w = 0
  · rw [if_pos h0, if_pos h0]; exact hA _ _ (by decide)
  · rw [if_neg h0, if_neg h0]
    by_cases h6 : w = 6
    · rw [if_pos h6, if_pos h6]
      refine sN_ext (fun k => ?_) (fun a b => rfl) rfl
      unfold chShift
      simp only [sN_1]
      by_cases h1 : k = 6
      · subst h1; simp
      · simp [h1]
    · rw [if_neg h6, if_neg h6]; exact hA _ _ (by decide)
/-- what a change leaves -/
theorem mend_fin {σ : MSt} (n w : Nat) (v : Int32) : mendS σ n w v = sSet (chPush (if σ.1 32 = 40 then shX σ else σ) n w (sGet σ n w) v) n w v := by
  unfold mendS
  by_cases h : σ.1 32 = 40
  · rw [if_pos h, if_pos h, push_shX h, push_sSet, shift_sSet]
  · rw [if_neg h, if_neg h, push_sSet]
theorem shF_at {σ : MSt} {e i : Nat} (he : e < 39) (hi : i < 4) : shF σ (4 * e + i) = σ.2.1 33 (4 * (e + 1) + i) := by
  unfold shF
  rw [if_pos (by omega), show 4 * e + i + 4 = 4 * (e + 1) + i by omega]
theorem cpS_at (σ : MSt) (k : Nat) (f : Nat → Int32) : (cpS σ k f).2.1 k = f := by
  show va_up σ.2.1 k f k = f
  exact va_up_self _ _ _
theorem cpS_n (σ : MSt) {k j : Nat} (f : Nat → Int32) (h : j ≠ k) : (cpS σ k f).2.1 j = σ.2.1 j := by
  show va_up σ.2.1 k f j = _
  exact va_up_ne _ _ h
theorem xC_cp33 {D : va_G} {Λ : LT} {σ : MSt} (f : Nat → Int32) (k i : Nat) : xC D Λ (cpS σ 33 f) k i = xC D Λ σ k i := by
  by_cases z : k = 0 ∧ i = 38
  · rw [z.1, z.2, x38, x38]
    have : xF Λ (cpS σ 33 f) = xF Λ σ := by
      unfold xF
      rw [cpS_n σ f (show 25 ≠ 33 by decide), cpS_n σ f (show 50 ≠ 33 by decide), cpS_n σ f (show 29 ≠ 33 by decide), cpS_n σ f (show 30 ≠ 33 by decide)]
      rfl
    rw [this]
  · exact xC_congr (σ := σ) (σ' := cpS σ 33 f) rfl (fun _ _ => rfl) rfl rfl (fun j hj => cpS_n σ f (by rintro rfl; cases hj)) rfl k i z
/-- after the shift -/
theorem shift_close {D : va_G} {Λ : LT} {I : AH} {L : LawT} {σ : MSt} {nm km kd : Nat → Int32} {h : AH} {r : Nat → Option Nat} (h31 : 40 ≤ σ.1 31) (hr : XR Λ I L (hid σ nm km kd)) (hq : ∀ e, e < 39 → r e = Λ.2 6 (e + 1)) (hw : XW D (Λ.1, va_up Λ.2 6 r) I (hid (sN (sN σ 32 39) 31 39) nm km kd) h) : XH D (Λ.1, va_up Λ.2 6 r) I L (shX σ) h := by
  have hn : ∀ j, j ≠ 33 → (hid (shX σ) nm km kd).2.1 j = (hid σ nm km kd).2.1 j := fun j hj => hid_congr (cpS_n σ _ hj)
  refine ⟨nm, km, kd, ?_, hw.less (fun k i => Or.inr ?_) rfl (fun _ _ q => q)⟩
  · obtain ⟨r1, r2, r3, r4, r5, r6, r7⟩ := hr
    refine ⟨r1, r2, fun e he => ?_, r4, r5, ?_, r7⟩
    · have he : e < 39 := he
      obtain ⟨a, h1, h2⟩ := r3 (e + 1) (by show e + 1 < σ.1 31; omega)
      refine ⟨a, ?_, ?_⟩
      · show va_up Λ.2 6 r 6 e = some a
        rw [va_up_self, hq e he]; exact h1
      · rw [show (hid (shX σ) nm km kd).2.1 33 = shF σ from cpS_at σ 33 _]
        have e0 := shF_at (σ := σ) he (show 0 < 4 by decide)
        rw [Nat.add_zero, Nat.add_zero] at e0
        rw [e0, shF_at he (by decide), shF_at he (by decide), shF_at he (by decide)]
        exact h2
    · exact r6
  · have := xC_cp33 (D := D) (Λ := (Λ.1, va_up Λ.2 6 r)) (σ := hid (sN (sN σ 32 39) 31 39) nm km kd) (shF σ) k i
    rw [← this]
    have e : hid (shX σ) nm km kd = cpS (hid (sN (sN σ 32 39) 31 39) nm km kd) 33 (shF σ) := by
      refine sN_ext (fun _ => rfl) (fun a b => ?_) rfl
      by_cases h33 : a = 33
      · subst h33; rw [cpS_at]; exact congrFun (show (hid (shX σ) nm km kd).2.1 33 = shF σ from cpS_at σ 33 _) b
      · rw [cpS_n _ _ h33]; exact congrFun (hn a h33) b
    rw [e]
/-- one change more -/
theorem new_chg {D : va_G} {Λ : LT} {I : AH} {L : LawT} {σ : MSt} {a n w : Nat} {hv v : Int32} {h : AH} {nm km kd : Nat → Int32} (hc : σ.1 31 = σ.1 32) (hIa : I a = none) (hr : XR Λ I L (hid σ nm km kd)) (hw : XW D (Λ.1, upR Λ.2 6 (σ.1 32) (some a)) (hup I a (.inr (5, [.int (nI w), .int (nI n), .int hv, .int v]))) (hid σ nm km kd) h) : XH D (Λ.1, upR Λ.2 6 (σ.1 32) (some a)) (hup I a (.inr (5, [.int (nI w), .int (nI n), .int hv, .int v]))) L (chPush σ n w hv v) (hup h (Λ.1 0 38) (.inr (0, (xF (Λ.1, upR Λ.2 6 (σ.1 32) (some a)) σ).set 7 (.int (nI (σ.1 32 + 1)))))) := by
  have hn : ∀ j, j ≠ 33 → (chPush σ n w hv v).2.1 j = σ.2.1 j := fun j hj => by
    funext i
    unfold chPush
    simp only [sA_2, sN_2]
    simp [hj]
  have h33 : ∀ i, (chPush σ n w hv v).2.1 33 i = if i = 4 * σ.1 32 + 3 then v else if i = 4 * σ.1 32 + 2 then hv else if i = 4 * σ.1 32 + 1 then nI w else if i = 4 * σ.1 32 then nI n else σ.2.1 33 i := fun i => by
    unfold chPush
    simp only [sA_2, sN_2]
    simp
  have hxn : ∀ j, j ≠ 33 → (hid (chPush σ n w hv v) nm km kd).2.1 j = (hid σ nm km kd).2.1 j := fun j hj => hid_congr (hn j hj)
  refine ⟨nm, km, kd, ?_, ?_⟩
  · obtain ⟨r1, r2, r3, r4, r5, r6, r7⟩ := XR.mono (IE.hup hIa) hr
    refine ⟨r1, r2, fun e he => ?_, ?_, ?_, ?_, r7⟩
    · have he : e < σ.1 32 + 1 := he
      show ∃ b, upR Λ.2 6 (σ.1 32) (some a) 6 e = some b ∧ _
      rw [upR_k]
      show ∃ b, va_up (Λ.2 6) (σ.1 32) (some a) e = some b ∧ hup I a _ b = some (.inr (5, [.int ((chPush σ n w hv v).2.1 33 (4 * e + 1)), .int ((chPush σ n w hv v).2.1 33 (4 * e)), .int ((chPush σ n w hv v).2.1 33 (4 * e + 2)), .int ((chPush σ n w hv v).2.1 33 (4 * e + 3))]))
      rw [h33, h33, h33, h33]
      by_cases q : e = σ.1 32
      · subst q
        refine ⟨a, va_up_self _ _ _, ?_⟩
        rw [hup_self]
        rw [if_neg (by omega), if_neg (by omega), if_pos rfl, if_neg (by omega), if_neg (by omega), if_neg (by omega), if_pos rfl, if_neg (by omega), if_pos rfl, if_pos rfl]
      · rw [va_up_ne _ _ q]
        have := r3 e (by show e < σ.1 31; omega)
        rw [if_neg (by omega), if_neg (by omega), if_neg (by omega), if_neg (by omega), if_neg (by omega), if_neg (by omega), if_neg (by omega), if_neg (by omega), if_neg (by omega), if_neg (by omega), if_neg (by omega), if_neg (by omega), if_neg (by omega), if_neg (by omega), if_neg (by omega), if_neg (by omega)]
        exact this
    · refine ⟨fun i hi => ?_, fun i hi => ?_⟩
      · rw [hxn 53 (by decide), hxn 29 (by decide)]; exact r4.1 i hi
      · rw [hxn 54 (by decide), hxn 29 (by decide)]; exact r4.2 i hi
    · intro b hb
      unfold kdN
      rw [hxn 35 (by decide)]
      exact r5 b hb
    · intro s hs
      rw [hxn 38 (by decide), rowK_congr (hxn 38 (by decide))]
      exact r6 s hs
  · refine XW.up (Λ := (Λ.1, upR Λ.2 6 (σ.1 32) (some a))) (k := 0) (i := 38) hw x38n ?_ (fun k i hne => Or.inr ?_) rfl
    · rw [x38]
      have e8 : (hid (chPush σ n w hv v) nm km kd).1 31 - (hid (chPush σ n w hv v) nm km kd).1 32 = σ.1 31 - σ.1 32 := by
        show σ.1 32 + 1 - (σ.1 32 + 1) = _
        omega
      unfold xF
      rw [e8, hxn 25 (by decide), hxn 50 (by decide), hxn 29 (by decide), hxn 30 (by decide)]
      rfl
    · exact xC_congr (σ := hid σ nm km kd) (σ' := hid (chPush σ n w hv v) nm km kd) rfl (fun _ _ => rfl) rfl rfl (fun j hj => hxn j (by rintro rfl; cases hj)) rfl k i hne
