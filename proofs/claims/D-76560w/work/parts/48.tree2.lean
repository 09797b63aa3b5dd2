/-! X: every tree answers what its code says -/
set_option maxRecDepth 100000
theorem val_all {l : Launch} {D : va_G} {B : Nat} {S : AH → Prop} {I : AH} {fa na : Nat} {g nm : Nat → Int32} (hI : ∀ h, S h → ∀ a e, I a = some e → h a = some e) (hf : ∀ h, S h → h fa = some (.inr (1, [.ref na])) ∧ h na = some (.inl (D.1 100, 128, .inl g))) (hnm : ∀ k, k ≤ 5 → nm k = g (letC k)) : ∀ (d a : Nat) (cs : List Nat), ndT I d a cs → NV l D B I S fa a (zev nm cs) d (23 * d)
  | 0, _, _, h => h.elim
  | d + 1, a, cs, h => by
    rcases h with ⟨n, hn, rfl, h2⟩ | ⟨k, hk, rfl, h2⟩ | ⟨b, cs1, rfl, h2, h3⟩ | ⟨b, cs1, rfl, h2, h3⟩ | ⟨b, b', cs1, cs2, op, o1, o2, rfl, h2, h3, h4⟩
    · have e : zev nm [18 + n] = nI n := by
        show (zstep nm (18 + n) []).headD 0 = _
        rw [zstep_num (by omega), Nat.add_sub_cancel_left]; rfl
      rw [e]
      exact Or.inr (Or.inr (Or.inr (Or.inl ⟨_, h2, Ct.up (ct_X12_value a na g n fa hI hf h2) (Nat.zero_le _) (Nat.zero_le _)⟩)))
    · have e : zev nm [k] = g (letC k) := by
        show (zstep nm k []).headD 0 = _
        rw [zstep_nm hk, ← hnm k hk]; rfl
      rw [e]
      exact Or.inl ⟨_, h2, Ct.up (ct_X9_value a na g k fa hI hf h2) (Nat.zero_le _) (Nat.zero_le _)⟩
    · rw [nd_neg h3]
      exact Or.inr (Or.inr (Or.inl ⟨_, h2, ct_X11_value a na g b _ d (23 * d) fa hI hf h2 (val_all hI hf hnm d b cs1 h3)⟩))
    · rw [nd_not h3]
      exact Or.inr (Or.inl ⟨_, h2, ct_X10_value a na g b _ d (23 * d) fa hI hf h2 (val_all hI hf hnm d b cs1 h3)⟩)
    · rw [nd_bin h3 h4 ⟨o1, o2⟩]
      exact Or.inr (Or.inr (Or.inr (Or.inr ⟨_, h2, ct_X13_value a na g b b' op _ _ d (23 * d) fa hI hf h2 (val_all hI hf hnm d b cs1 h3) (val_all hI hf hnm d b' cs2 h4) ⟨o1, o2⟩ (by cases d with | zero => exact h3.elim | succ d => omega)⟩)))
theorem XR.nm {Λ : LT} {I : AH} {L : LawT} {σ : MSt} {a b km kd : Nat → Int32} (h : XR Λ I L (hid σ a km kd)) : XR Λ I L (hid σ b km kd) := XR_congr (σ := hid σ a km kd) (fun _ _ => rfl) (fun j hj => by
  show va_up (va_up (va_up σ.2.1 52 b) 53 km) 54 kd j = va_up (va_up (va_up σ.2.1 52 a) 53 km) 54 kd j
  have h52 : j ≠ 52 := by rintro rfl; cases hj
  unfold va_up
  simp only [h52, if_false]) h
/-- promises are by owners that are there -/
def byOK (σ : MSt) : Prop := ∀ p, p < σ.1 2 → ∃ o, o < σ.1 0 ∧ σ.2.1 4 p = nI o
theorem law_null {Λ : LT} {I : AH} {L : LawT} {σ : MSt} (h : XR Λ I L σ) : Λ.2 11 0 = none ↔ L = none := by
  have h7 := h.2.2.2.2.2.2
  cases L with
  | none => exact ⟨fun _ => rfl, fun _ => h7⟩
  | some ls =>
    refine ⟨fun q => ?_, fun q => by cases q⟩
    obtain ⟨h1, h2⟩ := h7
    rw [q] at h2
    cases ls with
    | nil => exact absurd rfl h1
    | cons z t =>
      obtain ⟨z1, z2⟩ := z
      obtain ⟨a, _, _, _, e, _⟩ := h2
      cases e
theorem law_ls {Λ : LT} {I : AH} {ls : List (List Nat × List Nat)} {σ : MSt} (h : XR Λ I (some ls) σ) : lnT I (Λ.2 11 0) ls := h.2.2.2.2.2.2.2
/-- the most of the first n promises of o's -/
noncomputable def sMaxN (v : HV) (t : Nat) (o : Int32) : Nat → Int32
  | 0 => nI 0
  | n + 1 => if v.1 n 0 = o then jmax (sMaxN v t o n) (sSt v t n) else sMaxN v t o n
theorem sMaxN_roof (v : HV) (t : Nat) (o : Int32) : ∀ n, sMaxN v t o n = (match sRoofN v t o n with | none => 0 | some p => sSt v t p)
  | 0 => rfl
  | n + 1 => by
    have ih := sMaxN_roof v t o n
    show (if v.1 n 0 = o then jmax (sMaxN v t o n) (sSt v t n) else sMaxN v t o n) = _
    by_cases h : v.1 n 0 = o
    · rw [if_pos h]
      by_cases ho : sOpen v.1 t n
      · rw [sRoofN_t ⟨h, ho⟩, ih]
        cases hr : sRoofN v t o n with
        | none =>
          simp only
          obtain ⟨k, hk, e⟩ := sSt_in v t n
          rw [e, show (0 : Int32) = nI 0 from rfl, jmax_N (by decide) (by omega), Nat.max_eq_right (Nat.zero_le _)]
        | some q =>
          simp only
          unfold jmax
          by_cases hl : sSt v t q < sSt v t n
          · rw [if_pos hl, if_pos hl]
          · rw [if_neg hl, if_neg hl]
      · rw [sRoofN_f (fun z => ho z.2), ih]
        have e0 : sSt v t n = nI 0 := by unfold sSt; rw [pif_f ho]; rfl
        rw [e0]
        have : ∃ k : Nat, k ≤ 9 ∧ (match sRoofN v t o n with | none => (0 : Int32) | some p => sSt v t p) = nI k := by
          cases sRoofN v t o n with
          | none => exact ⟨0, by omega, rfl⟩
          | some p => exact sSt_in v t p
        obtain ⟨k, hk, e⟩ := this
        rw [e, jmax_N (by omega) (by decide), Nat.max_eq_left (Nat.zero_le _)]
    · rw [if_neg h, sRoofN_f (fun z => h z.1), ih]
theorem sMaxN_high (v : HV) (t : Nat) (o : Int32) : sMaxN v t o v.2.2.1 = sHigh v t o := by
  rw [sMaxN_roof]
  rfl
theorem sHigh_pos (v : HV) (t : Nat) (o : Int32) : ¬ sHigh v t o ≤ -1 := by
  obtain ⟨k, hk, e⟩ := sHigh_in v t o
  rw [e, Int32.le_iff_toInt_le, nI_toInt (by omega)]
  have : (-1 : Int32).toInt = -1 := by decide
  omega
theorem oI_lt {r : Option Nat} {n : Nat} (hn : ∀ q, r = some q → q < n) (hb : n < 2 ^ 31) : oI r < 0 ↔ r = none := by
  cases r with
  | none => exact ⟨fun _ => rfl, fun _ => by decide⟩
  | some q => exact ⟨fun h => absurd h (nI_pos (by have := hn q rfl; omega)), fun h => by cases h⟩
theorem oI_some2 {r : Option Nat} {n : Nat} (hn : ∀ q, r = some q → q < n) (hb : n < 2 ^ 31) (h : ¬ oI r < 0) : ∃ q, r = some q ∧ oI r = nI q ∧ q < n := by
  cases r with
  | none => exact absurd (by decide) h
  | some q => exact ⟨q, rfl, rfl, hn q rfl⟩
