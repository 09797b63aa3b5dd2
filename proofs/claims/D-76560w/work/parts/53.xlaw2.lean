/-! X: plain laws: turns, draws -/
set_option maxRecDepth 100000
theorem sA_comm (σ : MSt) {k k' : Nat} (h : k ≠ k') (i i' : Nat) (x y : Int32) : sA (sA σ k i x) k' i' y = sA (sA σ k' i' y) k i x := by
  have : up2 (up2 σ.2.1 k i x) k' i' y = up2 (up2 σ.2.1 k' i' y) k i x := by
    funext a b
    rw [up2_at, up2_at, up2_at, up2_at]
    by_cases h1 : a = k
    · subst h1
      rw [if_neg (fun z => h z.1)]
      by_cases h2 : b = i
      · rw [if_pos ⟨rfl, h2⟩, if_pos ⟨rfl, h2⟩]
      · rw [if_neg (fun z => h2 z.2), if_neg (fun z => h2 z.2), if_neg (fun z => h z.1)]
    · simp only [h1, false_and, if_false]
  exact congrArg (fun A => (σ.1, A, σ.2.2)) this
theorem turnB_50 {f f' : MSt → Int32} {op : Int32 → Int32 → Int32} {o : Int32} {j : Nat} {x : Int32} (hf : ∀ σ, f (sA σ 50 j x) = f' σ) (σ : MSt) : ∀ n, turnB f op o (sA σ 50 j x) n = turnB f' op o σ n
  | 0 => hf σ
  | n + 1 => by
    have ih := turnB_50 hf (op := op) (o := o) σ n
    show pif (mayP (sA σ 50 j x) o n) (op (turnB f op o (sA σ 50 j x) n) (f (dnP (sA σ 50 j x) n))) (turnB f op o (sA σ 50 j x) n) = pif (mayP σ o n) (op (turnB f' op o σ n) (f' (dnP σ n))) (turnB f' op o σ n)
    rw [ih, show dnP (sA σ 50 j x) n = sA (dnP σ n) 50 j x from sA_comm σ (by decide) _ _ _ _, hf]
    rfl
theorem turnS_50 (L : LawT) (a b : Int32) (j : Nat) (x : Int32) : ∀ (c i : Nat) (σ : MSt), turnS L a b c i (sA σ 50 j x) = turnS L a b c i σ
  | 0, _, _ => rfl
  | c + 1, i, σ => turnB_50 (fun τ => turnS_50 L a b j x c (i + 1) τ) σ (σ.1 2)
theorem turnR_1 (L : LawT) (σ : MSt) (ab : Nat) {n : Nat} (hn : 1 ≤ n) : (turnR L σ ab n).1 = turnS L (nI (ab / 10)) (nI (ab % 10)) n 0 σ := by
  unfold turnR
  rw [turnA_1]
  obtain ⟨m, rfl⟩ : ∃ m, n = m + 1 := ⟨n - 1, by omega⟩
  rfl
noncomputable def gTurnX (σ : MSt) (ab n w : Int32) : MSt := pif (turnP (σ.1 0) ab n w) (sA (sA σ 50 1 (nI (ab.toNatClampNeg / 10))) 50 2 (nI (ab.toNatClampNeg % 10))) σ
/-- what is done, as bits -/
noncomputable def dBits (P : PV) : Nat → Int32
  | 0 => nI 0
  | n + 1 => pif (P n 6 = nI 1) (dBits P n ||| (nI 1 <<< (nI n &&& 31))) (dBits P n)
theorem dBits_bit {P : PV} : ∀ (m : Nat), m ≤ 15 → ∀ p, p < 15 → (jbit (dBits P m) p ↔ p < m ∧ P p 6 = nI 1)
  | 0, _, p, hp => ⟨fun h => absurd h (jbit_0 hp), fun h => absurd h.1 (Nat.not_lt_zero _)⟩
  | m + 1, hm, p, hp => by
    have ih := dBits_bit (P := P) m (by omega) p hp
    unfold dBits
    by_cases h : P m 6 = nI 1
    · rw [pif_t h, jbit_or hp, ih, jbit_shl (by omega) hp]
      constructor
      · rintro (⟨a, b⟩ | rfl)
        · exact ⟨by omega, b⟩
        · exact ⟨by omega, h⟩
      · rintro ⟨a, b⟩
        rcases Nat.lt_or_ge p m with q | q
        · exact Or.inl ⟨q, b⟩
        · exact Or.inr (by omega)
    · rw [pif_f h, ih]
      constructor
      · rintro ⟨a, b⟩; exact ⟨by omega, b⟩
      · rintro ⟨a, b⟩
        refine ⟨?_, b⟩
        rcases Nat.lt_or_ge p m with q | q
        · exact q
        · exact absurd ((show p = m by omega) ▸ b) h
/-- done flags are 0 or 1 -/
def dnOK (σ : MSt) : Prop := ∀ p, p < σ.1 2 → mP σ p 6 = nI 0 ∨ mP σ p 6 = nI 1
noncomputable def layF (σ : MSt) (bits : Int32) (n : Nat) : Nat → Int32 := fun i => if 60 ≤ i ∧ i < 60 + n then bI (jbit bits (i - 60)) else σ.2.1 3 i
theorem cp_cp (σ : MSt) (k : Nat) (f g : Nat → Int32) : cpS (cpS σ k f) k g = cpS σ k g := by
  have : va_up (va_up σ.2.1 k f) k g = va_up σ.2.1 k g := by
    funext j
    unfold va_up
    by_cases h : j = k <;> simp [h]
  exact congrArg (fun A => (σ.1, A, σ.2.2)) this
theorem cp3 (σ : MSt) (g : Nat → Int32) : (cpS σ 3 g).2.1 3 = g := by
  show va_up σ.2.1 3 g 3 = g
  exact va_up_self _ _ _
theorem lay_back {σ : MSt} {g : Nat → Int32} (hm : σ.1 2 ≤ 14) (hd : dnOK σ) (hg : gOK σ g) : cpS (cpS σ 3 g) 3 (layF (cpS σ 3 g) (dBits (mP σ) (σ.1 2)) (σ.1 2)) = σ := by
  rw [cp_cp]
  have e : layF (cpS σ 3 g) (dBits (mP σ) (σ.1 2)) (σ.1 2) = σ.2.1 3 := by
    funext i
    unfold layF
    by_cases h : 60 ≤ i ∧ i < 60 + σ.1 2
    · rw [if_pos h]
      obtain ⟨p, rfl⟩ : ∃ p, i = 60 + p := ⟨i - 60, by omega⟩
      rw [Nat.add_sub_cancel_left]
      have hb := dBits_bit (P := mP σ) (σ.1 2) (by omega) p (by omega)
      have h6 := hd p (by omega)
      rw [mP_6] at hb h6
      rcases h6 with q | q
      · rw [q, bI_f (fun z => by have := (hb.mp z).2; rw [q] at this; exact absurd this (by decide))]; rfl
      · rw [q, bI_t (hb.mpr ⟨by omega, q⟩)]; rfl
    · rw [if_neg h, cp3]
      exact hg i h
  rw [e, cpS_id]
theorem drG_cp (σ : MSt) (g : Nat → Int32) (d : Nat) (z : Int32) (od : Nat) : drG (cpS σ 3 g) g d z od = drG σ g d z od := by
  unfold drG drHit gS
  rw [cp_cp]
  rfl
theorem byOK.cp3 {σ : MSt} (h : byOK σ) (g : Nat → Int32) : byOK (cpS σ 3 g) := h.same rfl rfl (show va_up σ.2.1 3 g 4 = _ from va_up_ne _ _ (by decide))
theorem sHold_neg (v : HV) (t : Nat) (o : Int32) : sHold v t o < 0 ↔ sHold v t o = -2 := by
  constructor
  · intro h
    unfold sHold at h ⊢
    cases hr : sRoof v t o with
    | none => rfl
    | some p =>
      rw [hr] at h
      simp only at h ⊢
      by_cases q : v.1 p 1 < 0
      · rw [if_pos q]
      · rw [if_neg q] at h; exact absurd h q
  · intro h
    rw [h]
    decide
