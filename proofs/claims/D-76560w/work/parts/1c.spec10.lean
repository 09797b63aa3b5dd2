/-! SPEC 10: bits; sets of deeds that lower a house; turns -/
set_option maxRecDepth 100000
theorem fin15 {P : Nat → Prop} {p : Nat} (hp : p < 15) (h : P 0 ∧ P 1 ∧ P 2 ∧ P 3 ∧ P 4 ∧ P 5 ∧ P 6 ∧ P 7 ∧ P 8 ∧ P 9 ∧ P 10 ∧ P 11 ∧ P 12 ∧ P 13 ∧ P 14) : P p := by
  obtain ⟨h0, h1, h2, h3, h4, h5, h6, h7, h8, h9, h10, h11, h12, h13, h14⟩ := h
  rcases (show p = 0 ∨ p = 1 ∨ p = 2 ∨ p = 3 ∨ p = 4 ∨ p = 5 ∨ p = 6 ∨ p = 7 ∨ p = 8 ∨ p = 9 ∨ p = 10 ∨ p = 11 ∨ p = 12 ∨ p = 13 ∨ p = 14 by omega) with rfl | rfl | rfl | rfl | rfl | rfl | rfl | rfl | rfl | rfl | rfl | rfl | rfl | rfl | rfl <;> assumption
theorem shl_nI {m : Nat} (hm : m < 15) : nI 1 <<< (nI m &&& 31) = nI (2 ^ m) := fin15 (P := fun m => nI 1 <<< (nI m &&& 31) = nI (2 ^ m)) hm (by decide)
theorem amt {p : Nat} (hp : p < 15) : (nI p &&& 31).toBitVec.smod 32 = BitVec.ofNat 32 p := fin15 (P := fun p => (nI p &&& 31).toBitVec.smod 32 = BitVec.ofNat 32 p) hp (by decide)
theorem and1_iff (x : BitVec 32) : x &&& 1#32 = 1#32 ↔ x.getLsbD 0 = true := by
  rw [BitVec.and_one_eq_setWidth_ofBool_getLsbD]
  cases x.getLsbD 0 <;> decide
theorem jbit_iff {x : Int32} {p : Nat} (hp : p < 15) : jbit x p ↔ x.toBitVec.getLsbD p = true := by
  unfold jbit
  rw [← Int32.toBitVec_inj, Int32.toBitVec_and, Int32.toBitVec_shiftRight, amt hp, show (nI 1).toBitVec = 1#32 by decide, and1_iff]
  show (x.toBitVec.sshiftRight (BitVec.ofNat 32 p).toNat).getLsbD 0 = true ↔ _
  rw [BitVec.toNat_ofNat, Nat.mod_eq_of_lt (by omega), BitVec.getLsbD_sshiftRight]
  simp [show p < 32 by omega]
theorem jbit_or {x y : Int32} {p : Nat} (hp : p < 15) : jbit (x ||| y) p ↔ jbit x p ∨ jbit y p := by
  rw [jbit_iff hp, jbit_iff hp, jbit_iff hp, Int32.toBitVec_or, BitVec.getLsbD_or, Bool.or_eq_true]
theorem jbit_shl {k p : Nat} (hk : k < 15) (hp : p < 15) : jbit (nI 1 <<< (nI k &&& 31)) p ↔ p = k := by
  rw [jbit_iff hp, shl_nI hk]
  have e : ∀ k < 15, ∀ p < 15, ((nI (2 ^ k)).toBitVec.getLsbD p = true ↔ p = k) := by decide
  exact e k hk p hp
theorem jbit_0 {p : Nat} (hp : p < 15) : ¬ jbit (nI 0) p := by
  rw [jbit_iff hp]
  exact fin15 (P := fun p => ¬ (nI 0).toBitVec.getLsbD p = true) hp (by decide)
theorem sMay_bit {P : PV} {t : Nat} {o : Int32} : ∀ (m : Nat), m ≤ 15 → ∀ p, p < 15 → (jbit (sMay P t o m) p ↔ p < m ∧ P p 0 = o ∧ sOpen P t p ∧ ¬ P p 3 = nI 2)
  | 0, _, p, hp => ⟨fun h => absurd h (jbit_0 hp), fun h => absurd h.1 (Nat.not_lt_zero _)⟩
  | m + 1, hm, p, hp => by
    have ih := sMay_bit (P := P) (t := t) (o := o) m (by omega) p hp
    unfold sMay
    by_cases h : P m 0 = o ∧ sOpen P t m ∧ ¬ P m 3 = nI 2
    · rw [pif_t h, jbit_or hp, ih, jbit_shl (by omega) hp]
      constructor
      · rintro (⟨a, b⟩ | rfl)
        · exact ⟨by omega, b⟩
        · exact ⟨by omega, h⟩
      · rintro ⟨a, b⟩
        rcases Nat.lt_or_ge p m with q | q
        · exact Or.inl ⟨q, b⟩
        · exact Or.inr (by omega)
    · rw [pif_f h, ih]
      constructor
      · rintro ⟨a, b⟩; exact ⟨by omega, b⟩
      · rintro ⟨a, b⟩
        refine ⟨?_, b⟩
        rcases Nat.lt_or_ge p m with q | q
        · exact q
        · exact absurd ((show p = m by omega) ▸ b) h
theorem sub_bit {s may : Int32} (h : s &&& (may ^^^ -1) = 0) {p : Nat} (hp : p < 15) (hs : jbit s p) : jbit may p := by
  rw [jbit_iff hp] at hs ⊢
  have h1 := congrArg (fun z => z.toBitVec.getLsbD p) h
  simp only [Int32.toBitVec_and, Int32.toBitVec_xor, BitVec.getLsbD_and, BitVec.getLsbD_xor, hs, Bool.true_and] at h1
  have e : ∀ p < 15, (-1 : Int32).toBitVec.getLsbD p = true ∧ (0 : Int32).toBitVec.getLsbD p = false := by decide
  rw [(e p hp).1, (e p hp).2] at h1
  cases hm : may.toBitVec.getLsbD p
  · rw [hm] at h1; exact absurd h1 (by decide)
  · rfl
def lessV (f s : Int32) : Int32 := if f = -2 then -1 else jbc s - jbc f
def lowF (W : Int32 → Int32) (f s : Int32) : Int32 := if lessV f s < 0 ∨ (lessV f s = 0 ∧ W s < W f) then s else f
def lowC (W : Int32 → Int32) (c s : Int32) : Int32 := if c = -2 ∨ W s < c then W s else c
noncomputable def lowP (W : Int32 → Int32) (K : Int32 → Prop) : Nat → Int32 × Int32
  | 0 => (-2, -2)
  | s + 1 => pif (K (nI s)) (lowF W (lowP W K s).1 (nI s), lowC W (lowP W K s).2 (nI s)) (lowP W K s)
theorem lowP_t {W : Int32 → Int32} {K : Int32 → Prop} {s : Nat} (h : K (nI s)) : lowP W K (s + 1) = (lowF W (lowP W K s).1 (nI s), lowC W (lowP W K s).2 (nI s)) := pif_t h
theorem lowP_f {W : Int32 → Int32} {K : Int32 → Prop} {s : Nat} (h : ¬ K (nI s)) : lowP W K (s + 1) = lowP W K s := pif_f h
noncomputable def lowK (v : HV) (t : Nat) (o x : Int32) (s : Int32) : Prop := s &&& (sMay v.1 t o v.2.2.1 ^^^ -1) = 0 ∧ sHighW v t s o ≤ x
noncomputable def lowR (v : HV) (t : Nat) (o x : Int32) : Int32 × Int32 := lowP (fun s => sWorth v.1 s v.2.2.1) (lowK v t o x) (2 ^ v.2.2.1)
noncomputable def rLower (v : HV) (t no : Nat) (o x w : Int32) : Int32 := pif (inN o no ∧ inN x 10 ∧ inN w 3) (if w = nI 2 then (lowR v t o x).2 else if w = nI 1 ∨ (lowR v t o x).1 = -2 then (lowR v t o x).1 else jbc (lowR v t o x).1) (-1)
/-- turns -/
def dnP (σ : MSt) (p : Nat) : MSt := sA σ 3 (60 + p) (nI 1)
noncomputable def mayP (σ : MSt) (o : Int32) (p : Nat) : Prop := mP σ p 0 = o ∧ sOpen (mP σ) (σ.1 6) p ∧ ¬ mP σ p 3 = nI 2
noncomputable def turnB (f : MSt → Int32) (op : Int32 → Int32 → Int32) (o : Int32) (σ : MSt) : Nat → Int32
  | 0 => f σ
  | p + 1 => pif (mayP σ o p) (op (turnB f op o σ p) (f (dnP σ p))) (turnB f op o σ p)
noncomputable def turnS (L : LawT) (a b : Int32) : Nat → Nat → MSt → Int32
  | 0, _, σ => sHigh (mV σ L) (σ.1 6) a - sHigh (mV σ L) (σ.1 6) b
  | c + 1, i, σ => turnB (turnS L a b c (i + 1)) (if i % 2 = 0 then jmax else jmin) (if i % 2 = 0 then b else a) σ (σ.1 2)
noncomputable def turnA (f : MSt → Int32) (o : Int32) (σ : MSt) : Nat → Int32 × Nat
  | 0 => (f σ, 14)
  | p + 1 => pif (mayP σ o p ∧ (turnA f o σ p).1 < f (dnP σ p)) (f (dnP σ p), p) (turnA f o σ p)
theorem dn_back {σ : MSt} {p : Nat} {t : Nat} (h : sOpen (mP σ) t p) : sA (dnP σ p) 3 (60 + p) (nI 0) = σ := by
  have h6 : σ.2.1 3 (60 + p) = nI 0 := by
    have := h.1
    rw [mP_6] at this
    exact this.trans nI_0.symm
  unfold dnP
  rw [sA_sA, ← h6]
  exact sA_same _ _ _
noncomputable def turnP (no : Nat) (ab n w : Int32) : Prop := ¬ ab < 0 ∧ inN (nI (ab.toNatClampNeg / 10)) no ∧ inN (nI (ab.toNatClampNeg % 10)) no ∧ ¬ ab.toNatClampNeg / 10 = ab.toNatClampNeg % 10 ∧ btw n (nI 1) (nI 4) ∧ inN w 2
noncomputable def turnR (L : LawT) (σ : MSt) (ab n : Nat) : Int32 × Nat := turnA (turnS L (nI (ab / 10)) (nI (ab % 10)) (n - 1) 1) (nI (ab % 10)) σ (σ.1 2)
noncomputable def rTurns (L : LawT) (σ : MSt) (ab n w : Int32) : Int32 := pif (turnP (σ.1 0) ab n w) (if w = 0 then (turnR L σ ab.toNatClampNeg n.toNatClampNeg).1 else nI (turnR L σ ab.toNatClampNeg n.toNatClampNeg).2) (-2000000000)
