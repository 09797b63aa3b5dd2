/-! X: plain laws: skylines, sets of deeds, turns -/
set_option maxRecDepth 100000
theorem byOK.same {σ τ : MSt} (h : byOK σ) (h0 : τ.1 0 = σ.1 0) (h2 : τ.1 2 = σ.1 2) (h4 : τ.2.1 4 = σ.2.1 4) : byOK τ := fun p hp => by
  rw [h2] at hp
  rw [h0, h4]
  exact h p hp
theorem mOK.sA50 {σ : MSt} {L : LawT} (h : mOK σ L) (i : Nat) (x : Int32) : mOK (sA σ 50 i x) L := by
  obtain ⟨a, b, c, d, e⟩ := h
  exact ⟨a, b, c, d, e.same rfl rfl (fun k k1 k2 => up2_n _ _ _ (by omega))⟩
noncomputable def sMost (v : HV) (t n : Nat) : Int32 := match sTallN v t n with
  | none => -1
  | some q => sHigh v t (nI q)
theorem high_m1 (v : HV) (t : Nat) (o : Int32) : -1 < sHigh v t o := by
  obtain ⟨k, hk, e⟩ := sHigh_in v t o
  rw [e, Int32.lt_iff_toInt_lt, nI_toInt (by omega)]
  have : (-1 : Int32).toInt = -1 := by decide
  omega
theorem sMost_s (v : HV) (t n : Nat) : sMost v t (n + 1) = if sMost v t n < sHigh v t (nI n) then sHigh v t (nI n) else sMost v t n := by
  unfold sMost
  show (match (match sTallN v t n with | none => some n | some q => if sHigh v t (nI q) < sHigh v t (nI n) then some n else some q) with | none => (-1 : Int32) | some q => sHigh v t (nI q)) = _
  cases sTallN v t n with
  | none => simp only; rw [if_pos (high_m1 _ _ _)]
  | some q =>
    simp only
    by_cases h : sHigh v t (nI q) < sHigh v t (nI n)
    · rw [if_pos h, if_pos h]
    · rw [if_neg h, if_neg h]
theorem sSky_s (v : HV) (t n : Nat) : sSky v t (n + 1) = if sMost v t n < sHigh v t (nI n) then sSky v t n ||| (nI 1 <<< (nI n &&& 31)) else sSky v t n := by
  unfold sMost
  show (match sTallN v t n with | none => sSky v t n ||| (nI 1 <<< (nI n &&& 31)) | some q => if sHigh v t (nI q) < sHigh v t (nI n) then sSky v t n ||| (nI 1 <<< (nI n &&& 31)) else sSky v t n) = _
  cases sTallN v t n with
  | none => simp only; rw [if_pos (high_m1 _ _ _)]
  | some q => rfl
/-- worths are small numbers -/
def wtOK (σ : MSt) : Prop := ∀ p, p < σ.1 2 → ∃ k, k ≤ 99 ∧ mP σ p 2 = nI k
theorem sWorth_in {P : PV} {m : Nat} (h : ∀ p, p < m → ∃ k, k ≤ 99 ∧ P p 2 = nI k) (set : Int32) : ∀ n, n ≤ m → ∃ k, k ≤ 99 * n ∧ sWorth P set n = nI k
  | 0, _ => ⟨0, by omega, rfl⟩
  | n + 1, hn => by
    obtain ⟨k, hk, e⟩ := sWorth_in h set n (by omega)
    unfold sWorth
    by_cases b : jbit set n
    · obtain ⟨w, hw, ew⟩ := h n (by omega)
      rw [pif_t b, e, ew, nI_add]
      exact ⟨k + w, by omega, rfl⟩
    · rw [pif_f b]; exact ⟨k, by omega, e⟩
theorem lowP_1 (W : Int32 → Int32) (K : Int32 → Prop) : ∀ s, (lowP W K s = (-2, -2)) ∨ ((∃ j, j < s ∧ (lowP W K s).1 = nI j) ∧ ∃ j, j < s ∧ (lowP W K s).2 = W (nI j))
  | 0 => Or.inl rfl
  | s + 1 => by
    by_cases h : K (nI s)
    · rw [lowP_t h]
      refine Or.inr ?_
      rcases lowP_1 W K s with e | ⟨⟨j, hj, e⟩, j2, hj2, e2⟩
      · rw [e]
        refine ⟨⟨s, Nat.lt_succ_self _, ?_⟩, s, Nat.lt_succ_self _, ?_⟩
        · show lowF W (-2) (nI s) = nI s
          unfold lowF lessV
          rw [if_pos (Or.inl (by rw [if_pos rfl]; decide))]
        · show lowC W (-2) (nI s) = W (nI s)
          unfold lowC
          rw [if_pos (Or.inl rfl)]
      · constructor
        · show ∃ j, j < s + 1 ∧ lowF W (lowP W K s).1 (nI s) = nI j
          unfold lowF
          split
          · exact ⟨s, Nat.lt_succ_self _, rfl⟩
          · exact ⟨j, by omega, e⟩
        · show ∃ j, j < s + 1 ∧ lowC W (lowP W K s).2 (nI s) = W (nI j)
          unfold lowC
          split
          · exact ⟨s, Nat.lt_succ_self _, rfl⟩
          · exact ⟨j2, by omega, e2⟩
    · rw [lowP_f h]
      rcases lowP_1 W K s with e | ⟨⟨j, hj, e⟩, j2, hj2, e2⟩
      · exact Or.inl e
      · exact Or.inr ⟨⟨j, by omega, e⟩, j2, by omega, e2⟩
theorem lowP_neg {W : Int32 → Int32} {K : Int32 → Prop} {s : Nat} (hs : s ≤ 2 ^ 30) : (lowP W K s).1 < 0 ↔ (lowP W K s).1 = -2 := by
  rcases lowP_1 W K s with e | ⟨⟨j, hj, e⟩, -⟩
  · rw [e]; exact ⟨fun _ => rfl, fun _ => by decide⟩
  · rw [e]
    exact ⟨fun h => absurd h (nI_pos (by omega)), fun h => absurd h (nI_ne2 (by omega))⟩
theorem lowP_neg2 {W : Int32 → Int32} {K : Int32 → Prop} {s : Nat} (hW : ∀ x, ∃ k, k < 2 ^ 30 ∧ W x = nI k) : (lowP W K s).2 < 0 ↔ (lowP W K s).2 = -2 := by
  rcases lowP_1 W K s with e | ⟨-, j, hj, e⟩
  · rw [e]; exact ⟨fun _ => rfl, fun _ => by decide⟩
  · obtain ⟨k, hk, ek⟩ := hW (nI j)
    rw [e, ek]
    exact ⟨fun h => absurd h (nI_pos (by omega)), fun h => absurd h (nI_ne2 (by omega))⟩
theorem lowP_both {W : Int32 → Int32} {K : Int32 → Prop} {s : Nat} (hs : s ≤ 2 ^ 30) (h : (lowP W K s).1 = -2) : (lowP W K s).2 = -2 := by
  rcases lowP_1 W K s with e | ⟨⟨j, hj, e⟩, -⟩
  · rw [e]
  · rw [e] at h; exact absurd h (nI_ne2 (by omega))
/-- whether a set of deeds is better than the best so far -/
def betterP (W : Int32 → Int32) (s f : Int32) : Prop := f < 0 ∨ jbc s - jbc f < 0 ∨ (jbc s - jbc f = 0 ∧ W s < W f)
theorem lowF_b {W : Int32 → Int32} {f s : Int32} (h : f < 0 ↔ f = -2) : lowF W f s = pif (betterP W s f) s f := by
  unfold lowF lessV betterP
  by_cases q : f = -2
  · rw [if_pos q, if_pos (Or.inl (by decide)), pif_t (Or.inl (h.mpr q))]
  · rw [if_neg q]
    by_cases z : jbc s - jbc f < 0 ∨ (jbc s - jbc f = 0 ∧ W s < W f)
    · rw [if_pos z, pif_t (Or.inr z)]
    · rw [if_neg z, pif_f (fun y => y.elim (fun y => q (h.mp y)) z)]
theorem lowC_b {W : Int32 → Int32} {c s : Int32} (h : c < 0 ↔ c = -2) : lowC W c s = pif (c < 0 ∨ W s < c) (W s) c := by
  unfold lowC
  by_cases q : c = -2 ∨ W s < c
  · rw [if_pos q, pif_t (q.elim (fun y => Or.inl (h.mpr y)) Or.inr)]
  · rw [if_neg q, pif_f (fun y => q (y.elim (fun y => Or.inl (h.mp y)) Or.inr))]
noncomputable def gLow (L : LawT) (σ : MSt) (o x w : Int32) : MSt := pif (inN o (σ.1 0) ∧ inN x 10 ∧ inN w 3) (sA σ 50 0 (lowR (mV σ L) (σ.1 6) o x).2) σ
/-! turns -/
theorem turnA_1 (f : MSt → Int32) (o : Int32) (σ : MSt) : ∀ n, (turnA f o σ n).1 = turnB f jmax o σ n
  | 0 => rfl
  | n + 1 => by
    have ih := turnA_1 f o σ n
    show (pif (mayP σ o n ∧ (turnA f o σ n).1 < f (dnP σ n)) (f (dnP σ n), n) (turnA f o σ n)).1 = pif (mayP σ o n) (jmax (turnB f jmax o σ n) (f (dnP σ n))) (turnB f jmax o σ n)
    by_cases h : mayP σ o n
    · rw [pif_t h, ← ih]
      unfold jmax
      by_cases g : (turnA f o σ n).1 < f (dnP σ n)
      · rw [pif_t ⟨h, g⟩, if_pos g]
      · rw [pif_f (fun z => g z.2), if_neg g]
    · rw [pif_f h, pif_f (fun z => h z.1), ih]
theorem turnA_le (f : MSt → Int32) (o : Int32) (σ : MSt) : ∀ n, f σ ≤ (turnA f o σ n).1 ∧ ∀ q, q < n → mayP σ o q → f (dnP σ q) ≤ (turnA f o σ n).1
  | 0 => ⟨Int32.le_refl _, fun q h => absurd h (Nat.not_lt_zero _)⟩
  | n + 1 => by
    obtain ⟨h1, h2⟩ := turnA_le f o σ n
    show f σ ≤ (pif (mayP σ o n ∧ (turnA f o σ n).1 < f (dnP σ n)) (f (dnP σ n), n) (turnA f o σ n)).1 ∧ ∀ q, q < n + 1 → mayP σ o q → f (dnP σ q) ≤ (pif (mayP σ o n ∧ (turnA f o σ n).1 < f (dnP σ n)) (f (dnP σ n), n) (turnA f o σ n)).1
    by_cases g : mayP σ o n ∧ (turnA f o σ n).1 < f (dnP σ n)
    · rw [pif_t g]
      refine ⟨Int32.le_trans h1 (Int32.le_of_lt g.2), fun q hq hm => ?_⟩
      rcases Nat.lt_or_ge q n with z | z
      · exact Int32.le_trans (h2 q z hm) (Int32.le_of_lt g.2)
      · rw [show q = n by omega]; exact Int32.le_refl _
    · rw [pif_f g]
      refine ⟨h1, fun q hq hm => ?_⟩
      rcases Nat.lt_or_ge q n with z | z
      · exact h2 q z hm
      · rw [show q = n by omega] at hm ⊢
        exact Int32.not_lt.mp fun w => g ⟨hm, w⟩
/-- the second: none when nothing is gained, else the first deed that reaches the most -/
theorem turnA_2 (f : MSt → Int32) (o : Int32) (σ : MSt) : ∀ n, (f σ = (turnA f o σ n).1 ∧ (turnA f o σ n).2 = 14) ∨ (¬ f σ = (turnA f o σ n).1 ∧ (turnA f o σ n).2 < n ∧ mayP σ o (turnA f o σ n).2 ∧ f (dnP σ (turnA f o σ n).2) = (turnA f o σ n).1 ∧ ∀ q, q < (turnA f o σ n).2 → mayP σ o q → ¬ f (dnP σ q) = (turnA f o σ n).1)
  | 0 => Or.inl ⟨rfl, rfl⟩
  | n + 1 => by
    have ih := turnA_2 f o σ n
    obtain ⟨h1, h2⟩ := turnA_le f o σ n
    have e : turnA f o σ (n + 1) = pif (mayP σ o n ∧ (turnA f o σ n).1 < f (dnP σ n)) (f (dnP σ n), n) (turnA f o σ n) := rfl
    rw [e]
    by_cases g : mayP σ o n ∧ (turnA f o σ n).1 < f (dnP σ n)
    · rw [pif_t g]
      refine Or.inr ⟨fun z => ?_, Nat.lt_succ_self _, g.1, rfl, fun q hq hm z => ?_⟩
      · have z : f σ = f (dnP σ n) := z
        rw [← z] at g
        exact Int32.not_lt.mpr h1 g.2
      · have z : f (dnP σ q) = f (dnP σ n) := z
        have := h2 q hq hm
        rw [z] at this
        exact Int32.not_lt.mpr this g.2
    · rw [pif_f g]
      rcases ih with a | ⟨a1, a2, a3⟩
      · exact Or.inl a
      · exact Or.inr ⟨a1, by omega, a3⟩
theorem bit_may {σ : MSt} {o : Int32} (hm : σ.1 2 ≤ 15) {p : Nat} (hp : p < σ.1 2) : jbit (sMay (mP σ) (σ.1 6) o (σ.1 2)) p ↔ mayP σ o p := by
  rw [sMay_bit (σ.1 2) hm p (by omega)]
  exact ⟨fun h => h.2, fun h => ⟨hp, h⟩⟩
theorem wtOK.same {σ τ : MSt} (h : wtOK σ) (h2 : τ.1 2 = σ.1 2) (h3 : ∀ p, τ.2.1 3 p = σ.2.1 3 p ∨ 15 ≤ p) (hm : σ.1 2 ≤ 15) : wtOK τ := fun p hp => by
  rw [h2] at hp
  obtain ⟨k, hk, e⟩ := h p hp
  refine ⟨k, hk, ?_⟩
  rw [mP_2] at e ⊢
  rcases h3 p with z | z
  · rw [z]; exact e
  · omega
