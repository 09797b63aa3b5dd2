/-! SPEC 8: rows of promises, views -/
set_option maxRecDepth 100000
noncomputable def rPrs (σ : MSt) (i a n : Int32) : Int32 := pif (inN i 6 ∧ btw n (nI 1) (nI 14)) (if σ.2.1 38 i.toNatClampNeg = -1 then 0 else if σ.2.1 38 i.toNatClampNeg = 0 then nI (prsS i.toNatClampNeg (lenN σ i.toNatClampNeg) n.toNatClampNeg σ a.toInt).2 else -12) (-1)
noncomputable def gPrs (σ : MSt) (i a n : Int32) : MSt := pif (inN i 6 ∧ btw n (nI 1) (nI 14) ∧ σ.2.1 38 i.toNatClampNeg = 0) (prsS i.toNatClampNeg (lenN σ i.toNatClampNeg) n.toNatClampNeg σ a.toInt).1 σ
theorem pos64 (a : Int32) {k : Nat} (hk : k ≤ 14) : (a.toInt64 + 4 * (nI k).toInt64).toInt = a.toInt + 4 * k := by
  have h1 := Int32.le_toInt a
  have h2 := Int32.toInt_lt a
  rw [Int64.toInt_add, Int64.toInt_mul, Int32.toInt_toInt64, l_toInt (by omega), show (4 : Int64).toInt = 4 by decide, Int.bmod_eq_of_le (n := 4 * (k : Int)) (by omega) (by omega)]
  exact Int.bmod_eq_of_le (by omega) (by omega)
theorem pos64' (a : Int32) {k : Nat} (hk : k ≤ 14) : (a.toInt64 + 4 * (nI k).toInt64 + 4).toInt = a.toInt + 4 * k + 4 := by
  have h1 := Int32.le_toInt a
  have h2 := Int32.toInt_lt a
  rw [Int64.toInt_add, pos64 a hk, show (4 : Int64).toInt = 4 by decide]
  exact Int.bmod_eq_of_le (by omega) (by omega)
theorem pos_lt (a : Int32) {k : Nat} (hk : k ≤ 14) : lg_cmp (a.toInt64 + 4 * (nI k).toInt64) 0 < 0 ↔ a.toInt + 4 * k < 0 := by
  rw [lg_cmp_lt, Int64.lt_iff_toInt_lt, pos64 a hk, show (0 : Int64).toInt = 0 by decide]
theorem pos_gt (a : Int32) {k n : Nat} (hk : k ≤ 14) (hn : n < 2 ^ 31) : 0 < lg_cmp (a.toInt64 + 4 * (nI k).toInt64 + 4) (nI n).toInt64 ↔ (n : Int) < a.toInt + 4 * k + 4 := by
  rw [lg_cmp_gt, Int64.lt_iff_toInt_lt, pos64' a hk, l_toInt hn]
theorem pos_p (a : Int32) {k p : Nat} (hk : k ≤ 14) (h : a.toInt + 4 * k = p) (hp : p < 2 ^ 31) : (a.toInt64 + 4 * (nI k).toInt64).toInt32 = nI p := by
  apply Int32.toInt_inj.mp
  rw [Int64.toInt_toInt32, pos64 a hk, h, nI_toInt hp]
  exact Int.bmod_eq_of_le (by omega) (by omega)
theorem prsS_t {s n c : Nat} {σ : MSt} {i : Int} (h : prsHere σ s n i) : prsS s n (c + 1) σ i = ((prsS s n c (newS σ (toldM σ s i.toNat) (toldM σ s (i.toNat + 1)) (toldM σ s (i.toNat + 2)) (toldM σ s (i.toNat + 3))) (i + 4)).1, (prsS s n c (newS σ (toldM σ s i.toNat) (toldM σ s (i.toNat + 1)) (toldM σ s (i.toNat + 2)) (toldM σ s (i.toNat + 3))) (i + 4)).2 + 1) := pif_t h
theorem prsS_f {s n c : Nat} {σ : MSt} {i : Int} (h : ¬ prsHere σ s n i) : prsS s n c σ i = (σ, 0) := by
  cases c with
  | zero => rfl
  | succ c => exact pif_f h
/-- views -/
noncomputable def sV (v : HV) (t no w : Nat) (mm : Nat) (b : Int32) : Nat := if w = 0 then sViewU v t mm (no - mm) b else sViewD v t mm b
theorem sV_s {v : HV} {t no w mm q : Nat} {b : Int32} (h : (w = 0 ∧ q + (mm + 1) = no) ∨ (¬ w = 0 ∧ q = mm)) : sV v t no w (mm + 1) b = if b < sHigh v t (nI q) then sV v t no w mm (sHigh v t (nI q)) + 1 else sV v t no w mm b := by
  unfold sV
  rcases h with ⟨a, e⟩ | ⟨a, e⟩
  · rw [if_pos a, if_pos a, if_pos a]
    rw [show no - (mm + 1) = q by omega, show no - mm = q + 1 by omega]; rfl
  · rw [if_neg a, if_neg a, if_neg a, e]; rfl
theorem inN_nn {k n : Nat} (hk : k < 2 ^ 31) : inN (nI k) n → k < n ∨ 2 ^ 31 ≤ n := by
  intro h
  by_cases g : n < 2 ^ 31
  · exact Or.inl ((inN_nI hk g).mp h)
  · exact Or.inr (by omega)
theorem inN_pred0 {n : Nat} (hn : n < 2 ^ 31) : ¬ inN (nI 0 - 1) n := fun h => by
  obtain ⟨a, b⟩ := inN_cl hn h
  have : (nI 0 - 1).toNatClampNeg = 0 := by decide
  rw [this] at b
  exact absurd b (by decide)
theorem view_fin {v : HV} {t no o : Nat} {w : Int32} {n tot : Nat} {b : Int32} (hwe : w = nI w.toNatClampNeg) (ho : o < no) (h1 : n + sV v t no w.toNatClampNeg 0 b = tot) (ht : tot = sV v t no w.toNatClampNeg (if w.toNatClampNeg = 0 then no - (o + 1) else o) (-1)) : n = (if w = 0 then sViewU v t (no - (o + 1)) (o + 1) (-1) else sViewD v t o (-1)) := by
  have h0 : sV v t no w.toNatClampNeg 0 b = 0 := by unfold sV; split <;> rfl
  rw [h0, Nat.add_zero, ht] at h1
  rw [h1]
  unfold sV
  by_cases q : w.toNatClampNeg = 0
  · rw [if_pos q, if_pos q, if_pos (by rw [hwe, q]; rfl), show no - (no - (o + 1)) = o + 1 by omega]
  · rw [if_neg q, if_neg q, if_neg (fun z => q (by rw [z]; rfl))]
theorem zi_m1 (x : Int32) : x + (-1) = x - 1 := (Int32.sub_eq_add_neg (a := x) (b := 1)).symm
