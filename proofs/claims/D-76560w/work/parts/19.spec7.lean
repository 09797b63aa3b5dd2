/-! SPEC 7: shelves, bodies, traces: answers and new numbers -/
set_option maxRecDepth 100000
/-- holding: nothing, a row of a kind, a body -/
def hoK (nb : Nat) (v : Int32) : Prop := v = -1 ∨ inN v 5 ∨ ∃ b, b < nb ∧ v = nI (10 + b)
noncomputable def keepP (nb : Nat) (b : Int32) : Prop := b = -1 ∨ inN b nb
noncomputable def rKeep (σ : MSt) (i b : Int32) : Int32 := pif (inN i 6 ∧ keepP (σ.1 34) b) 1 (-1)
noncomputable def gKeep (σ : MSt) (i b : Int32) : MSt := pif (inN i 6 ∧ keepP (σ.1 34) b) (sA (sA σ 38 i.toNatClampNeg (if b < 0 then -1 else nI 10 + b)) 39 i.toNatClampNeg 0) σ
noncomputable def rRow (i s n : Int32) : Int32 := pif (inN i 6 ∧ inN s 5 ∧ n ≤ nI 60) (if n < 0 then -14 else 1) (-1)
def sL (σ : MSt) (f : Nat → Int64) : MSt := (σ.1, σ.2.1, f)
noncomputable def gRow (σ : MSt) (i s n : Int32) : MSt := pif (inN i 6 ∧ inN s 5 ∧ n ≤ nI 60 ∧ ¬ n < 0) (sL (sA (sA σ 38 i.toNatClampNeg s) 39 i.toNatClampNeg n) (fun j => if 60 * i.toNatClampNeg ≤ j ∧ j < 60 * i.toNatClampNeg + 60 then 0 else σ.2.2 j)) σ
def sKept (s : Int32) (v : Int64) : Int64 := if s = 0 then v.toInt32.toInt8.toInt32.toInt64 else if s = nI 1 then v.toInt32.toInt16.toInt32.toInt64 else if s = nI 2 then v.toInt32.toInt64 else if s = nI 3 then v else if lg_cmp v 0 = 0 then 0 else 1
def lenN (σ : MSt) (i : Nat) : Nat := (σ.2.1 39 i).toNatClampNeg
noncomputable def rPut (σ : MSt) (i j : Int32) : Int32 := pif (inN i 6) (if σ.2.1 38 i.toNatClampNeg = -1 then -11 else pif (inN (σ.2.1 38 i.toNatClampNeg) 5) (pif (inN j (lenN σ i.toNatClampNeg)) 1 (-13)) (-12)) (-1)
noncomputable def putP (σ : MSt) (i j : Int32) : Prop := inN i 6 ∧ inN (σ.2.1 38 i.toNatClampNeg) 5 ∧ inN j (lenN σ i.toNatClampNeg)
noncomputable def gPut (σ : MSt) (i j : Int32) (v : Int64) : MSt := pif (putP σ i j) (sR σ (60 * i.toNatClampNeg + j.toNatClampNeg) (sKept (σ.2.1 38 i.toNatClampNeg) v)) σ
noncomputable def rEl (σ : MSt) (i j : Int32) : Int64 := pif (putP σ i j) (σ.2.2 (60 * i.toNatClampNeg + j.toNatClampNeg)) (-9223372036854775808)
theorem bt4 {x : Int32} : btw x (nI 0) (nI 4) ↔ inN x 5 := btw_0 (by decide) (by decide)
theorem bt7 {x : Int32} : btw x (nI 0) (nI 7) ↔ inN x 8 := btw_0 (by decide) (by decide)
theorem nI_cl0 {x : Int32} (h : ¬ x < 0) : inN x (2 ^ 31 - 1 + 1) := by
  obtain ⟨a, b⟩ := nI_cl h
  exact ⟨x.toNatClampNeg, by omega, a⟩
theorem bt_n1 {x : Int32} {n : Nat} (hn : n < 2 ^ 31) : btw x (nI 0) (nI n - nI 1) ↔ inN x n := inN_iff hn
theorem sL_id (σ : MSt) : sL σ σ.2.2 = σ := rfl
theorem sL_sR (σ : MSt) (f : Nat → Int64) (i : Nat) (v : Int64) : sL σ (va_up f i v) = sR (sL σ f) i v := rfl
theorem cl_step {f P Q : Nat → Int64} {o i : Nat} {v : Int64} (h : ∀ j, f j = if o ≤ j ∧ j < o + i then P j else Q j) (hv : v = P (o + i)) : ∀ j, va_up f (o + i) v j = if o ≤ j ∧ j < o + (i + 1) then P j else Q j := by
  intro j
  by_cases hj : j = o + i
  · subst hj; rw [va_up_self, if_pos (by omega)]; exact hv
  · rw [va_up_ne _ _ hj, h]
    by_cases g : o ≤ j ∧ j < o + i
    · rw [if_pos g, if_pos (by omega)]
    · rw [if_neg g, if_neg (by omega)]
theorem cl_stepd {f P Q : Nat → Int64} {o i c : Nat} {v : Int64} (hi : i < c) (h : ∀ j, f j = if o + (i + 1) ≤ j ∧ j < o + c then P j else Q j) (hv : v = P (o + i)) : ∀ j, va_up f (o + i) v j = if o + i ≤ j ∧ j < o + c then P j else Q j := by
  intro j
  by_cases hj : j = o + i
  · subst hj; rw [va_up_self, if_pos (by omega)]; exact hv
  · rw [va_up_ne _ _ hj, h]
    by_cases g : o + (i + 1) ≤ j ∧ j < o + c
    · rw [if_pos g, if_pos (by omega)]
    · rw [if_neg g, if_neg (by omega)]
theorem keepP_w {nb : Nat} (hn : nb < 2 ^ 31) {b : Int32} : btw b (-1) (nI nb - nI 1) ↔ keepP nb b := by
  by_cases h : b = -1
  · subst h
    refine ⟨fun _ => Or.inl rfl, fun _ => ⟨Int32.le_refl _, ?_⟩⟩
    rcases Nat.eq_zero_or_pos nb with rfl | h
    · decide
    · obtain ⟨k, rfl⟩ : ∃ k, nb = k + 1 := ⟨nb - 1, by omega⟩
      rw [show nI (k + 1) - nI 1 = nI k from nI_pred k, Int32.le_iff_toInt_le, nI_toInt (by omega)]
      have : (-1 : Int32).toInt = -1 := by decide
      rw [this]; omega
  · rw [show keepP nb b ↔ inN b nb from ⟨fun z => z.resolve_left h, Or.inr⟩, ← bt_n1 hn]
    have key : (-1 : Int32) ≤ b ↔ nI 0 ≤ b := by
      rw [Int32.le_iff_toInt_le, Int32.le_iff_toInt_le, show (-1 : Int32).toInt = -1 by decide, show (nI 0).toInt = 0 by decide]
      have : b.toInt ≠ -1 := fun z => h (Int32.toInt_inj.mp (z.trans (by decide)))
      omega
    exact ⟨fun ⟨x, y⟩ => ⟨key.mp x, y⟩, fun ⟨x, y⟩ => ⟨key.mpr x, y⟩⟩
/-- shifting -/
noncomputable def shiftQ (σ : MSt) (i a j b c : Int32) : Prop := ¬ c < 0 ∧ ¬ a < 0 ∧ ¬ b < 0 ∧ a.toNatClampNeg + c.toNatClampNeg ≤ lenN σ i.toNatClampNeg ∧ b.toNatClampNeg + c.toNatClampNeg ≤ lenN σ j.toNatClampNeg
noncomputable def shiftO (σ : MSt) (i j : Nat) : Prop := inN (σ.2.1 38 i) 5 ∧ inN (σ.2.1 38 j) 5 ∧ σ.2.1 38 i = σ.2.1 38 j
noncomputable def rShift (σ : MSt) (i a j b c : Int32) : Int32 := pif (inN i 6 ∧ inN j 6) (pif (σ.2.1 38 i.toNatClampNeg = -1 ∨ σ.2.1 38 j.toNatClampNeg = -1) (-11) (pif (shiftO σ i.toNatClampNeg j.toNatClampNeg) (pif (shiftQ σ i a j b c) c (-13)) (-12))) (-1)
def moveL (f : Nat → Int64) (s t c : Nat) : Nat → Int64 := fun k => if t ≤ k ∧ k < t + c then f (s + (k - t)) else f k
noncomputable def gShift (σ : MSt) (i a j b c : Int32) : MSt := pif ((inN i 6 ∧ inN j 6) ∧ shiftO σ i.toNatClampNeg j.toNatClampNeg ∧ shiftQ σ i a j b c) (sL σ (moveL σ.2.2 (60 * i.toNatClampNeg + a.toNatClampNeg) (60 * j.toNatClampNeg + b.toNatClampNeg) c.toNatClampNeg)) σ
theorem l_toInt {n : Nat} (hn : n < 2 ^ 31) : (nI n).toInt64.toInt = n := by rw [Int32.toInt_toInt64, nI_toInt hn]
theorem ladd_toInt {a c : Nat} (ha : a < 2 ^ 31) (hc : c < 2 ^ 31) : ((nI a).toInt64 + (nI c).toInt64).toInt = a + c := by
  rw [Int64.toInt_add, l_toInt ha, l_toInt hc]
  exact Int.bmod_eq_of_le (by omega) (by omega)
theorem ladd_gt {a c n : Nat} (ha : a < 2 ^ 31) (hc : c < 2 ^ 31) (hn : n < 2 ^ 31) : 0 < lg_cmp ((nI a).toInt64 + (nI c).toInt64) (nI n).toInt64 ↔ n < a + c := by
  rw [lg_cmp_gt, Int64.lt_iff_toInt_lt, ladd_toInt ha hc, l_toInt hn]; omega
theorem ladd_le {a c n : Nat} (ha : a < 2 ^ 31) (hc : c < 2 ^ 31) (hn : n < 2 ^ 31) : lg_cmp ((nI a).toInt64 + (nI c).toInt64) (nI n).toInt64 ≤ 0 ↔ a + c ≤ n := by
  rw [lg_cmp_le, Int64.le_iff_toInt_le, ladd_toInt ha hc, l_toInt hn]; omega
/-- counts -/
def rCount (σ : MSt) (k : Int32) : Int32 := if k = 0 then nI (σ.1 0) else if k = nI 1 then nI (σ.1 2) else if k = nI 2 then nI (σ.1 7) else if k = nI 3 then nI (σ.1 32) else if k = nI 4 then nI (σ.1 34) else if k = nI 5 then nI (σ.1 36) else -1
/-- kinds -/
def abv (k : Nat) : Nat := if k = 3 then 2 else if k = 4 then 1 else if k = 5 then 3 else if k = 7 then 4 else 0
def upK : Nat → Nat → Nat → Prop
  | 0, a, k => a = k
  | n + 1, a, k => a = k ∨ (0 < a ∧ upK n (abv a) k)
/-- moving: what one step reads is old -/
theorem mv_f {f g : Nat → Int64} {s t k c : Nat} (hk : k < c) (h : ∀ j, f j = if t ≤ j ∧ j < t + k then g (s + (j - t)) else g j) (hst : t ≤ s ∨ s + c ≤ t ∨ t + c ≤ s) : f (s + k) = g (s + (t + k - t)) := by
  rw [h, if_neg (by omega), Nat.add_sub_cancel_left]
theorem mv_b {f g : Nat → Int64} {s t k c : Nat} (hst : s < t) (h : ∀ j, f j = if t + (k + 1) ≤ j ∧ j < t + c then g (s + (j - t)) else g j) : f (s + k) = g (s + (t + k - t)) := by
  rw [h, if_neg (by omega), Nat.add_sub_cancel_left]
theorem nN1 : ¬ inN (-1) 5 := by
  rintro ⟨q, q1, q2⟩
  rcases (show q = 0 ∨ q = 1 ∨ q = 2 ∨ q = 3 ∨ q = 4 by omega) with rfl | rfl | rfl | rfl | rfl <;> exact absurd q2 (by decide)
/-- bodies: their kinds -/
def boOK (σ : MSt) : Prop := σ.1 34 ≤ 50 ∧ ∀ b, b < σ.1 34 → ∃ k, k ≤ 7 ∧ σ.2.1 35 b = nI k
noncomputable def rBody (σ : MSt) (k : Int32) : Int32 := pif (inN k 8) (if σ.1 34 = 50 then -3 else nI (σ.1 34)) (-1)
noncomputable def gBody (σ : MSt) (k : Int32) : MSt := pif (inN k 8 ∧ ¬ σ.1 34 = 50) (sN (sA σ 35 (σ.1 34) k) 34 (σ.1 34 + 1)) σ
noncomputable def rTrace (σ : MSt) (i : Int32) : Int32 := pif (inN i (min 24 (σ.1 36))) (σ.2.1 37 i.toNatClampNeg) (-1)
/-- what is held on a shelf: all of it -/
def hoOK (σ : MSt) : Prop := ∀ i, i < 6 → hoK (σ.1 34) (σ.2.1 38 i)
/-- k or a kind above it -/
def isUp (a k : Nat) : Prop := upK 4 a k
noncomputable def rTaken (σ : MSt) (i k : Int32) : Int32 := pif (inN i 6 ∧ inN k 8) (if σ.2.1 38 i.toNatClampNeg = -1 then -11 else pif (inN (σ.2.1 38 i.toNatClampNeg) 5) (-12) (pif (isUp (σ.2.1 35 ((σ.2.1 38 i.toNatClampNeg).toNatClampNeg - 10)).toNatClampNeg k.toNatClampNeg) (σ.2.1 35 ((σ.2.1 38 i.toNatClampNeg).toNatClampNeg - 10)) (-12))) (-1)
theorem abv_le {k : Nat} (h : k ≤ 7) : abv k ≤ 7 := by
  rcases (show k = 0 ∨ k = 1 ∨ k = 2 ∨ k = 3 ∨ k = 4 ∨ k = 5 ∨ k = 6 ∨ k = 7 by omega) with rfl | rfl | rfl | rfl | rfl | rfl | rfl | rfl <;> decide
def rk (k : Nat) : Nat := if k = 0 then 0 else if k = 1 ∨ k = 2 ∨ k = 6 then 1 else if k = 3 ∨ k = 4 then 2 else 3
theorem abv_rk {k : Nat} (h : k ≤ 7) (h0 : 0 < k) : rk (abv k) + 1 = rk k := by
  rcases (show k = 1 ∨ k = 2 ∨ k = 3 ∨ k = 4 ∨ k = 5 ∨ k = 6 ∨ k = 7 by omega) with rfl | rfl | rfl | rfl | rfl | rfl | rfl <;> decide
theorem upK_rk {k : Nat} : ∀ (n a : Nat), a ≤ 7 → rk a ≤ n → (upK (n + 1) a k ↔ upK n a k)
  | 0, a, ha, h => by
    have : a = 0 := by
      rcases (show a = 0 ∨ a = 1 ∨ a = 2 ∨ a = 3 ∨ a = 4 ∨ a = 5 ∨ a = 6 ∨ a = 7 by omega) with rfl | rfl | rfl | rfl | rfl | rfl | rfl | rfl <;> first | rfl | exact absurd h (by decide)
    subst this
    exact ⟨fun z => z.elim id (fun z => absurd z.1 (by decide)), Or.inl⟩
  | n + 1, a, ha, h => by
    show (a = k ∨ (0 < a ∧ upK (n + 1) (abv a) k)) ↔ (a = k ∨ (0 < a ∧ upK n (abv a) k))
    by_cases h0 : 0 < a
    · rw [upK_rk n (abv a) (abv_le ha) (by have := abv_rk ha h0; omega)]
    · exact ⟨fun z => z.elim Or.inl (fun q => absurd q.1 h0), fun z => z.elim Or.inl (fun q => absurd q.1 h0)⟩
theorem isUp_s {a k : Nat} (ha : a ≤ 7) (h0 : 0 < a) (hk : ¬ a = k) : isUp a k ↔ isUp (abv a) k := by
  have h3 : rk (abv a) ≤ 3 := by
    rcases (show a = 1 ∨ a = 2 ∨ a = 3 ∨ a = 4 ∨ a = 5 ∨ a = 6 ∨ a = 7 by omega) with rfl | rfl | rfl | rfl | rfl | rfl | rfl <;> decide
  have : isUp a k ↔ upK 3 (abv a) k := ⟨fun z => (z.resolve_left hk).2, fun z => Or.inr ⟨h0, z⟩⟩
  rw [this]
  exact (upK_rk 3 (abv a) (abv_le ha) h3).symm
theorem isUp_0 {k : Nat} (hk : ¬ 0 = k) : ¬ isUp 0 k := fun z => z.elim hk (fun q => absurd q.1 (by decide))
theorem isUp_r {a : Nat} : isUp a a := Or.inl rfl
theorem nI_le0 {u : Nat} (h : u < 2 ^ 31) : nI u ≤ 0 ↔ u = 0 := by
  rw [Int32.le_iff_toInt_le, nI_toInt h, show (0 : Int32).toInt = 0 by decide]; omega
