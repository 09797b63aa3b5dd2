/-! SPEC 6: fits, mending, images, rows of promises -/
set_option maxRecDepth 100000
def shOK (σ : MSt) : Prop := ∀ i, i < 6 → ∃ n, n ≤ 60 ∧ σ.2.1 39 i = nI n
theorem zi_dlt {k a : Nat} (hk : k < 2 ^ 30) (ha : a < 2 ^ 30) : nI k - 1 < nI a ↔ k ≤ a := by
  rw [Int32.lt_iff_toInt_lt, nI_toInt (by omega)]
  rcases Nat.eq_zero_or_pos k with rfl | h
  · have : (nI 0 - 1).toInt = -1 := by decide
    rw [this]; omega
  · obtain ⟨j, rfl⟩ : ∃ j, k = j + 1 := ⟨k - 1, by omega⟩
    rw [nI_pred, nI_toInt (by omega)]; omega
theorem sSet_12 (σ : MSt) (p : Nat) {w : Nat} (h1 : 1 ≤ w) (h2 : w ≤ 5) (x : Int32) : sSet σ p w x = sA σ 3 (15 * (w - 1) + p) x := by
  unfold sSet; rw [if_neg (by omega), if_neg (by omega)]
theorem sA_sA (σ : MSt) (k i : Nat) (x y : Int32) : sA (sA σ k i x) k i y = sA σ k i y := by
  have : up2 (up2 σ.2.1 k i x) k i y = up2 σ.2.1 k i y := by
    funext a b
    rw [up2_at, up2_at, up2_at]
    by_cases h : a = k ∧ b = i
    · rw [if_pos h, if_pos h]
    · rw [if_neg h, if_neg h, if_neg h]
  exact congrArg (fun A => (σ.1, A, σ.2.2)) this
theorem sA_same (σ : MSt) (k i : Nat) : sA σ k i (σ.2.1 k i) = σ := by
  have : up2 σ.2.1 k i (σ.2.1 k i) = σ.2.1 := by
    funext a b
    rw [up2_at]
    by_cases h : a = k ∧ b = i
    · rw [if_pos h, h.1, h.2]
    · rw [if_neg h]
  exact congrArg (fun A => (σ.1, A, σ.2.2)) this
theorem sSet_sSet (σ : MSt) (p : Nat) {w : Nat} (h1 : 1 ≤ w) (h2 : w ≤ 5) (x y : Int32) : sSet (sSet σ p w x) p w y = sSet σ p w y := by
  rw [sSet_12 _ _ h1 h2, sSet_12 _ _ h1 h2, sSet_12 _ _ h1 h2, sA_sA]
theorem sSet_same (σ : MSt) (p : Nat) {w : Nat} (h1 : 1 ≤ w) (h2 : w ≤ 5) : sSet σ p w (sGet σ p w) = σ := by
  rw [sSet_12 _ _ h1 h2]
  unfold sGet
  rw [if_neg (by omega), if_neg (by omega)]
  exact sA_same _ _ _
theorem mOK.sSet {σ : MSt} {L : LawT} (h : mOK σ L) (p : Nat) {w : Nat} (h1 : 1 ≤ w) (h2 : w ≤ 5) (x : Int32) : mOK (sSet σ p w x) L := by
  rw [sSet_12 _ _ h1 h2]; exact h.sA3 _ _
theorem sUnlike_congr {v v' : HV} (h : pEq v.2.2.1 v.1 v'.1) (h2 : v.2 = v'.2) (t : Nat) (told : Nat → Int32) (len : Nat) (o : Int32) : sUnlike v t told len o = sUnlike v' t told len o := by
  have : sUnK v t told o = sUnK v' t told o := by
    funext i
    unfold sUnK
    rw [sHigh_congr h h2]
  unfold sUnlike
  rw [this]
theorem fit_unlike {σ : MSt} {L : LawT} (hm : σ.1 2 ≤ 15) {p : Nat} (hp : p < 15) {w : Nat} (h1 : 1 ≤ w) (h2 : w ≤ 5) (x : Int32) (t : Nat) (told : Nat → Int32) (len : Nat) (o : Int32) : sUnlike (mV (sSet σ p w x) L) t told len o = sUnlike (pSet (mP σ) p (w + 1) x, (mV σ L).2) t told len o := by
  rw [sSet_12 _ _ h1 h2]
  refine sUnlike_congr (v := mV (sA σ 3 (15 * (w - 1) + p) x) L) (v' := (pSet (mP σ) p (w + 1) x, (mV σ L).2)) (fun q hq j hj => ?_) rfl _ _ _ _
  have hq : q < σ.1 2 := hq
  have := mP_set (σ := σ) (p := p) (j := w + 1) hp (by omega) (by omega) x q (by omega) j hj
  rw [show w + 1 - 2 = w - 1 by omega] at this
  exact this
theorem oI_iff {r : Option Nat} {n : Nat} (hn : ∀ q, r = some q → q < n) (hb : n < 2 ^ 31) : oI r = -2 ↔ r = none := ⟨oI_none hn hb, fun h => by rw [h]; rfl⟩
theorem sUnlike_lt (v : HV) (t : Nat) (told : Nat → Int32) (len : Nat) (o : Int32) : ∀ q, sUnlike v t told len o = some q → q < len := fun q h => by
  have := sLeast_lt len 0 q h
  omega
theorem sNum_s (K : Nat → Prop) (a c : Nat) : sNum K a (c + 1) = sNum K (a + 1) c + pif (K a) 1 0 := rfl
theorem sNum_le (K : Nat → Prop) : ∀ (c a : Nat), sNum K a c ≤ c
  | 0, _ => Nat.le_refl _
  | c + 1, a => by
    have := sNum_le K c (a + 1)
    rw [sNum_s]
    by_cases h : K a
    · rw [pif_t h]; omega
    · rw [pif_f h]; omega
/-- changes: the four rows of the array 33 -/
def chShift (σ : MSt) : MSt := sN (σ.1, va_up σ.2.1 33 (fun j => if j < 156 then σ.2.1 33 (j + 4) else σ.2.1 33 j), σ.2.2) 32 (σ.1 32 - 1)
def chPush (σ : MSt) (n w : Nat) (h v : Int32) : MSt := sN (sN (sA (sA (sA (sA σ 33 (4 * σ.1 32) (nI n)) 33 (4 * σ.1 32 + 1) (nI w)) 33 (4 * σ.1 32 + 2) h) 33 (4 * σ.1 32 + 3) v) 32 (σ.1 32 + 1)) 31 (σ.1 32 + 1)
def mendS (σ : MSt) (n w : Nat) (v : Int32) : MSt := if σ.1 32 = 40 then chPush (chShift (sSet σ n w v)) n w (sGet σ n w) v else chPush (sSet σ n w v) n w (sGet σ n w) v
noncomputable def rMend (σ : MSt) (n w v : Int32) : Int32 := pif (ofP (σ.1 0) (σ.1 2) n w ∧ fitP w v) (sGet σ n.toNatClampNeg w.toNatClampNeg) (-2000000000)
noncomputable def gMend (σ : MSt) (n w v : Int32) : MSt := pif (ofP (σ.1 0) (σ.1 2) n w ∧ fitP w v ∧ ¬ sGet σ n.toNatClampNeg w.toNatClampNeg = v) (mendS σ n.toNatClampNeg w.toNatClampNeg v) σ
/-- the e-th change: of what, before, behind -/
def chE (σ : MSt) (e : Nat) : Nat × Nat × Int32 × Int32 := ((σ.2.1 33 (4 * e)).toNatClampNeg, (σ.2.1 33 (4 * e + 1)).toNatClampNeg, σ.2.1 33 (4 * e + 2), σ.2.1 33 (4 * e + 3))
/-- a number of its kind that may stand there -/
def valOK (w : Nat) (v : Int32) : Prop := fitP (nI w) v
def slotOK (no m n w : Nat) : Prop := (w = 0 ∧ n < no) ∨ (1 ≤ w ∧ w ≤ 5 ∧ n < m) ∨ (w = 6 ∧ n = 0)
def chOK (σ : MSt) : Prop := σ.1 32 ≤ σ.1 31 ∧ σ.1 31 ≤ 40 ∧ ∀ e, e < σ.1 31 → ∃ n w : Nat, σ.2.1 33 (4 * e) = nI n ∧ σ.2.1 33 (4 * e + 1) = nI w ∧ slotOK (σ.1 0) (σ.1 2) n w ∧ valOK w (σ.2.1 33 (4 * e + 2)) ∧ valOK w (σ.2.1 33 (4 * e + 3))
noncomputable def rUndo (σ : MSt) : Int32 := if σ.1 32 = 0 then -5 else nI (σ.1 32 - 1)
def gUndo (σ : MSt) : MSt := if σ.1 32 = 0 then σ else sSet (sN σ 32 (σ.1 32 - 1)) (chE σ (σ.1 32 - 1)).1 (chE σ (σ.1 32 - 1)).2.1 (chE σ (σ.1 32 - 1)).2.2.1
noncomputable def rRedo (σ : MSt) : Int32 := if σ.1 32 = σ.1 31 then -5 else nI (σ.1 31 - (σ.1 32 + 1))
def gRedo (σ : MSt) : MSt := if σ.1 32 = σ.1 31 then σ else sN (sSet σ (chE σ (σ.1 32)).1 (chE σ (σ.1 32)).2.1 (chE σ (σ.1 32)).2.2.2) 32 (σ.1 32 + 1)
theorem valOK_6 {v : Int32} (h : valOK 6 v) : v = nI v.toNatClampNeg ∧ v.toNatClampNeg < 100 := by
  unfold valOK fitP at h
  rw [if_neg (by decide), if_neg (by decide), if_neg (by decide), if_neg (by decide)] at h
  obtain ⟨a, b⟩ := inN_cl (by decide) h
  exact ⟨b, a⟩
theorem slot_get {no m n w : Nat} (h : slotOK no m n w) (hno : no ≤ 8) (hm : m ≤ 14) : w ≤ 6 ∧ (w = 0 → n < 8) ∧ (1 ≤ w → w ≤ 5 → n < 15) ∧ n < 15 := by
  rcases h with ⟨a, b⟩ | ⟨a, b, c⟩ | ⟨a, b⟩ <;> refine ⟨by omega, fun _ => by omega, fun _ _ => by omega, by omega⟩
/-- the image -/
def imgS (σ : MSt) : MSt := (va_up (va_up (va_up σ.1 26 1) 27 (σ.1 0)) 28 (σ.1 2), va_up (va_up σ.2.1 29 (fun j => if j < 8 then σ.2.1 1 j else if j < 22 then σ.2.1 3 (60 + (j - 8)) else if j = 22 then nI (σ.1 6) else σ.2.1 29 j)) 30 (fun j => if j < 5 then σ.2.1 25 j else σ.2.1 30 j), σ.2.2)
def backS (σ : MSt) : MSt := (va_up σ.1 6 (σ.2.1 29 22).toNatClampNeg, va_up (va_up (va_up σ.2.1 1 (fun j => if j < σ.1 27 then σ.2.1 29 j else σ.2.1 1 j)) 3 (fun i => if 60 ≤ i ∧ i < 60 + σ.1 28 then σ.2.1 29 (8 + (i - 60)) else σ.2.1 3 i)) 25 (fun j => if j < 5 then σ.2.1 30 j else σ.2.1 25 j), σ.2.2)
/-- promises out of a row -/
def prsHere (σ : MSt) (s : Nat) (n : Nat) (i : Int) : Prop := 0 ≤ i ∧ i + 4 ≤ n ∧ ¬ σ.1 2 = 14 ∧ suchP (σ.1 0) (toldM σ s i.toNat) (toldM σ s (i.toNat + 1)) (toldM σ s (i.toNat + 2)) (toldM σ s (i.toNat + 3))
noncomputable def prsS (s n : Nat) : Nat → MSt → Int → MSt × Nat
  | 0, σ, _ => (σ, 0)
  | c + 1, σ, i => pif (prsHere σ s n i) ((prsS s n c (newS σ (toldM σ s i.toNat) (toldM σ s (i.toNat + 1)) (toldM σ s (i.toNat + 2)) (toldM σ s (i.toNat + 3))) (i + 4)).1, (prsS s n c (newS σ (toldM σ s i.toNat) (toldM σ s (i.toNat + 1)) (toldM σ s (i.toNat + 2)) (toldM σ s (i.toNat + 3))) (i + 4)).2 + 1) (σ, 0)
theorem bt999 {x : Int32} : btw x (nI 0) (nI 999) ↔ inN x 1000 := btw_0 (by decide) (by decide)
theorem bt255 {x : Int32} : btw x (nI 0) (nI 255) ↔ inN x 256 := btw_0 (by decide) (by decide)
theorem nbtw0 : ¬ btw (0 : Int32) (nI 1) (nI 5) := fun ⟨a, _⟩ => absurd a (by decide)
theorem nbtw6 : ¬ btw (nI 6) (nI 1) (nI 5) := fun ⟨_, a⟩ => absurd a (by decide)
theorem ofP_0 {no m : Nat} {n w : Int32} (h : w = 0) : inN n no ↔ ofP no m n w := by
  subst h
  exact ⟨fun z => Or.inl ⟨rfl, z⟩, fun z => z.elim (fun q => q.2) (fun z => z.elim (fun q => absurd q.1 nbtw0) (fun q => absurd q.1 (by decide)))⟩
theorem ofP_b {no m : Nat} {n w : Int32} (h : btw w (nI 1) (nI 5)) : inN n m ↔ ofP no m n w :=
  ⟨fun z => Or.inr (Or.inl ⟨h, z⟩), fun z => z.elim (fun q => absurd (q.1 ▸ h) nbtw0) (fun z => z.elim (fun q => q.2) (fun q => absurd (q.1 ▸ h) nbtw6))⟩
theorem ofP_6 {no m : Nat} {n w : Int32} (h : w = nI 6) : n = 0 ↔ ofP no m n w := by
  subst h
  exact ⟨fun z => Or.inr (Or.inr ⟨rfl, z⟩), fun z => z.elim (fun q => absurd q.1 (by decide)) (fun z => z.elim (fun q => absurd q.1 nbtw6) (fun q => q.2))⟩
theorem ofP_n {no m : Nat} {n w : Int32} (h1 : ¬ w = 0) (h2 : ¬ btw w (nI 1) (nI 5)) (h3 : ¬ w = nI 6) : ¬ ofP no m n w :=
  fun z => z.elim (fun q => h1 q.1) (fun z => z.elim (fun q => h2 q.1) (fun q => h3 q.1))
theorem sSet_n (σ : MSt) (n w : Nat) (x : Int32) {k : Nat} (hk : k ≠ 6) : (sSet σ n w x).1 k = σ.1 k := by
  unfold sSet
  by_cases h : w = 0
  · rw [if_pos h]; rfl
  · rw [if_neg h]
    by_cases h6 : w = 6
    · rw [if_pos h6]; exact va_up_ne _ _ hk
    · rw [if_neg h6]; rfl
/-- a whole array at once -/
def cpS (σ : MSt) (k : Nat) (f : Nat → Int32) : MSt := (σ.1, va_up σ.2.1 k f, σ.2.2)
theorem cpS_id (σ : MSt) (k : Nat) : cpS σ k (σ.2.1 k) = σ := by
  have : va_up σ.2.1 k (σ.2.1 k) = σ.2.1 := by
    funext j
    by_cases h : j = k
    · rw [h, va_up_self]
    · rw [va_up_ne _ _ h]
  exact congrArg (fun A => (σ.1, A, σ.2.2)) this
theorem cpS_sA (σ : MSt) (k : Nat) (f : Nat → Int32) (i : Nat) (x : Int32) : cpS σ k (va_up f i x) = sA (cpS σ k f) k i x := by
  have : va_up σ.2.1 k (va_up f i x) = up2 (va_up σ.2.1 k f) k i x := by
    funext a
    unfold up2
    by_cases h : a = k
    · subst h
      rw [va_up_self, va_up_self, va_up_self]
    · rw [va_up_ne _ _ h, va_up_ne _ _ h, va_up_ne _ _ h]
  exact congrArg (fun A => (σ.1, A, σ.2.2)) this
theorem cp_step {f P Q : Nat → Int32} {i : Nat} {v : Int32} (h : ∀ j, f j = if j < i then P j else Q j) (hv : v = P i) : ∀ j, va_up f i v j = if j < i + 1 then P j else Q j := by
  intro j
  by_cases hj : j = i
  · subst hj; rw [va_up_self, if_pos (by omega)]; exact hv
  · rw [va_up_ne _ _ hj, h]
    by_cases g : j < i
    · rw [if_pos g, if_pos (by omega)]
    · rw [if_neg g, if_neg (by omega)]
theorem cp_step2 {f P Q : Nat → Int32} {o i : Nat} {v : Int32} (h : ∀ j, f j = if o ≤ j ∧ j < o + i then P j else Q j) (hv : v = P (o + i)) : ∀ j, va_up f (o + i) v j = if o ≤ j ∧ j < o + (i + 1) then P j else Q j := by
  intro j
  by_cases hj : j = o + i
  · subst hj; rw [va_up_self, if_pos (by omega)]; exact hv
  · rw [va_up_ne _ _ hj, h]
    by_cases g : o ≤ j ∧ j < o + i
    · rw [if_pos g, if_pos (by omega)]
    · rw [if_neg g, if_neg (by omega)]
def imOK (σ : MSt) : Prop := σ.1 26 ≤ 1 ∧ σ.1 27 ≤ 8 ∧ σ.1 28 ≤ 14 ∧ ∃ t, t ≤ 99 ∧ σ.2.1 29 22 = nI t
def rBack (σ : MSt) : Int32 := if σ.1 26 = 0 then -5 else σ.2.1 30 4
def gBack (σ : MSt) : MSt := if σ.1 26 = 0 then σ else backS σ
