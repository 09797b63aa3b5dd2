/-! SPEC 2: what is asked of houses -/
set_option maxRecDepth 100000
theorem sRoofN_t {v : HV} {t : Nat} {o : Int32} {n : Nat} (h : v.1 n 0 = o ∧ sOpen v.1 t n) : sRoofN v t o (n + 1) = (match sRoofN v t o n with | none => some n | some q => if sSt v t q < sSt v t n then some n else some q) := pif_t h
theorem sRoofN_f {v : HV} {t : Nat} {o : Int32} {n : Nat} (h : ¬ (v.1 n 0 = o ∧ sOpen v.1 t n)) : sRoofN v t o (n + 1) = sRoofN v t o n := pif_f h
theorem oI_some {r : Option Nat} {n : Nat} (hn : ∀ q, r = some q → q < n) (hb : n < 2 ^ 31) (h : ¬ oI r = -2) : ∃ q, r = some q ∧ oI r = nI q ∧ q < n := by
  cases r with
  | none => exact absurd rfl h
  | some q => exact ⟨q, rfl, rfl, hn q rfl⟩
theorem oI_none {r : Option Nat} {n : Nat} (hn : ∀ q, r = some q → q < n) (hb : n < 2 ^ 31) (h : oI r = -2) : r = none := by
  cases r with
  | none => rfl
  | some q =>
    exfalso
    have h : nI q = -2 := h
    have h1 := congrArg Int32.toInt h
    have h2 := hn q rfl
    rw [nI_toInt (by omega)] at h1
    have h3 : ((-2 : Int32)).toInt = -2 := by decide
    rw [h3] at h1
    omega
theorem jmin_N {a b : Nat} (ha : a < 2 ^ 31) (hb : b < 2 ^ 31) : jmin (nI a) (nI b) = nI (min a b) := by
  unfold jmin
  by_cases h : b < a
  · rw [if_pos ((nI_ltI hb ha).mpr h), Nat.min_eq_right (by omega)]
  · rw [if_neg (fun q => h ((nI_ltI hb ha).mp q)), Nat.min_eq_left (by omega)]
theorem jmax_N {a b : Nat} (ha : a < 2 ^ 31) (hb : b < 2 ^ 31) : jmax (nI a) (nI b) = nI (max a b) := by
  unfold jmax
  by_cases h : a < b
  · rw [if_pos ((nI_ltI ha hb).mpr h), Nat.max_eq_right (by omega)]
  · rw [if_neg (fun q => h ((nI_ltI ha hb).mp q)), Nat.max_eq_left (by omega)]
theorem inN_cl {x : Int32} {n : Nat} (hn : n < 2 ^ 31) (h : inN x n) : x.toNatClampNeg < n ∧ x = nI x.toNatClampNeg := by
  obtain ⟨j, hj, rfl⟩ := h
  rw [nI_clamp (by omega)]
  exact ⟨hj, rfl⟩
theorem btw_0 {x : Int32} {k n : Nat} (hk : k + 1 = n) (hn : n < 2 ^ 31) : btw x (nI 0) (nI k) ↔ inN x n := by
  rw [btw_iff (by decide) (by omega)]
  constructor
  · rintro ⟨j, -, h, e⟩; exact ⟨j, by omega, e⟩
  · rintro ⟨j, h, e⟩; exact ⟨j, by omega, by omega, e⟩
theorem zi_sub1 (x : Int32) : x + Int32.ofInt (-1) = x - 1 := (Int32.sub_eq_add_neg (a := x) (b := 1)).symm
theorem bt99 {x : Int32} : btw x (nI 0) (nI 99) ↔ inN x 100 := btw_0 (by decide) (by decide)
theorem bt9 {x : Int32} : btw x (nI 0) (nI 9) ↔ inN x 10 := btw_0 (by decide) (by decide)
theorem bt1 {x : Int32} : btw x (nI 0) (nI 1) ↔ inN x 2 := btw_0 (by decide) (by decide)
theorem bt2 {x : Int32} : btw x (nI 0) (nI 2) ↔ inN x 3 := btw_0 (by decide) (by decide)
theorem bt3 {x : Int32} : btw x (nI 0) (nI 3) ↔ inN x 4 := btw_0 (by decide) (by decide)
def day (t n : Nat) : Nat := min 99 (t + n)
theorem day_le (t n : Nat) : day t n ≤ 99 := Nat.min_le_left _ _
/-- an owner, or -1 for all -/
noncomputable def sHighs (v : HV) (t no : Nat) (o : Int32) : Int32 := if o = -1 then sAll v t no else sHigh v t o
noncomputable def rHigh (v : HV) (t no : Nat) (n o : Int32) : Int32 := pif (inN n 100 ∧ (o = -1 ∨ inN o no)) (sHighs v (day t n.toNatClampNeg) no o) (-1)
noncomputable def sBits (P : PV) (t : Nat) : Nat → Int32
  | 0 => nI 0
  | n + 1 => pif (sOpen P t n) (sBits P t n ||| (nI 1 <<< (nI n &&& 31))) (sBits P t n)
noncomputable def rOpens (v : HV) (t : Nat) (n : Int32) : Int32 := pif (inN n 100) (sBits v.1 (day t n.toNatClampNeg) v.2.2.1) (-1)
noncomputable def rStoreys (v : HV) (t : Nat) (p : Int32) : Int32 := pif (inN p v.2.2.1) (sSt v t p.toNatClampNeg) (-1)
noncomputable def rRoof (v : HV) (t no : Nat) (o : Int32) : Int32 := pif (inN o no) (oI (sRoof v t o)) (-1)
/-- the first of a, a+1, .. (c of them) of which K holds -/
noncomputable def sLeast (K : Nat → Prop) : Nat → Nat → Option Nat
  | _, 0 => none
  | a, c + 1 => pif (K a) (some a) (sLeast K (a + 1) c)
theorem sLeast_t {K : Nat → Prop} {a c : Nat} (h : K a) : sLeast K a (c + 1) = some a := pif_t h
theorem sLeast_f {K : Nat → Prop} {a c : Nat} (h : ¬ K a) : sLeast K a (c + 1) = sLeast K (a + 1) c := pif_f h
theorem sLeast_lt {K : Nat → Prop} : ∀ (c a q : Nat), sLeast K a c = some q → a ≤ q ∧ q < a + c
  | 0, a, q, h => by cases h
  | c + 1, a, q, h => by
    by_cases k : K a
    · rw [sLeast_t k] at h; cases h; omega
    · rw [sLeast_f k] at h
      have := sLeast_lt c (a + 1) q h
      omega
noncomputable def rFalls (v : HV) (t no : Nat) (o x : Int32) : Int32 := pif (inN o no ∧ inN x 10) (oI (sLeast (fun k => sHigh v (day t k) o < x) 0 100)) (-1)
/-- the first of the first n owners whose house is the tallest -/
noncomputable def sTallN (v : HV) (t : Nat) : Nat → Option Nat
  | 0 => none
  | n + 1 => match sTallN v t n with
    | none => some n
    | some q => if sHigh v t (nI q) < sHigh v t (nI n) then some n else some q
theorem sTallN_lt (v : HV) (t : Nat) : ∀ (n q : Nat), sTallN v t n = some q → q < n
  | 0, q, h => by cases h
  | n + 1, q, h => by
    unfold sTallN at h
    cases hr : sTallN v t n with
    | none => rw [hr] at h; cases h; exact Nat.lt_succ_self _
    | some q' =>
      rw [hr] at h
      have := sTallN_lt v t n q' hr
      simp only at h
      split at h
      · cases h; exact Nat.lt_succ_self _
      · cases h; omega
noncomputable def sSky (v : HV) (t : Nat) : Nat → Int32
  | 0 => nI 0
  | n + 1 => match sTallN v t n with
    | none => sSky v t n ||| (nI 1 <<< (nI n &&& 31))
    | some q => if sHigh v t (nI q) < sHigh v t (nI n) then sSky v t n ||| (nI 1 <<< (nI n &&& 31)) else sSky v t n
noncomputable def rSky (v : HV) (t no : Nat) (w : Int32) : Int32 := pif (inN w 2) (if w = 0 then sSky v t no else oI (sTallN v t no)) (-1)
noncomputable def sViewU (v : HV) (t : Nat) : Nat → Nat → Int32 → Nat
  | 0, _, _ => 0
  | c + 1, o, m => if m < sHigh v t (nI o) then sViewU v t c (o + 1) (sHigh v t (nI o)) + 1 else sViewU v t c (o + 1) m
noncomputable def sViewD (v : HV) (t : Nat) : Nat → Int32 → Nat
  | 0, _ => 0
  | o + 1, m => if m < sHigh v t (nI o) then sViewD v t o (sHigh v t (nI o)) + 1 else sViewD v t o m
noncomputable def rView (v : HV) (t no : Nat) (o w : Int32) : Int32 := pif (inN o no ∧ inN w 2) (nI (if w = 0 then sViewU v t (no - (o.toNatClampNeg + 1)) (o.toNatClampNeg + 1) (-1) else sViewD v t o.toNatClampNeg (-1))) (-1)
theorem mOK.day {σ : MSt} {L : LawT} (h : mOK σ L) {t : Nat} (ht : t ≤ 99) : mOK (sN σ 6 t) L := by
  obtain ⟨h1, h2, -, h4, h5⟩ := h
  refine ⟨h1, h2, ht, h4, ?_⟩
  cases L with
  | none => exact h5
  | some ls => exact h5
theorem sN_back (σ : MSt) (t : Nat) : sN (sN σ 6 t) 6 (σ.1 6) = σ := by
  unfold sN
  have : va_up (va_up σ.1 6 t) 6 (σ.1 6) = σ.1 := by funext k; by_cases h : k = 6 <;> simp [va_up, h]
  rw [this]
theorem sN_sN (σ : MSt) (k a b : Nat) : sN (sN σ k a) k b = sN σ k b := by
  unfold sN
  have : va_up (va_up σ.1 k a) k b = va_up σ.1 k b := by funext j; by_cases h : j = k <;> simp [va_up, h]
  rw [this]
theorem sN_same (σ : MSt) (k : Nat) : sN σ k (σ.1 k) = σ := by
  unfold sN
  have : va_up σ.1 k (σ.1 k) = σ.1 := by funext j; by_cases h : j = k <;> simp [va_up, h]
  rw [this]
