/-! SPEC: what houses are, in plain words, for both sides -/
set_option maxRecDepth 100000
noncomputable def pif {α : Type} (P : Prop) (a b : α) : α := @ite α P (Classical.propDecidable P) a b
theorem pif_t {α : Type} {P : Prop} {a b : α} (h : P) : pif P a b = a := by unfold pif; exact if_pos h
theorem pif_f {α : Type} {P : Prop} {a b : α} (h : ¬ P) : pif P a b = b := by unfold pif; exact if_neg h
theorem pif_c {α : Type} {P P' : Prop} {a b : α} (h : P ↔ P') : pif P a b = pif P' a b := by rw [propext h]
/-- promise i, field j: 0 by, 1 to, 2 worth, 3 kind, 4 lasts, 5 made, 6 done -/
abbrev PV : Type := Nat → Nat → Int32
def sOpen (P : PV) (t p : Nat) : Prop := P p 6 = 0 ∧ (P p 3 = nI 1 ∨ nI t - P p 5 < P p 4)
/-- a law: lines; a line: its question's code ([]: none), its answer's code -/
abbrev LawT : Type := Option (List (List Nat × List Nat))
/-- the signs of code: 0 .. 5 names, 6 or, 7 and, 8 less, 9 same, 10 more, 11 .. 15 + - * / %, 16 not, 17 minus, from 18 on numbers -/
def zbin (c : Nat) (x y : Int32) : Int32 := match c with
  | 6 => if x ≠ 0 ∨ y ≠ 0 then 1 else 0
  | 7 => if x ≠ 0 ∧ y ≠ 0 then 1 else 0
  | 8 => if x < y then 1 else 0
  | 9 => if x = y then 1 else 0
  | 10 => if y < x then 1 else 0
  | 11 => x + y
  | 12 => x - y
  | 13 => x * y
  | 14 => if y = 0 then 0 else x / y
  | _ => if y = 0 then 0 else x - x / y * y
def zstep (nm : Nat → Int32) (c : Nat) (st : List Int32) : List Int32 :=
  if 18 ≤ c then nI (c - 18) :: st
  else if c ≤ 5 then nm c :: st
  else if c = 16 then (match st with | x :: r => (if x = 0 then 1 else 0) :: r | [] => [])
  else if c = 17 then (match st with | x :: r => (-x) :: r | [] => [])
  else (match st with | y :: x :: r => zbin c x y :: r | _ => [])
def zrun (nm : Nat → Int32) : List Nat → List Int32 → List Int32
  | [], st => st
  | c :: t, st => zrun nm t (zstep nm c st)
def zev (nm : Nat → Int32) (code : List Nat) : Int32 := (zrun nm code []).headD 0
theorem zrun_app (nm : Nat → Int32) : ∀ (a b : List Nat) (st : List Int32), zrun nm (a ++ b) st = zrun nm b (zrun nm a st)
  | [], _, _ => rfl
  | c :: a, b, st => zrun_app nm a b (zstep nm c st)
/-- code that is well formed: from d numbers on the stack to e -/
def zwf : Nat → List Nat → Nat → Prop
  | d, [], e => d = e
  | d, c :: t, e => c < 20000 ∧ (if 18 ≤ c ∨ c ≤ 5 then zwf (d + 1) t e else if c = 16 ∨ c = 17 then 1 ≤ d ∧ zwf d t e else 2 ≤ d ∧ zwf (d - 1) t e)
theorem zwf_app : ∀ (a b : List Nat) (d e f : Nat), zwf d a e → zwf e b f → zwf d (a ++ b) f
  | [], b, d, e, f, h1, h2 => by
    have h1 : d = e := h1
    rw [h1]; exact h2
  | c :: a, b, d, e, f, h1, h2 => by
    refine ⟨h1.1, ?_⟩
    have h := h1.2
    split
    · next q => rw [if_pos q] at h; exact zwf_app a b _ _ _ h h2
    · next q =>
      rw [if_neg q] at h
      split
      · next q2 => rw [if_pos q2] at h; exact ⟨h.1, zwf_app a b _ _ _ h.2 h2⟩
      · next q2 => rw [if_neg q2] at h; exact ⟨h.1, zwf_app a b _ _ _ h.2 h2⟩
def sLines (nm : Nat → Int32) : List (List Nat × List Nat) → Int32
  | [] => 0
  | (t, g) :: r => if t ≠ [] ∧ zev nm t = 0 then sLines nm r else zev nm g
noncomputable def sCnt (P : PV) (t : Nat) (o : Int32) : Nat → Nat
  | 0 => 0
  | n + 1 => sCnt P t o n + pif (P n 0 = o ∧ sOpen P t n) 1 0
theorem sCnt_le (P : PV) (t : Nat) (o : Int32) : ∀ n, sCnt P t o n ≤ n
  | 0 => Nat.le_refl _
  | n + 1 => by
    have := sCnt_le P t o n
    unfold sCnt
    by_cases h : P n 0 = o ∧ sOpen P t n
    · rw [pif_t h]; omega
    · rw [pif_f h]; omega
/-- promises, money, how many promises, the law -/
abbrev HV : Type := PV × (Nat → Int32) × Nat × LawT
noncomputable def sNames (v : HV) (t p : Nat) : Nat → Int32 := fun k => match k with
  | 0 => v.1 p 2
  | 1 => jmax (nI 0) (nI t - v.1 p 5)
  | 2 => v.1 p 4
  | 3 => v.1 p 3
  | 4 => v.2.1 (v.1 p 0).toNatClampNeg
  | _ => nI (sCnt v.1 t (v.1 p 0) v.2.2.1)
noncomputable def sRaw (v : HV) (t p : Nat) : Int32 := match v.2.2.2 with
  | none => v.1 p 2 / nI 20 + nI 1 + (if v.1 p 3 = nI 2 then nI 1 else nI 0)
  | some ls => sLines (sNames v t p) ls
noncomputable def sSt (v : HV) (t p : Nat) : Int32 := pif (sOpen v.1 t p) (jmax (nI 0) (jmin (nI 9) (sRaw v t p))) 0
theorem sSt_in (v : HV) (t p : Nat) : ∃ k : Nat, k ≤ 9 ∧ sSt v t p = nI k := by
  unfold sSt
  by_cases h : sOpen v.1 t p
  · rw [pif_t h]
    generalize sRaw v t p = x
    unfold jmax jmin
    by_cases h1 : x < nI 9
    · rw [if_pos h1]
      by_cases h2 : nI 0 < x
      · rw [if_pos h2]
        rw [Int32.lt_iff_toInt_lt, nI_toInt (by decide)] at h1 h2
        refine ⟨x.toInt.toNat, by omega, ?_⟩
        apply Int32.toInt_inj.mp
        rw [nI_toInt (by omega)]
        omega
      · rw [if_neg h2]; exact ⟨0, by omega, rfl⟩
    · rw [if_neg h1, if_pos (by decide)]; exact ⟨9, by omega, rfl⟩
  · rw [pif_f h]; exact ⟨0, by omega, rfl⟩
/-- the first promise of o's that gives most, of the first n -/
noncomputable def sRoofN (v : HV) (t : Nat) (o : Int32) : Nat → Option Nat
  | 0 => none
  | n + 1 => pif (v.1 n 0 = o ∧ sOpen v.1 t n) (match sRoofN v t o n with | none => some n | some q => if sSt v t q < sSt v t n then some n else some q) (sRoofN v t o n)
theorem sRoofN_lt (v : HV) (t : Nat) (o : Int32) : ∀ (n q : Nat), sRoofN v t o n = some q → q < n
  | 0, q, h => by cases h
  | n + 1, q, h => by
    unfold sRoofN at h
    by_cases c : v.1 n 0 = o ∧ sOpen v.1 t n
    · rw [pif_t c] at h
      cases hr : sRoofN v t o n with
      | none => rw [hr] at h; cases h; exact Nat.lt_succ_self _
      | some q' =>
        rw [hr] at h
        have := sRoofN_lt v t o n q' hr
        simp only at h
        split at h
        · cases h; exact Nat.lt_succ_self _
        · cases h; omega
    · rw [pif_f c] at h
      have := sRoofN_lt v t o n q h
      omega
/-- -2 for none -/
def oI : Option Nat → Int32
  | none => -2
  | some p => nI p
noncomputable def sRoof (v : HV) (t : Nat) (o : Int32) : Option Nat := sRoofN v t o v.2.2.1
noncomputable def sHigh (v : HV) (t : Nat) (o : Int32) : Int32 := match sRoof v t o with
  | none => 0
  | some p => sSt v t p
theorem sHigh_in (v : HV) (t : Nat) (o : Int32) : ∃ k : Nat, k ≤ 9 ∧ sHigh v t o = nI k := by
  unfold sHigh
  cases sRoof v t o with
  | none => exact ⟨0, by omega, rfl⟩
  | some p => exact sSt_in v t p
noncomputable def sAll (v : HV) (t : Nat) : Nat → Int32
  | 0 => nI 0
  | n + 1 => sAll v t n + sHigh v t (nI n)
/-! the reference's numbers, as promises -/
def mP (σ : MSt) : PV := fun p j => if j = 0 then σ.2.1 4 p else if j = 1 then σ.2.1 5 p else σ.2.1 3 (15 * (j - 2) + p)
theorem mP_0 (σ : MSt) (p : Nat) : mP σ p 0 = σ.2.1 4 p := rfl
theorem mP_1 (σ : MSt) (p : Nat) : mP σ p 1 = σ.2.1 5 p := rfl
theorem mP_2 (σ : MSt) (p : Nat) : mP σ p 2 = σ.2.1 3 p := by show σ.2.1 3 (0 + p) = _; rw [Nat.zero_add]
theorem mP_3 (σ : MSt) (p : Nat) : mP σ p 3 = σ.2.1 3 (15 + p) := rfl
theorem mP_4 (σ : MSt) (p : Nat) : mP σ p 4 = σ.2.1 3 (30 + p) := rfl
theorem mP_5 (σ : MSt) (p : Nat) : mP σ p 5 = σ.2.1 3 (45 + p) := rfl
theorem mP_6 (σ : MSt) (p : Nat) : mP σ p 6 = σ.2.1 3 (60 + p) := rfl
/-- the array f holds the code l from a on -/
def sg (f : Nat → Int32) : Nat → List Nat → Prop
  | _, [] => True
  | a, c :: t => f a = nI c ∧ sg f (a + 1) t
def lnM (σ : MSt) (i : Nat) (q : List Nat × List Nat) : Prop := ∃ a : Nat, σ.2.1 11 i = nI a ∧ σ.2.1 12 i = nI (a + q.1.length) ∧ σ.2.1 13 i = nI (a + q.1.length + q.2.length) ∧ a + q.1.length + q.2.length ≤ 200 ∧ sg (σ.2.1 14) a q.1 ∧ sg (σ.2.1 14) (a + q.1.length) q.2 ∧ (q.1 = [] ∨ zwf 0 q.1 1) ∧ zwf 0 q.2 1
def lawM (σ : MSt) : LawT → Prop
  | none => σ.1 9 = 0
  | some ls => σ.1 9 = 1 ∧ σ.1 10 = ls.length ∧ ls.length ≤ 60 ∧ ∀ (i : Nat) (q : List Nat × List Nat), ls[i]? = some q → lnM σ i q
def mV (σ : MSt) (L : LawT) : HV := (mP σ, σ.2.1 1, σ.1 2, L)
/-- what holds of the reference's numbers whenever houses are asked for -/
def mOK (σ : MSt) (L : LawT) : Prop := σ.1 0 ≤ 8 ∧ σ.1 2 ≤ 15 ∧ σ.1 6 ≤ 99 ∧ (∀ p, p < σ.1 2 → ∃ o, o < 8 ∧ σ.2.1 4 p = nI o) ∧ lawM σ L
/-- a stack in an array: the first n cells, the last on top -/
def stk (f : Nat → Int32) : Nat → List Int32
  | 0 => []
  | n + 1 => f n :: stk f n
theorem stk_congr {f g : Nat → Int32} : ∀ n, (∀ i, i < n → f i = g i) → stk f n = stk g n
  | 0, _ => rfl
  | n + 1, h => by
    unfold stk
    rw [h n (Nat.lt_succ_self _), stk_congr n fun i hi => h i (Nat.lt_succ_of_lt hi)]
theorem stk_push {f : Nat → Int32} {n : Nat} {v : Int32} : stk (va_up f n v) (n + 1) = v :: stk f n := by
  show va_up f n v n :: stk (va_up f n v) n = _
  rw [va_up_self, stk_congr n fun i hi => va_up_ne f v (by omega)]
/-- the reference's numbers with another stack -/
def skM (σ : MSt) (sk : Nat → Int32) : MSt := (σ.1, va_up σ.2.1 23 sk, σ.2.2)
theorem skM_id (σ : MSt) : skM σ (σ.2.1 23) = σ := by
  unfold skM
  have : va_up σ.2.1 23 (σ.2.1 23) = σ.2.1 := by funext k; by_cases h : k = 23 <;> simp [va_up, h]
  rw [this]
theorem skM_sA (σ : MSt) (sk : Nat → Int32) (i : Nat) (v : Int32) : sA (skM σ sk) 23 i v = skM σ (va_up sk i v) := by
  unfold sA skM up2
  have : va_up (va_up σ.2.1 23 sk) 23 (va_up (va_up σ.2.1 23 sk 23) i v) = va_up σ.2.1 23 (va_up sk i v) := by funext k; by_cases h : k = 23 <;> simp [va_up, h]
  simp only [this]
theorem skM_skM (σ : MSt) (a b : Nat → Int32) : skM (skM σ a) b = skM σ b := by
  unfold skM
  have : va_up (va_up σ.2.1 23 a) 23 b = va_up σ.2.1 23 b := by funext k; by_cases h : k = 23 <;> simp [va_up, h]
  simp only [this]
theorem scr_sA24 (σ : MSt) (nm sk : Nat → Int32) (i : Nat) (v : Int32) : sA (scr σ nm sk) 24 i v = scr σ (va_up nm i v) sk := by
  unfold sA scr up2
  have : va_up (va_up (va_up σ.2.1 24 nm) 23 sk) 24 (va_up (va_up (va_up σ.2.1 24 nm) 23 sk 24) i v) = va_up (va_up σ.2.1 24 (va_up nm i v)) 23 sk := by
    funext k
    by_cases h : k = 24
    · subst h; simp [va_up]
    · by_cases h2 : k = 23 <;> simp [va_up, h, h2]
  simp only [this]
theorem scr_sA23 (σ : MSt) (nm sk : Nat → Int32) (i : Nat) (v : Int32) : sA (scr σ nm sk) 23 i v = scr σ nm (va_up sk i v) := by
  unfold sA scr up2
  have : va_up (va_up (va_up σ.2.1 24 nm) 23 sk) 23 (va_up (va_up (va_up σ.2.1 24 nm) 23 sk 23) i v) = va_up (va_up σ.2.1 24 nm) 23 (va_up sk i v) := by
    funext k
    by_cases h : k = 23 <;> simp [va_up, h]
  simp only [this]
theorem skM_scr (σ : MSt) (nm sk a : Nat → Int32) : skM (scr σ nm sk) a = scr σ nm a := by
  unfold skM scr
  have : va_up (va_up (va_up σ.2.1 24 nm) 23 sk) 23 a = va_up (va_up σ.2.1 24 nm) 23 a := by funext k; by_cases h : k = 23 <;> simp [va_up, h]
  simp only [this]
theorem stk_pos {f : Nat → Int32} {n : Nat} (h : 1 ≤ n) : stk f n = f (n - 1) :: stk f (n - 1) := by
  obtain ⟨m, rfl⟩ : ∃ m, n = m + 1 := ⟨n - 1, by omega⟩
  rfl
theorem stk_set {f : Nat → Int32} {n : Nat} {v : Int32} (h : 1 ≤ n) : stk (va_up f (n - 1) v) n = v :: stk f (n - 1) := by
  obtain ⟨m, rfl⟩ : ∃ m, n = m + 1 := ⟨n - 1, by omega⟩
  exact stk_push
/-- the names of a code matter up to 5 alone -/
theorem zrun_names {f g : Nat → Int32} (h : ∀ k, k ≤ 5 → f k = g k) : ∀ (l : List Nat) (st : List Int32), zrun f l st = zrun g l st
  | [], _ => rfl
  | c :: t, st => by
    have e : zstep f c st = zstep g c st := by
      unfold zstep
      by_cases h1 : 18 ≤ c
      · simp [h1]
      · by_cases h2 : c ≤ 5
        · simp [h1, h2, h c h2]
        · simp [h1, h2]
    show zrun f t (zstep f c st) = zrun g t (zstep g c st)
    rw [e, zrun_names h t]
theorem zev_names {f g : Nat → Int32} (h : ∀ k, k ≤ 5 → f k = g k) (l : List Nat) : zev f l = zev g l := by unfold zev; rw [zrun_names h]
theorem zstep_num {nm : Nat → Int32} {c : Nat} {st : List Int32} (h : 18 ≤ c) : zstep nm c st = nI (c - 18) :: st := by unfold zstep; rw [if_pos h]
theorem zstep_nm {nm : Nat → Int32} {c : Nat} {st : List Int32} (h : c ≤ 5) : zstep nm c st = nm c :: st := by unfold zstep; rw [if_neg (by omega), if_pos h]
theorem zstep_un {nm : Nat → Int32} {c : Nat} {x : Int32} {st : List Int32} (h : c = 16 ∨ c = 17) : zstep nm c (x :: st) = (if c = 17 then -x else if x = 0 then 1 else 0) :: st := by
  rcases h with rfl | rfl <;> simp [zstep]
theorem zstep_bin {nm : Nat → Int32} {c : Nat} {x y : Int32} {st : List Int32} (h : 6 ≤ c ∧ c ≤ 15) : zstep nm c (y :: x :: st) = zbin c x y :: st := by
  unfold zstep
  rw [if_neg (by omega), if_neg (by omega), if_neg (by omega), if_neg (by omega)]
