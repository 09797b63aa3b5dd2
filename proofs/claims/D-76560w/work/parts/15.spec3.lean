/-! SPEC 3: sets of promises, holders, shelves, money -/
set_option maxRecDepth 100000
theorem all_s {K : Nat → Prop} {n : Nat} (hn : K n) : (∀ k, k < n → K k) ↔ ∀ k, k < n + 1 → K k := by
  constructor
  · intro h k hk
    rcases Nat.lt_or_ge k n with q | q
    · exact h k q
    · rw [show k = n by omega]; exact hn
  · intro h k hk; exact h k (by omega)
/-- whether a house stands at least x high behind each of 0 .. k days -/
def sStands (v : HV) (t : Nat) (o x : Int32) (k : Nat) : Prop := ∀ j, j < k + 1 → ¬ sHigh v (day t j) o < x
/-- a set, as bits -/
def jbit (set : Int32) (p : Nat) : Prop := (set >>> (nI p &&& 31)) &&& nI 1 = nI 1
noncomputable def pDn (P : PV) (set : Int32) : PV := fun p j => if j = 6 then pif (jbit set p) (nI 1) (P p 6) else P p j
noncomputable def sWorth (P : PV) (set : Int32) : Nat → Int32
  | 0 => nI 0
  | n + 1 => pif (jbit set n) (sWorth P set n + P n 2) (sWorth P set n)
noncomputable def sHighW (v : HV) (t : Nat) (set o : Int32) : Int32 := sHigh (pDn v.1 set, v.2) t o
noncomputable def sMay (P : PV) (t : Nat) (o : Int32) : Nat → Int32
  | 0 => nI 0
  | n + 1 => pif (P n 0 = o ∧ sOpen P t n ∧ ¬ P n 3 = nI 2) (sMay P t o n ||| (nI 1 <<< (nI n &&& 31))) (sMay P t o n)
def jbc (x : Int32) : Int32 :=
  let sh (y : Int32) (k : Nat) : Int32 := (y.toUInt32 >>> ((nI k).toUInt32 &&& Int32.toUInt32 31)).toInt32
  let a := x - (sh x 1 &&& 1431655765)
  let b := (a &&& 858993459) + (sh a 2 &&& 858993459)
  let c := (b + sh b 4) &&& 252645135
  let d := c + sh c 8
  let e := d + sh d 16
  e &&& nI 63
noncomputable def sHold (v : HV) (t : Nat) (o : Int32) : Int32 := match sRoof v t o with
  | none => -2
  | some p => if v.1 p 1 < 0 then -2 else v.1 p 1
noncomputable def sRing (v : HV) (t : Nat) (o : Int32) : Nat → Nat → Int32 → Int32
  | 0, _, _ => -2
  | c + 1, k, q => if q = -2 then -2 else if q = o then nI k else sRing v t o c (k + 1) (sHold v t q)
theorem sRing_s (v : HV) (t : Nat) (o : Int32) (c k : Nat) (q : Int32) : sRing v t o (c + 1) k q = if q = -2 then -2 else if q = o then nI k else sRing v t o c (k + 1) (sHold v t q) := rfl
noncomputable def sEnd (v : HV) (t : Nat) : Nat → Int32 → Int32
  | 0, _ => -2
  | c + 1, q => if sHold v t q = -2 then q else sEnd v t c (sHold v t q)
noncomputable def sOwed (P : PV) (t : Nat) (o : Int32) : Nat → Int32
  | 0 => nI 0
  | n + 1 => pif (sOpen P t n) (sOwed P t o n + ((if P n 1 = o then P n 2 else nI 0) - (if P n 0 = o then P n 2 else nI 0))) (sOwed P t o n)
noncomputable def rHolds (v : HV) (t no : Nat) (o w : Int32) : Int32 := pif (inN o no ∧ inN w 4) (if w = 0 then sHold v t o else if w = nI 1 then sRing v t o no 1 (sHold v t o) else if w = nI 2 then sEnd v t (no + 1) o else sOwed v.1 t o v.2.2.1) (-2000000000)
/-- nothing against a row of bytes: 0 -/
def sNB (h : Int32) : Int32 := if h = -1 then -11 else if h = 0 then nI 0 else -12
def sUnK (v : HV) (t : Nat) (told : Nat → Int32) (o : Int32) (i : Nat) : Prop := ¬ sHigh v (day t i) o = told i
noncomputable def sUnlike (v : HV) (t : Nat) (told : Nat → Int32) (len : Nat) (o : Int32) : Option Nat := sLeast (sUnK v t told o) 0 len
theorem nI_ne2 {k : Nat} (h : k < 2 ^ 31) : ¬ nI k = -2 := fun z => by
  have := congrArg Int32.toInt z
  rw [nI_toInt h] at this
  have e : ((-2 : Int32)).toInt = -2 := by decide
  omega
/-- shelves: what is held, how long, the longs -/
noncomputable def rJudge (v : HV) (t no : Nat) (hold len : Nat → Int32) (told : Nat → Nat → Int32) (i o : Int32) : Int32 := pif (inN i 6 ∧ inN o no) (if sNB (hold i.toNatClampNeg) < 0 then sNB (hold i.toNatClampNeg) else oI (sUnlike v t (told i.toNatClampNeg) (len i.toNatClampNeg).toNatClampNeg o)) (-1)
noncomputable def sRest (v : HV) (t : Nat) (x all : Int32) : Nat → Int32
  | 0 => x
  | n + 1 => sRest v t x all n - x * sHigh v t (nI n) / all
noncomputable def rShare (v : HV) (t no : Nat) (o x : Int32) : Int32 := pif (inN o no ∧ inN x 10000) (if sAll v t no = 0 then nI 0 else x * sHigh v t o / sAll v t no + (if oI (sTallN v t no) = o then sRest v t x (sAll v t no) no else nI 0)) (-1)
def toldM (σ : MSt) : Nat → Nat → Int32 := fun i j => (σ.2.2 (60 * i + j)).toInt32
def sGet (σ : MSt) (n w : Nat) : Int32 := if w = 0 then σ.2.1 1 n else if w = 6 then nI (σ.1 6) else σ.2.1 3 (15 * (w - 1) + n)
def sSet (σ : MSt) (n w : Nat) (x : Int32) : MSt := if w = 0 then sA σ 1 n x else if w = 6 then sN σ 6 x.toNatClampNeg else sA σ 3 (15 * (w - 1) + n) x
def bOne (σ : MSt) (p : Nat) (b t w kd ls : Int32) : MSt := sA (sA (sA (sA (sA (sA (sA σ 4 p b) 5 p t) 3 p w) 3 (15 + p) kd) 3 (30 + p) ls) 3 (45 + p) (nI (σ.1 6))) 3 (60 + p) (nI 0)
/-- done is set to 1 for the set's promises of a .. b-1 -/
noncomputable def dnS (σ : MSt) (set : Int32) (a b : Nat) : MSt := (σ.1, va_up σ.2.1 3 (fun i => pif (∃ p, a ≤ p ∧ p < b ∧ i = 60 + p ∧ jbit set p) (nI 1) (σ.2.1 3 i)), σ.2.2)
theorem dnS_at (σ : MSt) (set : Int32) (a b i : Nat) : (dnS σ set a b).2.1 3 i = pif (∃ p, a ≤ p ∧ p < b ∧ i = 60 + p ∧ jbit set p) (nI 1) (σ.2.1 3 i) := by
  unfold dnS
  exact congrFun (va_up_self σ.2.1 3 _) i
theorem dnS_ne (σ : MSt) (set : Int32) (a b : Nat) {k : Nat} (h : k ≠ 3) : (dnS σ set a b).2.1 k = σ.2.1 k := va_up_ne _ _ h
theorem dnS_up (σ : MSt) (set : Int32) {a b : Nat} {k i : Nat} {v : Int32} {f : Nat → Int32} (h : ∀ j, (if j = i then v else (dnS σ set a b).2.1 3 j) = f j) : sA (dnS σ set a b) 3 i v = (σ.1, va_up σ.2.1 3 f, σ.2.2) := by
  have : up2 (dnS σ set a b).2.1 3 i v = va_up σ.2.1 3 f := by
    funext k' j
    rw [up2_at]
    by_cases hk : k' = 3
    · subst hk
      rw [va_up_self, ← h j]
      by_cases hj : j = i <;> simp [hj]
    · rw [va_up_ne _ _ hk, dnS_ne _ _ _ _ hk]
      simp [hk]
  unfold sA
  rw [this]
  rfl
theorem dnS_0 (σ : MSt) (set : Int32) {a b : Nat} (h : b ≤ a) : dnS σ set a b = σ := by
  unfold dnS
  have : va_up σ.2.1 3 (fun i => pif (∃ p, a ≤ p ∧ p < b ∧ i = 60 + p ∧ jbit set p) (nI 1) (σ.2.1 3 i)) = σ.2.1 := by
    funext k
    by_cases hk : k = 3
    · subst hk
      rw [va_up_self]
      funext i
      exact pif_f (fun ⟨p, h1, h2, _⟩ => by omega)
    · rw [va_up_ne _ _ hk]
  rw [this]
theorem dnS_add (σ : MSt) (set : Int32) {p : Nat} (hb : jbit set p) : sA (dnS σ set 0 p) 3 (60 + p) (nI 1) = dnS σ set 0 (p + 1) := by
  refine dnS_up σ set (k := 3) (fun j => ?_)
  by_cases hj : j = 60 + p
  · rw [if_pos hj, pif_t ⟨p, by omega, by omega, hj, hb⟩]
  · rw [if_neg hj, dnS_at]
    exact pif_c ⟨fun ⟨q, h1, h2, h3, h4⟩ => ⟨q, h1, by omega, h3, h4⟩, fun ⟨q, h1, h2, h3, h4⟩ => ⟨q, h1, by omega, h3, h4⟩⟩
theorem dnS_skip (σ : MSt) (set : Int32) {p : Nat} (hb : ¬ jbit set p) : dnS σ set 0 p = dnS σ set 0 (p + 1) := by
  unfold dnS
  have : (fun i => pif (∃ q, 0 ≤ q ∧ q < p ∧ i = 60 + q ∧ jbit set q) (nI 1) (σ.2.1 3 i)) = (fun i => pif (∃ q, 0 ≤ q ∧ q < p + 1 ∧ i = 60 + q ∧ jbit set q) (nI 1) (σ.2.1 3 i)) := by
    funext i
    refine pif_c ⟨fun ⟨q, h1, h2, h3, h4⟩ => ⟨q, h1, by omega, h3, h4⟩, fun ⟨q, h1, h2, h3, h4⟩ => ⟨q, h1, ?_, h3, h4⟩⟩
    rcases Nat.lt_or_ge q p with z | z
    · exact z
    · have e : q = p := by omega
      exact absurd (e ▸ h4) hb
  rw [this]
theorem dnS_back (σ : MSt) (set : Int32) {q n : Nat} (hz : σ.2.1 3 (60 + q) = 0) : sA (dnS σ set q n) 3 (60 + q) (nI 0) = dnS σ set (q + 1) n := by
  refine dnS_up σ set (k := 3) (fun j => ?_)
  by_cases hj : j = 60 + q
  · rw [if_pos hj, pif_f (fun ⟨p, h1, h2, h3, h4⟩ => by omega), hj, hz]; rfl
  · rw [if_neg hj, dnS_at]
    exact pif_c ⟨fun ⟨p, h1, h2, h3, h4⟩ => ⟨p, by omega, h2, h3, h4⟩, fun ⟨p, h1, h2, h3, h4⟩ => ⟨p, by omega, h2, h3, h4⟩⟩
theorem dnS_skip2 (σ : MSt) (set : Int32) {q n : Nat} (hb : ¬ jbit set q) : dnS σ set q n = dnS σ set (q + 1) n := by
  unfold dnS
  have : (fun i => pif (∃ p, q ≤ p ∧ p < n ∧ i = 60 + p ∧ jbit set p) (nI 1) (σ.2.1 3 i)) = (fun i => pif (∃ p, q + 1 ≤ p ∧ p < n ∧ i = 60 + p ∧ jbit set p) (nI 1) (σ.2.1 3 i)) := by
    funext i
    refine pif_c ⟨fun ⟨p, h1, h2, h3, h4⟩ => ⟨p, ?_, h2, h3, h4⟩, fun ⟨p, h1, h2, h3, h4⟩ => ⟨p, by omega, h2, h3, h4⟩⟩
    rcases Nat.lt_or_ge q p with z | z
    · exact z
    · exact absurd h4 (by rw [show p = q by omega]; exact hb)
  rw [this]
theorem mOK.same {σ τ : MSt} {L : LawT} (h : mOK σ L) (h1 : τ.1 = σ.1) (h2 : ∀ k, k ≠ 3 → τ.2.1 k = σ.2.1 k) : mOK τ L := by
  obtain ⟨a, b, c, d, e⟩ := h
  refine ⟨by rw [h1]; exact a, by rw [h1]; exact b, by rw [h1]; exact c, by rw [h1, h2 4 (by decide)]; exact d, ?_⟩
  cases L with
  | none => show τ.1 9 = 0; rw [h1]; exact e
  | some ls =>
    obtain ⟨e1, e2, e3, e4⟩ := e
    refine ⟨by rw [h1]; exact e1, by rw [h1]; exact e2, e3, fun i q hq => ?_⟩
    obtain ⟨a, q1, q2, q3, q4, q5, q6, q7⟩ := e4 i q hq
    exact ⟨a, by rw [h2 11 (by decide)]; exact q1, by rw [h2 12 (by decide)]; exact q2, by rw [h2 13 (by decide)]; exact q3, q4, by rw [h2 14 (by decide)]; exact q5, by rw [h2 14 (by decide)]; exact q6, q7⟩
/-! the same promises give the same houses -/
def pEq (n : Nat) (P P' : PV) : Prop := ∀ q, q < n → ∀ j, j < 7 → P q j = P' q j
theorem sOpen_congr {n : Nat} {P P' : PV} (h : pEq n P P') (t : Nat) {p : Nat} (hp : p < n) : sOpen P t p ↔ sOpen P' t p := by
  unfold sOpen
  rw [h p hp 6 (by decide), h p hp 3 (by decide), h p hp 5 (by decide), h p hp 4 (by decide)]
theorem sCnt_congr {n : Nat} {P P' : PV} (h : pEq n P P') (t : Nat) (o : Int32) : ∀ k, k ≤ n → sCnt P t o k = sCnt P' t o k
  | 0, _ => rfl
  | k + 1, hk => by
    unfold sCnt
    rw [sCnt_congr h t o k (by omega), pif_c (show (P k 0 = o ∧ sOpen P t k) ↔ (P' k 0 = o ∧ sOpen P' t k) by rw [h k (by omega) 0 (by decide), sOpen_congr h t (show k < n by omega)])]
theorem sSt_congr {v v' : HV} (h : pEq v.2.2.1 v.1 v'.1) (h2 : v.2 = v'.2) (t : Nat) {p : Nat} (hp : p < v.2.2.1) : sSt v t p = sSt v' t p := by
  unfold sSt
  rw [pif_c (sOpen_congr h t hp)]
  have hn : sNames v t p = sNames v' t p := by
    funext k
    unfold sNames
    rw [h p hp 2 (by decide), h p hp 5 (by decide), h p hp 4 (by decide), h p hp 3 (by decide), h p hp 0 (by decide), sCnt_congr h t _ _ (Nat.le_refl _), h2]
  have hr : sRaw v t p = sRaw v' t p := by
    unfold sRaw
    rw [hn, h p hp 2 (by decide), h p hp 3 (by decide), h2]
  rw [hr]
theorem sRoofN_congr {v v' : HV} (h : pEq v.2.2.1 v.1 v'.1) (h2 : v.2 = v'.2) (t : Nat) (o : Int32) : ∀ k, k ≤ v.2.2.1 → sRoofN v t o k = sRoofN v' t o k
  | 0, _ => rfl
  | k + 1, hk => by
    unfold sRoofN
    rw [sRoofN_congr h h2 t o k (by omega), pif_c (show (v.1 k 0 = o ∧ sOpen v.1 t k) ↔ (v'.1 k 0 = o ∧ sOpen v'.1 t k) by rw [h k (by omega) 0 (by decide), sOpen_congr h t (show k < v.2.2.1 by omega)])]
    cases hr : sRoofN v' t o k with
    | none => rfl
    | some q =>
      have hq := sRoofN_lt v' t o k q hr
      simp only
      rw [sSt_congr h h2 t (show q < v.2.2.1 by omega), sSt_congr h h2 t (show k < v.2.2.1 by omega)]
theorem sRoof_congr {v v' : HV} (h : pEq v.2.2.1 v.1 v'.1) (h2 : v.2 = v'.2) (t : Nat) (o : Int32) : sRoof v t o = sRoof v' t o := by
  unfold sRoof
  rw [sRoofN_congr h h2 t o _ (Nat.le_refl _), h2]
theorem sHigh_congr {v v' : HV} (h : pEq v.2.2.1 v.1 v'.1) (h2 : v.2 = v'.2) (t : Nat) (o : Int32) : sHigh v t o = sHigh v' t o := by
  unfold sHigh
  rw [sRoof_congr h h2 t o]
  cases hr : sRoof v' t o with
  | none => rfl
  | some q => exact sSt_congr h h2 t (by rw [h2]; exact sRoofN_lt _ _ _ _ _ hr)
theorem sHighW_dn {σ : MSt} {L : LawT} (hm : σ.1 2 ≤ 15) (set : Int32) (t : Nat) (o : Int32) : sHigh (mV (dnS σ set 0 (σ.1 2)) L) t o = sHighW (mV σ L) t set o := by
  unfold sHighW
  refine sHigh_congr (v := mV (dnS σ set 0 (σ.1 2)) L) (fun q hq j hj => ?_) ?_ t o
  · have hq : q < σ.1 2 := hq
    show mP (dnS σ set 0 (σ.1 2)) q j = pDn (mP σ) set q j
    unfold pDn
    by_cases h0 : j = 0
    · subst h0; rw [mP_0, dnS_ne _ _ _ _ (by decide)]; rfl
    · by_cases h1 : j = 1
      · subst h1; rw [mP_1, dnS_ne _ _ _ _ (by decide)]; rfl
      · have e : ∀ τ : MSt, mP τ q j = τ.2.1 3 (15 * (j - 2) + q) := fun τ => by unfold mP; rw [if_neg h0, if_neg h1]
        rw [e, dnS_at]
        by_cases h6 : j = 6
        · subst h6
          rw [if_pos rfl, mP_6]
          exact pif_c ⟨fun ⟨p, _, h2, h3, h4⟩ => by rw [show q = p by omega]; exact h4, fun h => ⟨q, by omega, hq, by omega, h⟩⟩
        · rw [if_neg h6, e]
          exact pif_f (fun ⟨p, _, h2, h3, _⟩ => by omega)
  · show ((dnS σ set 0 (σ.1 2)).2.1 1, σ.1 2, L) = (σ.2.1 1, σ.1 2, L)
    rw [dnS_ne _ _ _ _ (by decide)]
