/-! SPEC 4: a promise in thought, shares, deeds -/
set_option maxRecDepth 100000
theorem nI_cl {x : Int32} (h : ¬ x < 0) : x = nI x.toNatClampNeg ∧ x.toNatClampNeg < 2 ^ 31 := by
  obtain ⟨j, hj, rfl⟩ := nI_of h
  rw [nI_clamp hj]
  exact ⟨rfl, hj⟩
/-- promise n is a new one -/
def pNew (P : PV) (n : Nat) (b t w kd ls md : Int32) : PV := fun p j => if p = n then (match j with | 0 => b | 1 => t | 2 => w | 3 => kd | 4 => ls | 5 => md | _ => nI 0) else P p j
def sWhatK (v : HV) (t : Nat) (o : Int32) (kl xt w : Nat) : Prop := sStands (pNew v.1 v.2.2.1 o (-1) (nI w) (nI (kl / 100)) (nI (kl % 100)) (nI t), v.2.1, v.2.2.1 + 1, v.2.2.2) t o (nI (xt / 100)) (xt % 100)
noncomputable def sWhat (v : HV) (t : Nat) (o : Int32) (kl xt : Nat) : Option Nat := sLeast (sWhatK v t o kl xt) 0 100
def wOK (no : Nat) (o kl xt : Int32) : Prop := inN o no ∧ ¬ kl < 0 ∧ kl.toNatClampNeg / 100 ≤ 2 ∧ ¬ kl.toNatClampNeg % 100 = 0 ∧ ¬ xt < 0 ∧ xt.toNatClampNeg / 100 ≤ 9 ∧ xt.toNatClampNeg % 100 ≤ 40
noncomputable def rWhat (v : HV) (t no : Nat) (o kl xt : Int32) : Int32 := pif (wOK no o kl xt) (if v.2.2.1 = 14 then -2 else oI (sWhat v t o kl.toNatClampNeg xt.toNatClampNeg)) (-1)
theorem mP_bOne {σ : MSt} {p : Nat} (hp : p < 15) (b t w kd ls : Int32) : pEq 15 (mP (bOne σ p b t w kd ls)) (pNew (mP σ) p b t w kd ls (nI (σ.1 6))) := by
  intro q hq j hj
  have e : ∀ τ : MSt, ∀ i, 2 ≤ i → mP τ q i = τ.2.1 3 (15 * (i - 2) + q) := fun τ i hi => by unfold mP; rw [if_neg (by omega), if_neg (by omega)]
  unfold pNew
  rcases (show j = 0 ∨ j = 1 ∨ j = 2 ∨ j = 3 ∨ j = 4 ∨ j = 5 ∨ j = 6 by omega) with rfl | rfl | rfl | rfl | rfl | rfl | rfl
  · rw [mP_0, mP_0]
    by_cases h : q = p
    · subst h; rw [if_pos rfl]; unfold bOne; simp only [sA_2]; simp
    · rw [if_neg h]; unfold bOne; simp only [sA_2]; repeat rw [if_neg (by omega)]
  · rw [mP_1, mP_1]
    by_cases h : q = p
    · subst h; rw [if_pos rfl]; unfold bOne; simp only [sA_2]; simp
    · rw [if_neg h]; unfold bOne; simp only [sA_2]; repeat rw [if_neg (by omega)]
  · rw [mP_2, mP_2]
    by_cases h : q = p
    · subst h; rw [if_pos rfl]; unfold bOne; simp only [sA_2]; simp
    · rw [if_neg h]; unfold bOne; simp only [sA_2]; repeat rw [if_neg (by omega)]
  · rw [mP_3, mP_3]
    by_cases h : q = p
    · subst h; rw [if_pos rfl]; unfold bOne; simp only [sA_2]; simp
    · rw [if_neg h]; unfold bOne; simp only [sA_2]; repeat rw [if_neg (by omega)]
  · rw [mP_4, mP_4]
    by_cases h : q = p
    · subst h; rw [if_pos rfl]; unfold bOne; simp only [sA_2]; simp
    · rw [if_neg h]; unfold bOne; simp only [sA_2]; repeat rw [if_neg (by omega)]
  · rw [mP_5, mP_5]
    by_cases h : q = p
    · subst h; rw [if_pos rfl]; unfold bOne; simp only [sA_2]; simp
    · rw [if_neg h]; unfold bOne; simp only [sA_2]; repeat rw [if_neg (by omega)]
  · rw [mP_6, mP_6]
    by_cases h : q = p
    · subst h; rw [if_pos rfl]; unfold bOne; simp only [sA_2]; simp
    · rw [if_neg h]; unfold bOne; simp only [sA_2]; repeat rw [if_neg (by omega)]
theorem bOne_1 (σ : MSt) (p : Nat) (b t w kd ls : Int32) : (bOne σ p b t w kd ls).1 = σ.1 := rfl
theorem bOne_ne (σ : MSt) (p : Nat) (b t w kd ls : Int32) {k : Nat} (h3 : k ≠ 3) (h4 : k ≠ 4) (h5 : k ≠ 5) : (bOne σ p b t w kd ls).2.1 k = σ.2.1 k := by
  funext i
  unfold bOne
  simp only [sA_2]
  simp [h3, h4, h5]
theorem bOne_twice (σ : MSt) {p : Nat} (hp : p < 15) (b t w kd ls w' : Int32) : bOne (bOne σ p b t w kd ls) p b t w' kd ls = bOne σ p b t w' kd ls := by
  have h : (bOne (bOne σ p b t w kd ls) p b t w' kd ls).2.1 = (bOne σ p b t w' kd ls).2.1 := by
    funext k i
    unfold bOne
    simp only [sA_2, sA_1]
    by_cases h3 : k = 3
    · subst h3
      by_cases a1 : i = 60 + p
      · subst a1; simp
      · by_cases a2 : i = 45 + p
        · subst a2; simp
        · by_cases a3 : i = 30 + p
          · subst a3; simp
          · by_cases a4 : i = 15 + p
            · subst a4; simp
            · by_cases a5 : i = p <;> simp [a1, a2, a3, a4, a5]
    · by_cases h4 : k = 4
      · subst h4; by_cases a : i = p <;> simp [a]
      · by_cases h5 : k = 5
        · subst h5; by_cases a : i = p <;> simp [a]
        · simp [h3, h4, h5]
  exact congrArg (fun A => (σ.1, A, σ.2.2)) h
theorem lawM.same {σ τ : MSt} {L : LawT} (e : lawM σ L) (h1 : τ.1 9 = σ.1 9) (h10 : τ.1 10 = σ.1 10) (h2 : ∀ k, 11 ≤ k → k ≤ 14 → τ.2.1 k = σ.2.1 k) : lawM τ L := by
  cases L with
  | none => show τ.1 9 = 0; rw [h1]; exact e
  | some ls =>
    obtain ⟨e1, e2, e3, e4⟩ := e
    refine ⟨by rw [h1]; exact e1, by rw [h10]; exact e2, e3, fun i q hq => ?_⟩
    obtain ⟨a, q1, q2, q3, q4, q5, q6, q7⟩ := e4 i q hq
    exact ⟨a, by rw [h2 11 (by decide) (by decide)]; exact q1, by rw [h2 12 (by decide) (by decide)]; exact q2, by rw [h2 13 (by decide) (by decide)]; exact q3, q4, by rw [h2 14 (by decide) (by decide)]; exact q5, by rw [h2 14 (by decide) (by decide)]; exact q6, q7⟩
/-- the world while a promise is thought of -/
def tOne (σ : MSt) (o w kd ls : Int32) : MSt := bOne (sN σ 2 (σ.1 2 + 1)) (σ.1 2) o (-1) w kd ls
theorem tOne_OK {σ : MSt} {L : LawT} (h : mOK σ L) (hm : σ.1 2 ≤ 14) {o : Int32} (ho : inN o (σ.1 0)) (w kd ls : Int32) : mOK (tOne σ o w kd ls) L := by
  obtain ⟨a, b, c, d, e⟩ := h
  refine ⟨a, by show σ.1 2 + 1 ≤ 15; omega, c, fun p hp => ?_, e.same rfl rfl (fun k k1 k2 => bOne_ne _ _ _ _ _ _ _ (by omega) (by omega) (by omega))⟩
  have hp : p < σ.1 2 + 1 := hp
  have e4 : (tOne σ o w kd ls).2.1 4 p = if p = σ.1 2 then o else σ.2.1 4 p := by
    unfold tOne bOne
    simp only [sA_2, sN_2]
    by_cases q : p = σ.1 2 <;> simp [q]
  by_cases q : p = σ.1 2
  · rw [e4, if_pos q]
    obtain ⟨j, hj, rfl⟩ := ho
    exact ⟨j, by omega, rfl⟩
  · rw [e4, if_neg q]
    exact d p (by omega)
theorem sStands_congr {v v' : HV} (h : pEq v.2.2.1 v.1 v'.1) (h2 : v.2 = v'.2) (t : Nat) (o x : Int32) (k : Nat) : sStands v t o x k ↔ sStands v' t o x k := by
  unfold sStands
  constructor
  · intro q j hj; rw [← sHigh_congr h h2]; exact q j hj
  · intro q j hj; rw [sHigh_congr h h2]; exact q j hj
theorem tOne_stands {σ : MSt} {L : LawT} (hm : σ.1 2 ≤ 14) (o w kd ls x : Int32) (k : Nat) : sStands (mV (tOne σ o w kd ls) L) ((tOne σ o w kd ls).1 6) o x k ↔ sStands (pNew (mP σ) (σ.1 2) o (-1) w kd ls (nI (σ.1 6)), σ.2.1 1, σ.1 2 + 1, L) (σ.1 6) o x k := by
  refine sStands_congr (v := mV (tOne σ o w kd ls) L) (v' := (pNew (mP σ) (σ.1 2) o (-1) w kd ls (nI (σ.1 6)), σ.2.1 1, σ.1 2 + 1, L)) (fun q hq j hj => ?_) ?_ (σ.1 6) o x k
  · have hq : q < σ.1 2 + 1 := hq
    exact mP_bOne (σ := sN σ 2 (σ.1 2 + 1)) (by omega) o (-1) w kd ls q (by omega) j hj
  · show ((tOne σ o w kd ls).2.1 1, σ.1 2 + 1, L) = (σ.2.1 1, σ.1 2 + 1, L)
    unfold tOne
    rw [bOne_ne _ _ _ _ _ _ _ (by decide) (by decide) (by decide)]
    rfl
def dOK (v : HV) (t no : Nat) (p o : Int32) : Prop := sOpen v.1 t p.toNatClampNeg ∧ ¬ v.1 p.toNatClampNeg 3 = nI 2 ∧ v.1 p.toNatClampNeg 2 ≤ v.2.1 o.toNatClampNeg
noncomputable def rDoes (v : HV) (t no : Nat) (p o : Int32) : Int32 := pif (inN p v.2.2.1 ∧ inN o no) (pif (dOK v t no p o) (v.2.1 o.toNatClampNeg - v.1 p.toNatClampNeg 2) (-5)) (-1)
def doesS (σ : MSt) (p o : Nat) : MSt := sA (sA (sA (sA σ 3 (60 + p) (nI 1)) 1 o (σ.2.1 1 o - σ.2.1 3 p)) 25 1 (σ.2.1 25 1 + nI 1)) 25 3 (σ.2.1 25 3 + σ.2.1 3 p)
def relS (σ : MSt) (p : Nat) : MSt := sA (sA σ 3 (60 + p) (nI 1)) 25 2 (σ.2.1 25 2 + nI 1)
def pDo (P : PV) (p : Nat) : PV := fun q j => if q = p ∧ j = 6 then nI 1 else P q j
theorem mP_do {σ : MSt} {p : Nat} (hp : p < 15) : pEq 15 (mP (sA σ 3 (60 + p) (nI 1))) (pDo (mP σ) p) := by
  intro q hq j hj
  unfold pDo
  rcases (show j = 0 ∨ j = 1 ∨ j = 2 ∨ j = 3 ∨ j = 4 ∨ j = 5 ∨ j = 6 by omega) with rfl | rfl | rfl | rfl | rfl | rfl | rfl
  · rw [mP_0, mP_0, sA_2]; simp
  · rw [mP_1, mP_1, sA_2]; simp
  · rw [mP_2, mP_2, sA_2]; simp; intros; omega
  · rw [mP_3, mP_3, sA_2]; simp; intros; omega
  · rw [mP_4, mP_4, sA_2]; simp; intros; omega
  · rw [mP_5, mP_5, sA_2]; simp; intros; omega
  · rw [mP_6, mP_6, sA_2]; simp
noncomputable def rRel (v : HV) (t : Nat) (p : Int32) : Int32 := pif (inN p v.2.2.1) (pif (sOpen v.1 t p.toNatClampNeg ∧ ¬ v.1 p.toNatClampNeg 1 < 0) (sHigh (pDo v.1 p.toNatClampNeg, v.2) t (v.1 p.toNatClampNeg 0)) (-5)) (-1)
/-- the field j of promise p is x -/
def pSet (P : PV) (p j : Nat) (x : Int32) : PV := fun q i => if q = p ∧ i = j then x else P q i
theorem mP_set {σ : MSt} {p j : Nat} (hp : p < 15) (hj2 : 2 ≤ j) (hj : j < 7) (x : Int32) : pEq 15 (mP (sA σ 3 (15 * (j - 2) + p) x)) (pSet (mP σ) p j x) := by
  intro q hq i hi
  unfold pSet
  by_cases h0 : i = 0
  · subst h0; rw [mP_0, mP_0, sA_2]; simp; omega
  · by_cases h1 : i = 1
    · subst h1; rw [mP_1, mP_1, sA_2]; simp; omega
    · have e : ∀ τ : MSt, mP τ q i = τ.2.1 3 (15 * (i - 2) + q) := fun τ => by unfold mP; rw [if_neg h0, if_neg h1]
      rw [e, e, sA_2]
      by_cases h : q = p ∧ i = j
      · rw [if_pos h, if_pos ⟨rfl, by rw [h.1, h.2]⟩]
      · rw [if_neg h, if_neg (fun z => h (by omega))]
noncomputable def sFitOK (v : HV) (t : Nat) (told : Nat → Int32) (len : Nat) (o : Int32) (p j : Nat) (x : Nat) : Prop := sUnlike (pSet v.1 p j (nI x), v.2) t told len o = none
noncomputable def sNum (K : Nat → Prop) : Nat → Nat → Nat
  | _, 0 => 0
  | a, c + 1 => sNum K (a + 1) c + pif (K a) 1 0
noncomputable def rFits (v : HV) (t no : Nat) (hold len : Nat → Int32) (told : Nat → Nat → Int32) (i o p w : Int32) : Int32 := pif (inN i 6 ∧ inN o no ∧ inN p v.2.2.1 ∧ inN w 4) (if sNB (hold i.toNatClampNeg) < 0 then sNB (hold i.toNatClampNeg) else
  (let K := sFitOK v t (told i.toNatClampNeg) (len i.toNatClampNeg).toNatClampNeg o p.toNatClampNeg (if w.toNatClampNeg < 2 then 2 else 4)
   let a := (if w.toNatClampNeg < 2 then 0 else 1)
   if w.toNatClampNeg % 2 = 0 then nI (sNum K a (100 - a)) else oI (sLeast K a (100 - a)))) (-1)
noncomputable def rDays (t : Nat) (n : Int32) : Int32 := pif (btw n (nI 1) (nI 99)) (nI (day t n.toNatClampNeg)) (-1)
theorem bt199 {x : Int32} : btw x (nI 1) (nI 99) → x = nI x.toNatClampNeg ∧ x.toNatClampNeg < 100 := by
  intro h
  obtain ⟨j, h1, h2, rfl⟩ := (btw_iff (by decide) (by decide)).mp h
  rw [nI_clamp (by omega)]
  exact ⟨rfl, by omega⟩
