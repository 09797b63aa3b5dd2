/-! X: the component's world -/
set_option maxRecDepth 100000
/-- addresses: 0 k the component's field k (38: itself, 39: the facts' array), 1 owners, 2 promises, 3 rows, 4 rows' items; what its arrays of references hold (11: the law) -/
abbrev LT : Type := (Nat → Nat → Nat) × (Nat → Nat → Option Nat)
def upL (A : Nat → Nat → Nat) (k i : Nat) (v : Nat) : Nat → Nat → Nat := va_up A k (va_up (A k) i v)
theorem upL_at (A : Nat → Nat → Nat) (k i : Nat) (v : Nat) (k' i' : Nat) : upL A k i v k' i' = if k' = k ∧ i' = i then v else A k' i' := by
  unfold upL va_up
  by_cases h1 : k' = k
  · subst h1
    by_cases h2 : i' = i
    · simp [h2]
    · simp [h2]
  · simp [h1]
/-- the component's fields; scratch beyond the reference's places: 1 50 toldMany; 2.1 50: least cost, the turns' owners; 51 told; 52 the facts; 53, 54 what the image keeps -/
def xF (Λ : LT) (σ : MSt) : List Value := [.ref (Λ.1 0 0), .ref (Λ.1 0 1), .int (nI (σ.1 0)), .int (nI (σ.1 2)), .int (nI (σ.1 6)), .int (σ.2.1 25 0), .ref (Λ.1 0 6), .int (nI (σ.1 32)), .int (nI (σ.1 31 - σ.1 32)), .ref (Λ.1 0 9), .int (nI (σ.1 7)), va_rf (Λ.2 11 0), .ref (Λ.1 0 12), .int (σ.2.1 50 0), .ref (Λ.1 0 14), .int (nI (σ.1 50)), .int (σ.2.1 50 1), .int (σ.2.1 50 2), .int (σ.2.1 25 1), .int (σ.2.1 25 2), .int (σ.2.1 25 3), .int (σ.2.1 25 4), .int (nI (σ.1 26)), .ref (Λ.1 0 23), .ref (Λ.1 0 24), .int (nI (σ.1 27)), .int (nI (σ.1 28)), .int (σ.2.1 29 22), .int (σ.2.1 30 0), .int (σ.2.1 30 1), .int (σ.2.1 30 2), .int (σ.2.1 30 3), .int (σ.2.1 30 4), .int (nI (σ.1 36)), .ref (Λ.1 0 34), .ref (Λ.1 0 35), .int (nI (σ.1 34)), .ref (Λ.1 0 37)]
def xrefs (c : ClassId) (n : Nat) (f : Nat → Option Nat) : va_E := .inl (c, n, .inr (.inr (.inr (.inr f))))
def xA0 (D : va_G) (a39 : Nat) (r0 r1 r6 r35 r37 : Nat → Option Nat) (t8 t37 t51 t52 t53 t54 : Nat → Int32) : Nat → Option va_E := fun k => match k with
  | 0 => some (xrefs (D.1 105) 8 r0)
  | 1 => some (xrefs (D.1 106) 14 r1)
  | 6 => some (xrefs (D.1 107) 40 r6)
  | 9 => some (.inl (D.1 101, 120, .inl (fun i => (t8 i).toInt8.toInt32)))
  | 12 => some (.inr (1, [.ref a39]))
  | 14 => some (.inl (D.1 100, 60, .inl t51))
  | 23 => some (.inl (D.1 100, 8, .inl t53))
  | 24 => some (.inl (D.1 100, 14, .inl t54))
  | 34 => some (.inl (D.1 101, 24, .inl (fun i => (t37 i).toInt8.toInt32)))
  | 35 => some (xrefs (D.1 108) 50 r35)
  | 37 => some (xrefs (D.1 109) 6 r37)
  | 39 => some (.inl (D.1 100, 128, .inl t52))
  | _ => none
def xA (D : va_G) (Λ : LT) (σ : MSt) : Nat → Option va_E := xA0 D (Λ.1 0 39) (Λ.2 0) (Λ.2 1) (Λ.2 6) (Λ.2 35) (Λ.2 37) (σ.2.1 8) (σ.2.1 37) (σ.2.1 51) (σ.2.1 52) (σ.2.1 53) (σ.2.1 54)
/-- the sort of the row on shelf s -/
def rowK (σ : MSt) (s : Nat) : Option Nat := if s < 6 ∧ ¬ σ.2.1 38 s < 0 ∧ (σ.2.1 38 s).toNatClampNeg < 5 then some (σ.2.1 38 s).toNatClampNeg else none
def xI0 (D : va_G) (n : Nat) (f : Nat → Int64) (k : Nat) : va_E := match k with
  | 0 => .inl (D.1 101, n, .inl (fun j => (f j).toInt32))
  | 1 => .inl (D.1 104, n, .inl (fun j => (f j).toInt32))
  | 2 => .inl (D.1 100, n, .inl (fun j => (f j).toInt32))
  | 3 => .inl (D.1 102, n, .inr (.inl f))
  | _ => .inl (D.1 103, n, .inl (fun j => (f j).toInt32))
def rowF (σ : MSt) (s : Nat) : Nat → Int64 := fun j => if j < 60 then σ.2.2 (60 * s + j) else 0
def xItems (D : va_G) (σ : MSt) (s : Nat) (k : Nat) : va_E := xI0 D (lenN σ s) (rowF σ s) k
def xP (σ : MSt) (p : Nat) : List Value := [.int (σ.2.1 4 p), .int (σ.2.1 5 p), .int (σ.2.1 3 p), .int (σ.2.1 3 (15 + p)), .int (σ.2.1 3 (30 + p)), .int (σ.2.1 3 (45 + p)), .int (σ.2.1 3 (60 + p))]
def xc1 (σ : MSt) (i : Nat) : Option va_E := if i < σ.1 0 then some (.inr (3, [.int (σ.2.1 1 i)])) else none
def xc2 (σ : MSt) (i : Nat) : Option va_E := if i < σ.1 2 then some (.inr (4, xP σ i)) else none
def xc3 (A : Nat → Nat) (σ : MSt) (i : Nat) : Option va_E := match rowK σ i with
  | some q => some (.inr (24 + q, [.ref (A i)]))
  | none => none
def xc4 (D : va_G) (σ : MSt) (i : Nat) : Option va_E := match rowK σ i with
  | some q => some (xItems D σ i q)
  | none => none
/-- what lies at the thing k i, if it's there -/
def xC (D : va_G) (Λ : LT) (σ : MSt) : Nat → Nat → Option va_E := fun k i => match k with
  | 0 => if i = 38 then some (.inr (0, xF Λ σ)) else xA D Λ σ i
  | 1 => xc1 σ i
  | 2 => xc2 σ i
  | 3 => xc3 (Λ.1 4) σ i
  | 4 => xc4 D σ i
  | _ => none
theorem xC_0 (D : va_G) (Λ : LT) (σ : MSt) {i : Nat} (h : i ≠ 38) : xC D Λ σ 0 i = xA D Λ σ i := if_neg h
theorem xC_1 (D : va_G) (Λ : LT) (σ : MSt) (i : Nat) : xC D Λ σ 1 i = xc1 σ i := rfl
theorem xC_2 (D : va_G) (Λ : LT) (σ : MSt) (i : Nat) : xC D Λ σ 2 i = xc2 σ i := rfl
theorem xC_3 (D : va_G) (Λ : LT) (σ : MSt) (i : Nat) : xC D Λ σ 3 i = xc3 (Λ.1 4) σ i := rfl
theorem xC_4 (D : va_G) (Λ : LT) (σ : MSt) (i : Nat) : xC D Λ σ 4 i = xc4 D σ i := rfl
theorem xC_5 (D : va_G) (Λ : LT) (σ : MSt) (n i : Nat) : xC D Λ σ (n + 5) i = none := rfl
/-- the cells: the things, apart; all else that I knows -/
def XW (D : va_G) (Λ : LT) (I : AH) (σ : MSt) (h : AH) : Prop := (∀ k i e, xC D Λ σ k i = some e → h (Λ.1 k i) = some e) ∧ (∀ k i k' i', xC D Λ σ k i ≠ none → xC D Λ σ k' i' ≠ none → Λ.1 k i = Λ.1 k' i' → k = k' ∧ i = i') ∧ (∀ a e, I a = some e → h a = some e) ∧ ∀ k i, xC D Λ σ k i ≠ none → I (Λ.1 k i) = none
theorem XW.up {D : va_G} {Λ Λ' : LT} {I : AH} {σ σ' : MSt} {h : AH} {k i : Nat} {e' : va_E} (hs : XW D Λ I σ h) (hu : xC D Λ σ k i ≠ none) (h1 : xC D Λ' σ' k i = some e') (h2 : ∀ k' i', ¬ (k' = k ∧ i' = i) → xC D Λ' σ' k' i' = none ∨ xC D Λ' σ' k' i' = xC D Λ σ k' i') (hΛ : Λ'.1 = Λ.1) : XW D Λ' I σ' (hup h (Λ.1 k i) e') := by
  obtain ⟨a, b, c, d⟩ := hs
  have hu' : ∀ k' i', xC D Λ' σ' k' i' ≠ none → xC D Λ σ k' i' ≠ none := by
    intro k' i' q
    by_cases z : k' = k ∧ i' = i
    · rw [z.1, z.2]; exact hu
    · rcases h2 k' i' z with w | w
      · exact absurd w q
      · rw [← w]; exact q
  refine ⟨fun k' i' e he => ?_, fun k' i' k2 i2 q1 q2 q3 => ?_, fun x e he => ?_, fun k' i' q => ?_⟩
  · rw [hΛ]
    by_cases z : k' = k ∧ i' = i
    · obtain ⟨rfl, rfl⟩ := z
      rw [hup_self]
      rw [h1] at he; exact he
    · have n1 : xC D Λ' σ' k' i' ≠ none := by rw [he]; exact fun w => by cases w
      rw [hup_ne (fun w => z (b k' i' k i (hu' _ _ n1) hu w))]
      rcases h2 k' i' z with w | w
      · exact absurd w n1
      · exact a k' i' e (w ▸ he)
  · rw [hΛ] at q3; exact b k' i' k2 i2 (hu' _ _ q1) (hu' _ _ q2) q3
  · have hd := d k i hu
    rw [hup_ne (fun w => by rw [w, hd] at he; cases he)]
    exact c x e he
  · rw [hΛ]; exact d k' i' (hu' _ _ q)
/-- a thing less, or other scratch -/
theorem XW.less {D : va_G} {Λ Λ' : LT} {I I' : AH} {σ σ' : MSt} {h : AH} (hs : XW D Λ I σ h) (h2 : ∀ k' i', xC D Λ' σ' k' i' = none ∨ xC D Λ' σ' k' i' = xC D Λ σ k' i') (hΛ : Λ'.1 = Λ.1) (hI : ∀ a e, I' a = some e → I a = some e) : XW D Λ' I' σ' h := by
  obtain ⟨a, b, c, d⟩ := hs
  have hu' : ∀ k' i', xC D Λ' σ' k' i' ≠ none → xC D Λ σ k' i' ≠ none := by
    intro k' i' q
    rcases h2 k' i' with w | w
    · exact absurd w q
    · rw [← w]; exact q
  refine ⟨fun k' i' e he => ?_, fun k' i' k2 i2 q1 q2 q3 => ?_, fun x e he => c x e (hI x e he), fun k' i' q => ?_⟩
  · rw [hΛ]
    rcases h2 k' i' with w | w
    · rw [w] at he; cases he
    · exact a k' i' e (w ▸ he)
  · rw [hΛ] at q3; exact b k' i' k2 i2 (hu' _ _ q1) (hu' _ _ q2) q3
  · rw [hΛ]
    cases hx : I' (Λ.1 k' i') with
    | none => rfl
    | some e => have := hI _ _ hx; rw [d k' i' (hu' _ _ q)] at this; cases this
/-- a new object that I knows becomes a thing, while another one is written -/
theorem XW.upA {D : va_G} {Λ Λ' : LT} {I I' : AH} {σ σ' : MSt} {h : AH} {k i kA iA a0 : Nat} {e' eA : va_E} (hs : XW D Λ I σ h) (hu : xC D Λ σ k i ≠ none) (h1 : xC D Λ' σ' k i = some e') (hΛ : ∀ k' i', ¬ (k' = kA ∧ i' = iA) → Λ'.1 k' i' = Λ.1 k' i') (hA : Λ'.1 kA iA = a0) (hne : ¬ (k = kA ∧ i = iA)) (h2 : ∀ k' i', ¬ (k' = k ∧ i' = i) → ¬ (k' = kA ∧ i' = iA) → xC D Λ' σ' k' i' = none ∨ xC D Λ' σ' k' i' = xC D Λ σ k' i') (hIa : I a0 = some eA) (hx : xC D Λ' σ' kA iA = some eA) (hI' : ∀ b e, I' b = some e → I b = some e ∧ b ≠ a0) : XW D Λ' I' σ' (hup h (Λ.1 k i) e') := by
  obtain ⟨a, b, c, d⟩ := hs
  have hu' : ∀ k' i', ¬ (k' = kA ∧ i' = iA) → xC D Λ' σ' k' i' ≠ none → xC D Λ σ k' i' ≠ none := by
    intro k' i' z2 q
    by_cases z : k' = k ∧ i' = i
    · rw [z.1, z.2]; exact hu
    · rcases h2 k' i' z z2 with w | w
      · exact absurd w q
      · rw [← w]; exact q
  have hfr : ∀ k' i', xC D Λ σ k' i' ≠ none → Λ.1 k' i' ≠ a0 := fun k' i' q w => by
    have := d k' i' q
    rw [w, hIa] at this; cases this
  refine ⟨fun k' i' e he => ?_, fun k' i' k2 i2 q1 q2 q3 => ?_, fun x e he => ?_, fun k' i' q => ?_⟩
  · by_cases z2 : k' = kA ∧ i' = iA
    · obtain ⟨rfl, rfl⟩ := z2
      rw [hA, hup_ne (fun w => hfr k i hu w.symm), c _ _ hIa, ← hx]; exact he
    · rw [hΛ _ _ z2]
      by_cases z : k' = k ∧ i' = i
      · obtain ⟨rfl, rfl⟩ := z
        rw [hup_self]
        rw [h1] at he; exact he
      · have n1 : xC D Λ' σ' k' i' ≠ none := by rw [he]; exact fun w => by cases w
        rw [hup_ne (fun w => z (b k' i' k i (hu' _ _ z2 n1) hu w))]
        rcases h2 k' i' z z2 with w | w
        · exact absurd w n1
        · exact a k' i' e (w ▸ he)
  · by_cases z1 : k' = kA ∧ i' = iA
    · by_cases z2 : k2 = kA ∧ i2 = iA
      · rw [z1.1, z1.2, z2.1, z2.2]; exact ⟨rfl, rfl⟩
      · exfalso
        rw [z1.1, z1.2, hA, hΛ _ _ z2] at q3
        exact hfr k2 i2 (hu' _ _ z2 q2) q3.symm
    · by_cases z2 : k2 = kA ∧ i2 = iA
      · exfalso
        rw [z2.1, z2.2, hA, hΛ _ _ z1] at q3
        exact hfr k' i' (hu' _ _ z1 q1) q3
      · rw [hΛ _ _ z1, hΛ _ _ z2] at q3
        exact b k' i' k2 i2 (hu' _ _ z1 q1) (hu' _ _ z2 q2) q3
  · have hd := d k i hu
    have h3 := (hI' x e he).1
    rw [hup_ne (fun w => by rw [w, hd] at h3; cases h3)]
    exact c x e h3
  · by_cases z2 : k' = kA ∧ i' = iA
    · rw [z2.1, z2.2, hA]
      cases hq : I' a0 with
      | none => rfl
      | some e => exact absurd rfl (hI' _ _ hq).2
    · rw [hΛ _ _ z2]
      cases hq : I' (Λ.1 k' i') with
      | none => rfl
      | some e => have := (hI' _ _ hq).1; rw [d k' i' (hu' _ _ z2 q)] at this; cases this
/-- what is new is known -/
theorem XW.know {D : va_G} {Λ : LT} {I : AH} {σ : MSt} {h : AH} (hs : XW D Λ I σ h) {a0 : Nat} {e0 : va_E} (hn : h a0 = none) : XW D Λ (hup I a0 e0) σ (hup h a0 e0) := by
  obtain ⟨a, b, c, d⟩ := hs
  refine ⟨fun k' i' e he => ?_, b, fun x e he => ?_, fun k' i' q => ?_⟩
  · have := a k' i' e he
    rw [hup_ne (fun w => by rw [w, hn] at this; cases this)]; exact this
  · by_cases z : x = a0
    · subst z
      rw [hup_self] at he ⊢; exact he
    · rw [hup_ne z] at he ⊢; exact c x e he
  · cases hx : xC D Λ σ k' i' with
    | none => exact absurd hx q
    | some e =>
      have := a k' i' e hx
      rw [hup_ne (fun w => by rw [w, hn] at this; cases this)]; exact d k' i' q
/-! the tree of the law: a node stands for a code -/
def sgnC (c : Nat) : Nat := match c with
  | 6 => 124
  | 7 => 38
  | 8 => 60
  | 9 => 61
  | 10 => 62
  | 11 => 43
  | 12 => 45
  | 13 => 42
  | 14 => 47
  | _ => 37
def letC (c : Nat) : Nat := match c with
  | 0 => 119
  | 1 => 100
  | 2 => 108
  | 3 => 107
  | 4 => 109
  | _ => 110
/-- at a stands a tree, at most d deep, of the code cs -/
def ndT (I : AH) : Nat → Nat → List Nat → Prop
  | 0, _, _ => False
  | d + 1, a, cs => (∃ n, n < 10000 ∧ cs = [18 + n] ∧ I a = some (.inr (12, [.int (nI n)]))) ∨ (∃ k, k ≤ 5 ∧ cs = [k] ∧ I a = some (.inr (9, [.int (nI (letC k))]))) ∨ (∃ b cs1, cs = cs1 ++ [17] ∧ I a = some (.inr (11, [.ref b])) ∧ ndT I d b cs1) ∨ (∃ b cs1, cs = cs1 ++ [16] ∧ I a = some (.inr (10, [.ref b])) ∧ ndT I d b cs1) ∨ (∃ b b' cs1 cs2 op, 6 ≤ op ∧ op ≤ 15 ∧ cs = cs1 ++ cs2 ++ [op] ∧ I a = some (.inr (13, [.int (nI (sgnC op)), .ref b, .ref b'])) ∧ ndT I d b cs1 ∧ ndT I d b' cs2)
def XD : Nat := 200
/-- from a on: lines -/
def lnT (I : AH) : Option Nat → List (List Nat × List Nat) → Prop
  | r, [] => r = none
  | r, (t, g) :: ls => ∃ a tn gn nx, r = some a ∧ I a = some (.inr (7, [va_rf tn, .ref gn, va_rf nx])) ∧ ((t = [] ∧ tn = none) ∨ (t ≠ [] ∧ ∃ b, tn = some b ∧ ndT I XD b t)) ∧ ndT I XD gn g ∧ lnT I nx ls
/-- a body: its number, then as many outer ones as it has classes -/
def bodyN (kd : Nat) : Nat := match kd with
  | 0 => 1
  | 1 => 2
  | 2 => 2
  | 3 => 3
  | 4 => 3
  | 5 => 4
  | 6 => 2
  | _ => 4
def bCell (x kd b : Nat) : va_E := .inr (15 + kd, .int (nI b) :: List.replicate (bodyN kd) (.ref x))
def xrO (Λ : LT) (σ : MSt) : Prop := ∀ i, i < σ.1 0 → Λ.2 0 i = some (Λ.1 1 i)
def xrP (Λ : LT) (σ : MSt) : Prop := ∀ p, p < σ.1 2 → Λ.2 1 p = some (Λ.1 2 p)
def xrC (Λ : LT) (I : AH) (σ : MSt) : Prop := ∀ e, e < σ.1 31 → ∃ a, Λ.2 6 e = some a ∧ I a = some (.inr (5, [.int (σ.2.1 33 (4 * e + 1)), .int (σ.2.1 33 (4 * e)), .int (σ.2.1 33 (4 * e + 2)), .int (σ.2.1 33 (4 * e + 3))]))
def xrK (σ : MSt) : Prop := (∀ i, i < σ.1 27 → σ.2.1 53 i = σ.2.1 29 i) ∧ ∀ p, p < σ.1 28 → σ.2.1 54 p = σ.2.1 29 (8 + p)
def xrB (Λ : LT) (I : AH) (σ : MSt) : Prop := ∀ b, b < σ.1 34 → ∃ a, Λ.2 35 b = some a ∧ I a = some (bCell (Λ.1 0 38) (kdN σ b) b)
def xrS (Λ : LT) (σ : MSt) : Prop := ∀ s, s < 6 → (σ.2.1 38 s = -1 → Λ.2 37 s = none) ∧ (∀ b, b < σ.1 34 → σ.2.1 38 s = nI (10 + b) → Λ.2 37 s = Λ.2 35 b) ∧ ∀ k, rowK σ s = some k → Λ.2 37 s = some (Λ.1 3 s)
def xrL (Λ : LT) (I : AH) (L : LawT) : Prop := match L with
  | none => Λ.2 11 0 = none
  | some ls => ls ≠ [] ∧ lnT I (Λ.2 11 0) ls
def XR (Λ : LT) (I : AH) (L : LawT) (σ : MSt) : Prop := xrO Λ σ ∧ xrP Λ σ ∧ xrC Λ I σ ∧ xrK σ ∧ xrB Λ I σ ∧ xrS Λ σ ∧ xrL Λ I L
def hid (σ : MSt) (nm km kd : Nat → Int32) : MSt := (σ.1, va_up (va_up (va_up σ.2.1 52 nm) 53 km) 54 kd, σ.2.2)
/-- the component's world: what it holds, where; the facts' array and the image's arrays hidden -/
def XH (D : va_G) (Λ : LT) (I : AH) (L : LawT) (σ : MSt) (h : AH) : Prop := ∃ nm km kd : Nat → Int32, XR Λ I L (hid σ nm km kd) ∧ XW D Λ I (hid σ nm km kd) h
theorem XH.wc {D : va_G} {Λ : LT} {I : AH} {L : LawT} {σ : MSt} {h : AH} (hs : XH D Λ I L σ h) {k i : Nat} {e : va_E} (he : ∀ nm km kd, xC D Λ (hid σ nm km kd) k i = some e) : h (Λ.1 k i) = some e := by
  obtain ⟨nm, km, kd, -, hw⟩ := hs
  exact hw.1 k i e (he nm km kd)
theorem hid_sA (σ : MSt) (nm km kd : Nat → Int32) {k : Nat} (i : Nat) (v : Int32) (h2 : k ≠ 52) (h3 : k ≠ 53) (h4 : k ≠ 54) : sA (hid σ nm km kd) k i v = hid (sA σ k i v) nm km kd := by
  have : up2 (va_up (va_up (va_up σ.2.1 52 nm) 53 km) 54 kd) k i v = va_up (va_up (va_up (up2 σ.2.1 k i v) 52 nm) 53 km) 54 kd := by
    funext a b
    rw [up2_at]
    unfold va_up
    by_cases q4 : a = 54
    · subst q4
      simp [Ne.symm h4]
    · by_cases q3 : a = 53
      · subst q3; simp [Ne.symm h3]
      · by_cases q2 : a = 52
        · subst q2; simp [Ne.symm h2]
        · simp only [q2, q3, q4, if_false]
          exact (up2_at _ _ _ _ _ _).symm
  exact congrArg (fun A => (σ.1, A, σ.2.2)) this
theorem hid_cp52 (σ : MSt) (nm km kd f : Nat → Int32) : cpS (hid σ nm km kd) 52 f = hid σ f km kd := by
  have : va_up (va_up (va_up (va_up σ.2.1 52 nm) 53 km) 54 kd) 52 f = va_up (va_up (va_up σ.2.1 52 f) 53 km) 54 kd := by
    funext a
    unfold va_up
    by_cases q4 : a = 54
    · subst q4; simp
    · by_cases q3 : a = 53
      · subst q3; simp
      · by_cases q2 : a = 52 <;> simp [q2, q3, q4]
  exact congrArg (fun A => (σ.1, A, σ.2.2)) this
theorem hid_cp53 (σ : MSt) (nm km kd f : Nat → Int32) : cpS (hid σ nm km kd) 53 f = hid σ nm f kd := by
  have : va_up (va_up (va_up (va_up σ.2.1 52 nm) 53 km) 54 kd) 53 f = va_up (va_up (va_up σ.2.1 52 nm) 53 f) 54 kd := by
    funext a
    unfold va_up
    by_cases q4 : a = 54
    · subst q4; simp
    · by_cases q3 : a = 53
      · subst q3; simp
      · by_cases q2 : a = 52 <;> simp [q2, q3, q4]
  exact congrArg (fun A => (σ.1, A, σ.2.2)) this
theorem hid_cp54 (σ : MSt) (nm km kd f : Nat → Int32) : cpS (hid σ nm km kd) 54 f = hid σ nm km f := by
  have : va_up (va_up (va_up (va_up σ.2.1 52 nm) 53 km) 54 kd) 54 f = va_up (va_up (va_up σ.2.1 52 nm) 53 km) 54 f := by
    funext a
    unfold va_up
    by_cases q4 : a = 54 <;> simp [q4]
  exact congrArg (fun A => (σ.1, A, σ.2.2)) this
