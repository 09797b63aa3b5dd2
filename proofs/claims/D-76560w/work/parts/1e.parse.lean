/-! SPEC 12: the tape read by descent: what is read, where it ends, the codes told (also before a fault) -/
set_option maxRecDepth 100000
abbrev Res : Type := Bool × Nat × List Nat
def sgnT (σ : MSt) (a : Nat) : Int32 := if a < σ.1 7 then σ.2.1 8 a else -1
def isDg (x : Int32) : Bool := decide (nI 48 ≤ x) && decide (x ≤ nI 57)
theorem isDg_iff {x : Int32} : isDg x = true ↔ nI 48 ≤ x ∧ x ≤ nI 57 := by unfold isDg; rw [Bool.and_eq_true, decide_eq_true_eq, decide_eq_true_eq]
def nameK (x : Int32) : Option Nat := if x = 119 then some 0 else if x = 100 then some 1 else if x = 108 then some 2 else if x = 107 then some 3 else if x = 109 then some 4 else if x = 110 then some 5 else none
def nameV (x : Int32) : Int32 := match nameK x with | some k => nI k | none => -1
def pDig (T : Nat → Int32) : Nat → Nat → Nat → Nat × Nat
  | 0, a, v => (a, v)
  | k + 1, a, v => if isDg (T a) = true then pDig T k (a + 1) (10 * v + ((T a).toNatClampNeg - 48)) else (a, v)
def opP (x : Int32) : Option Nat := if x = nI 42 then some 13 else if x = nI 47 then some 14 else if x = nI 37 then some 15 else none
def opS (x : Int32) : Option Nat := if x = nI 43 then some 11 else if x = nI 45 then some 12 else none
def opB (x : Int32) : Option Nat := if x = nI 60 then some 8 else if x = nI 61 then some 9 else if x = nI 62 then some 10 else none
def opA (x : Int32) : Option Nat := if x = nI 38 then some 7 else none
def opE (x : Int32) : Option Nat := if x = nI 124 then some 6 else none
def binL (T : Nat → Int32) (f : Nat → Res) (op : Int32 → Option Nat) : Nat → Nat → List Nat → Res
  | 0, b, cs => (true, b, cs)
  | k + 1, b, cs => match op (T b) with
    | none => (true, b, cs)
    | some o => if (f (b + 1)).1 = true then binL T f op k (f (b + 1)).2.1 (cs ++ ((f (b + 1)).2.2 ++ [o])) else (false, (f (b + 1)).2.1, cs ++ (f (b + 1)).2.2)
def chain (T : Nat → Int32) (n : Nat) (f : Nat → Res) (op : Int32 → Option Nat) (a : Nat) : Res := if (f a).1 = true then binL T f op (n - (f a).2.1) (f a).2.1 (f a).2.2 else f a
def once (T : Nat → Int32) (f : Nat → Res) (op : Int32 → Option Nat) (a : Nat) : Res := if (f a).1 = true then (match op (T (f a).2.1) with
    | none => f a
    | some o => if (f ((f a).2.1 + 1)).1 = true then (true, (f ((f a).2.1 + 1)).2.1, (f a).2.2 ++ ((f ((f a).2.1 + 1)).2.2 ++ [o])) else (false, (f ((f a).2.1 + 1)).2.1, (f a).2.2 ++ (f ((f a).2.1 + 1)).2.2)) else f a
def prE (T : Nat → Int32) (n : Nat) (O : Nat → Res) : Nat → Nat → Res
  | 0 => O
  | 1 => chain T n O opP
  | 2 => chain T n (chain T n O opP) opS
  | 3 => once T (chain T n (chain T n O opP) opS) opB
  | 4 => chain T n (once T (chain T n (chain T n O opP) opS) opB) opA
  | _ => chain T n (chain T n (once T (chain T n (chain T n O opP) opS) opB) opA) opE
def oper (T : Nat → Int32) (rest : Nat → Res) (a : Nat) : Res := if isDg (T a) = true then (true, (pDig T 4 a 0).1, [18 + (pDig T 4 a 0).2]) else match nameK (T a) with
  | some k => (true, a + 1, [k])
  | none => rest a
def unar (f : Res) (o : Nat) : Res := if f.1 = true then (true, f.2.1, f.2.2 ++ [o]) else f
def clos (T : Nat → Int32) (f : Res) : Res := if f.1 = true ∧ T f.2.1 = nI 41 then (true, f.2.1 + 1, f.2.2) else (false, f.2.1, f.2.2)
def deepr (T : Nat → Int32) (n : Nat) (O : Nat → Res) (a : Nat) : Res := if T a = nI 33 then unar (O (a + 1)) 16 else if T a = nI 45 then unar (O (a + 1)) 17 else if T a = nI 40 then clos T (prE T n O 5 (a + 1)) else (false, a, [])
/-- one operand, with e more openings allowed -/
def prO (T : Nat → Int32) (n : Nat) : Nat → Nat → Res
  | 0 => oper T (fun a => (false, a, []))
  | e + 1 => oper T (deepr T n (prO T n e))
/-- what every reader keeps -/
def good (n : Nat) (f : Nat → Res) : Prop := ∀ a, a ≤ n → a ≤ (f a).2.1 ∧ (f a).2.1 ≤ n ∧ (f a).2.2.length + a ≤ (f a).2.1 ∧ ((f a).1 = true → a < (f a).2.1)
/-- codes told -/
def appF (f : Nat → Int32) (n : Nat) : List Nat → (Nat → Int32)
  | [] => f
  | c :: L => appF (va_up f n (nI c)) (n + 1) L
theorem appF_app : ∀ (L M : List Nat) (f : Nat → Int32) (n : Nat), appF f n (L ++ M) = appF (appF f n L) (n + L.length) M
  | [], M, f, n => rfl
  | c :: L, M, f, n => by
    show appF _ (n + 1) (L ++ M) = appF (appF _ (n + 1) L) (n + (L.length + 1)) M
    rw [appF_app L M, show n + (L.length + 1) = n + 1 + L.length by omega]
def emS (σ : MSt) (b : Nat) (cs : List Nat) : MSt := sN (sN (cpS σ 22 (appF (σ.2.1 22) (σ.1 17) cs)) 17 (σ.1 17 + cs.length)) 15 b
theorem emS_15 (σ : MSt) (b : Nat) (cs : List Nat) : (emS σ b cs).1 15 = b := by
  show va_up (va_up σ.1 17 (σ.1 17 + cs.length)) 15 b 15 = b
  exact va_up_self _ _ _
theorem emS_17 (σ : MSt) (b : Nat) (cs : List Nat) : (emS σ b cs).1 17 = σ.1 17 + cs.length := by
  show va_up (va_up σ.1 17 (σ.1 17 + cs.length)) 15 b 17 = _
  rw [va_up_ne _ _ (by decide), va_up_self]
theorem emS_0 (σ : MSt) : emS σ (σ.1 15) [] = σ := by
  show sN (sN (cpS σ 22 (σ.2.1 22)) 17 (σ.1 17)) 15 (σ.1 15) = σ
  rw [cpS_id, sN_same, sN_same]
theorem up_comm {α : Type} (f : Nat → α) {k k' : Nat} (h : k ≠ k') (x y : α) : va_up (va_up f k x) k' y = va_up (va_up f k' y) k x := by
  funext j
  by_cases h1 : j = k
  · subst h1; rw [va_up_ne _ _ h, va_up_self, va_up_self]
  · by_cases h2 : j = k'
    · subst h2; rw [va_up_self, va_up_ne _ _ h1, va_up_self]
    · rw [va_up_ne _ _ h2, va_up_ne _ _ h1, va_up_ne _ _ h1, va_up_ne _ _ h2]
theorem emS_emS (σ : MSt) (b b' : Nat) (cs cs' : List Nat) : emS (emS σ b cs) b' cs' = emS σ b' (cs ++ cs') := by
  have e : ∀ τ : MSt, τ = emS σ b cs → emS τ b' cs' = emS σ b' (cs ++ cs') := by
    intro τ h
    have h1 : τ.1 = va_up (va_up σ.1 17 (σ.1 17 + cs.length)) 15 b := by rw [h]; rfl
    have h2 : τ.2.1 = va_up σ.2.1 22 (appF (σ.2.1 22) (σ.1 17) cs) := by rw [h]; rfl
    have h3 : τ.2.2 = σ.2.2 := by rw [h]; rfl
    have h4 : τ.1 17 = σ.1 17 + cs.length := by rw [h]; exact emS_17 _ _ _
    show (va_up (va_up τ.1 17 (τ.1 17 + cs'.length)) 15 b', va_up τ.2.1 22 (appF (τ.2.1 22) (τ.1 17) cs'), τ.2.2) = (va_up (va_up σ.1 17 (σ.1 17 + (cs ++ cs').length)) 15 b', va_up σ.2.1 22 (appF (σ.2.1 22) (σ.1 17) (cs ++ cs')), σ.2.2)
    rw [h4, h1, h2, h3, up_up, va_up_self, appF_app, List.length_append, up_comm (va_up σ.1 17 _) (show (15 : Nat) ≠ 17 by decide), up_up, up_up, Nat.add_assoc]
  exact e _ rfl
theorem emS_at (σ : MSt) (b b' : Nat) (cs : List Nat) : sN (emS σ b cs) 15 b' = emS σ b' cs := sN_sN _ _ _ _
theorem emS_c (σ : MSt) (c : Nat) : sA (sN σ 17 (σ.1 17 + 1)) 22 (σ.1 17) (nI c) = emS σ (σ.1 15) [c] := by
  show _ = sN (sN (cpS σ 22 (va_up (σ.2.1 22) (σ.1 17) (nI c))) 17 (σ.1 17 + 1)) 15 (σ.1 15)
  rw [show σ.1 15 = (sN (cpS σ 22 (va_up (σ.2.1 22) (σ.1 17) (nI c))) 17 (σ.1 17 + 1)).1 15 from rfl, sN_same, cpS_sA, cpS_id]
  rfl
noncomputable def isS (σ : MSt) (c : Int32) : MSt := pif (sgnT σ (σ.1 15) = c) (sN σ 15 (σ.1 15 + 1)) σ
theorem sgnT_lt {σ : MSt} {a : Nat} {x : Int32} (h : sgnT σ a = x) (hx : ¬ x = -1) : a < σ.1 7 := by
  unfold sgnT at h
  by_cases q : a < σ.1 7
  · exact q
  · rw [if_neg q] at h; exact absurd h.symm hx
theorem sgnT_dg {σ : MSt} {a : Nat} (h : isDg (sgnT σ a) = true) : a < σ.1 7 := by
  by_cases q : a < σ.1 7
  · exact q
  · unfold sgnT at h; rw [if_neg q] at h; exact absurd h (by decide)
def lim (T : Nat → Int32) (n : Nat) : Prop := ∀ a, n ≤ a → T a = -1
theorem lim_op {T : Nat → Int32} {n a : Nat} (hT : lim T n) {x : Int32} (h : T a = x) (hx : ¬ x = -1) : a < n := by
  rcases Nat.lt_or_ge a n with q | q
  · exact q
  · exact absurd (h.symm.trans (hT a q)) hx
theorem sgnT_lim (σ : MSt) : lim (sgnT σ) (σ.1 7) := fun a h => by unfold sgnT; rw [if_neg (by omega)]
def opOK (op : Int32 → Option Nat) : Prop := op (-1) = none
theorem good_binL {T : Nat → Int32} {n : Nat} {f : Nat → Res} {op : Int32 → Option Nat} (hT : lim T n) (hf : good n f) (ho : opOK op) : ∀ (k b : Nat) (cs : List Nat), b ≤ n → b ≤ (binL T f op k b cs).2.1 ∧ (binL T f op k b cs).2.1 ≤ n ∧ (binL T f op k b cs).2.2.length + b ≤ (binL T f op k b cs).2.1 + cs.length
  | 0, b, cs, hb => ⟨Nat.le_refl _, hb, by show cs.length + b ≤ b + cs.length; omega⟩
  | k + 1, b, cs, hb => by
    unfold binL
    split
    · exact ⟨Nat.le_refl _, hb, by show cs.length + b ≤ b + cs.length; omega⟩
    · next o ho' =>
      have hbn : b < n := by
        rcases Nat.lt_or_ge b n with q | q
        · exact q
        · rw [hT b q, ho] at ho'; exact absurd ho' (by simp)
      obtain ⟨g1, g2, g3, g4⟩ := hf (b + 1) hbn
      split
      · obtain ⟨i1, i2, i3⟩ := good_binL hT hf ho k (f (b + 1)).2.1 (cs ++ ((f (b + 1)).2.2 ++ [o])) g2
        refine ⟨by omega, i2, ?_⟩
        simp only [List.length_append, List.length_cons, List.length_nil] at i3
        omega
      · refine ⟨by show b ≤ (f (b + 1)).2.1; omega, g2, ?_⟩
        show (cs ++ (f (b + 1)).2.2).length + b ≤ (f (b + 1)).2.1 + cs.length
        rw [List.length_append]; omega
theorem good_chain {T : Nat → Int32} {n : Nat} {f : Nat → Res} {op : Int32 → Option Nat} (hT : lim T n) (hf : good n f) (ho : opOK op) : good n (chain T n f op) := by
  intro a ha
  obtain ⟨g1, g2, g3, g4⟩ := hf a ha
  unfold chain
  split
  · next h =>
    obtain ⟨i1, i2, i3⟩ := good_binL hT hf ho (n - (f a).2.1) (f a).2.1 (f a).2.2 g2
    have := g4 h
    exact ⟨by omega, i2, by omega, fun _ => by omega⟩
  · exact ⟨g1, g2, g3, g4⟩
theorem good_once {T : Nat → Int32} {n : Nat} {f : Nat → Res} {op : Int32 → Option Nat} (hT : lim T n) (hf : good n f) (ho : opOK op) : good n (once T f op) := by
  intro a ha
  obtain ⟨g1, g2, g3, g4⟩ := hf a ha
  unfold once
  split
  · next h =>
    split
    · exact ⟨g1, g2, g3, g4⟩
    · next o ho' =>
      have hbn : (f a).2.1 < n := by
        rcases Nat.lt_or_ge (f a).2.1 n with q | q
        · exact q
        · rw [hT _ q, ho] at ho'; exact absurd ho' (by simp)
      obtain ⟨i1, i2, i3, i4⟩ := hf ((f a).2.1 + 1) hbn
      split
      · refine ⟨by show a ≤ (f ((f a).2.1 + 1)).2.1; omega, i2, ?_, fun _ => by show a < (f ((f a).2.1 + 1)).2.1; omega⟩
        show ((f a).2.2 ++ ((f ((f a).2.1 + 1)).2.2 ++ [o])).length + a ≤ (f ((f a).2.1 + 1)).2.1
        simp only [List.length_append, List.length_cons, List.length_nil]; omega
      · refine ⟨by show a ≤ (f ((f a).2.1 + 1)).2.1; omega, i2, ?_, fun _ => by show a < (f ((f a).2.1 + 1)).2.1; omega⟩
        show ((f a).2.2 ++ (f ((f a).2.1 + 1)).2.2).length + a ≤ (f ((f a).2.1 + 1)).2.1
        simp only [List.length_append]; omega
  · exact ⟨g1, g2, g3, g4⟩
theorem ok_P : opOK opP := by unfold opOK; decide
theorem ok_S : opOK opS := by unfold opOK; decide
theorem ok_B : opOK opB := by unfold opOK; decide
theorem ok_A : opOK opA := by unfold opOK; decide
theorem ok_E : opOK opE := by unfold opOK; decide
theorem good_prE {T : Nat → Int32} {n : Nat} {f : Nat → Res} (hT : lim T n) (hf : good n f) : ∀ k, good n (prE T n f k)
  | 0 => hf
  | 1 => (good_chain hT hf ok_P)
  | 2 => (good_chain hT (good_chain hT hf ok_P) ok_S)
  | 3 => (good_once hT (good_chain hT (good_chain hT hf ok_P) ok_S) ok_B)
  | 4 => (good_chain hT (good_once hT (good_chain hT (good_chain hT hf ok_P) ok_S) ok_B) ok_A)
  | k + 5 => (good_chain hT (good_chain hT (good_once hT (good_chain hT (good_chain hT hf ok_P) ok_S) ok_B) ok_A) ok_E)
theorem good_dig {T : Nat → Int32} {n : Nat} (hT : lim T n) : ∀ (k a v : Nat), a ≤ n → a ≤ (pDig T k a v).1 ∧ (pDig T k a v).1 ≤ n
  | 0, a, v, h => ⟨Nat.le_refl _, h⟩
  | k + 1, a, v, h => by
    unfold pDig
    split
    · next q =>
      have han : a < n := by
        rcases Nat.lt_or_ge a n with z | z
        · exact z
        · rw [hT a z] at q; exact absurd q (by decide)
      obtain ⟨i1, i2⟩ := good_dig hT k (a + 1) (10 * v + ((T a).toNatClampNeg - 48)) han
      exact ⟨by omega, i2⟩
    · exact ⟨Nat.le_refl _, h⟩
theorem good_oper {T : Nat → Int32} {n : Nat} {rest : Nat → Res} (hT : lim T n) (hr : ∀ a, a ≤ n → a ≤ (rest a).2.1 ∧ (rest a).2.1 ≤ n ∧ (rest a).2.2.length + a ≤ (rest a).2.1 ∧ ((rest a).1 = true → a < (rest a).2.1)) : good n (oper T rest) := by
  intro a ha
  unfold oper
  split
  · next q =>
    have han : a < n := by
      rcases Nat.lt_or_ge a n with z | z
      · exact z
      · rw [hT a z] at q; exact absurd q (by decide)
    obtain ⟨i1, i2⟩ := good_dig hT 3 (a + 1) (10 * 0 + ((T a).toNatClampNeg - 48)) han
    have e : pDig T 4 a 0 = pDig T 3 (a + 1) (10 * 0 + ((T a).toNatClampNeg - 48)) := by
      show (if isDg (T a) = true then _ else _) = _
      rw [if_pos q]
    rw [e]
    exact ⟨by show a ≤ (pDig T 3 _ _).1; omega, i2, by show 1 + a ≤ (pDig T 3 _ _).1; omega, fun _ => by show a < (pDig T 3 _ _).1; omega⟩
  · split
    · next k hk =>
      have han : a < n := by
        rcases Nat.lt_or_ge a n with z | z
        · exact z
        · rw [hT a z, show nameK (-1) = none by decide] at hk; exact absurd hk (by simp)
      exact ⟨Nat.le_succ _, han, by show 1 + a ≤ a + 1; omega, fun _ => Nat.lt_succ_self _⟩
    · exact hr a ha
theorem good_unar {n a : Nat} {r : Res} {o : Nat} (h1 : a + 1 ≤ r.2.1) (h2 : r.2.1 ≤ n) (h3 : r.2.2.length + (a + 1) ≤ r.2.1) : a ≤ (unar r o).2.1 ∧ (unar r o).2.1 ≤ n ∧ (unar r o).2.2.length + a ≤ (unar r o).2.1 ∧ ((unar r o).1 = true → a < (unar r o).2.1) := by
  unfold unar
  split
  · refine ⟨by show a ≤ r.2.1; omega, h2, ?_, fun _ => by show a < r.2.1; omega⟩
    show (r.2.2 ++ [o]).length + a ≤ r.2.1
    rw [List.length_append]; simp only [List.length_cons, List.length_nil]; omega
  · exact ⟨by omega, h2, by omega, fun _ => by omega⟩
theorem good_clos {T : Nat → Int32} {n a : Nat} (hT : lim T n) {r : Res} (h1 : a + 1 ≤ r.2.1) (h2 : r.2.1 ≤ n) (h3 : r.2.2.length + (a + 1) ≤ r.2.1) : a ≤ (clos T r).2.1 ∧ (clos T r).2.1 ≤ n ∧ (clos T r).2.2.length + a ≤ (clos T r).2.1 ∧ ((clos T r).1 = true → a < (clos T r).2.1) := by
  unfold clos
  split
  · next q =>
    have : r.2.1 < n := lim_op hT q.2 (by decide)
    exact ⟨by show a ≤ r.2.1 + 1; omega, this, by show r.2.2.length + a ≤ r.2.1 + 1; omega, fun _ => by show a < r.2.1 + 1; omega⟩
  · exact ⟨by show a ≤ r.2.1; omega, h2, by show r.2.2.length + a ≤ r.2.1; omega, fun _ => by show a < r.2.1; omega⟩
theorem good_deepr {T : Nat → Int32} {n : Nat} {O : Nat → Res} (hT : lim T n) (hO : good n O) : good n (deepr T n O) := by
  intro a ha
  unfold deepr
  split
  · next q =>
    obtain ⟨g1, g2, g3, g4⟩ := hO (a + 1) (lim_op hT q (by decide))
    exact good_unar g1 g2 g3
  · split
    · next q =>
      obtain ⟨g1, g2, g3, g4⟩ := hO (a + 1) (lim_op hT q (by decide))
      exact good_unar g1 g2 g3
    · split
      · next q =>
        obtain ⟨g1, g2, g3, g4⟩ := good_prE hT hO 5 (a + 1) (lim_op hT q (by decide))
        exact good_clos hT g1 g2 g3
      · exact ⟨Nat.le_refl _, ha, by show 0 + a ≤ a; omega, fun z => Bool.noConfusion z⟩
theorem good_prO {T : Nat → Int32} {n : Nat} (hT : lim T n) : ∀ e, good n (prO T n e)
  | 0 => good_oper hT (fun a ha => ⟨Nat.le_refl _, ha, by show 0 + a ≤ a; omega, fun z => Bool.noConfusion z⟩)
  | e + 1 => good_oper hT (good_deepr hT (good_prO hT e))
theorem binL_fuel {T : Nat → Int32} {n : Nat} {f : Nat → Res} {op : Int32 → Option Nat} (hT : lim T n) (hf : good n f) (ho : opOK op) : ∀ (k k' b : Nat) (cs : List Nat), b ≤ n → n - b ≤ k → n - b ≤ k' → binL T f op k b cs = binL T f op k' b cs
  | 0, 0, b, cs, _, _, _ => rfl
  | 0, k' + 1, b, cs, hb, h1, h2 => by
    show (true, b, cs) = _
    unfold binL
    rw [hT b (by omega), ho]
  | k + 1, 0, b, cs, hb, h1, h2 => by
    show _ = (true, b, cs)
    unfold binL
    rw [hT b (by omega), ho]
  | k + 1, k' + 1, b, cs, hb, h1, h2 => by
    unfold binL
    cases hop : op (T b) with
    | none => rfl
    | some o =>
      have hbn : b < n := by
        rcases Nat.lt_or_ge b n with q | q
        · exact q
        · rw [hT b q, ho] at hop; exact absurd hop (by simp)
      obtain ⟨g1, g2, g3, g4⟩ := hf (b + 1) hbn
      by_cases q : (f (b + 1)).1 = true
      · have := g4 q
        simp only [if_pos q]
        exact binL_fuel hT hf ho k k' _ _ g2 (by omega) (by omega)
      · simp only [if_neg q]
theorem binL_step {T : Nat → Int32} {n : Nat} {f : Nat → Res} {op : Int32 → Option Nat} (hT : lim T n) (hf : good n f) (ho : opOK op) {b o : Nat} {cs : List Nat} (hop : op (T b) = some o) (q : (f (b + 1)).1 = true) : binL T f op (n - b) b cs = binL T f op (n - (f (b + 1)).2.1) (f (b + 1)).2.1 (cs ++ (f (b + 1)).2.2 ++ [o]) := by
  have hbn : b < n := by
    rcases Nat.lt_or_ge b n with q | q
    · exact q
    · rw [hT b q, ho] at hop; exact absurd hop (by simp)
  obtain ⟨g1, g2, g3, g4⟩ := hf (b + 1) hbn
  have := g4 q
  rw [show n - b = (n - b - 1) + 1 by omega]
  show (match op (T b) with | none => _ | some o => _) = _
  rw [hop]
  simp only [if_pos q]
  rw [List.append_assoc]
  exact binL_fuel hT hf ho _ _ _ _ g2 (by omega) (Nat.le_refl _)
theorem binL_stop {T : Nat → Int32} {f : Nat → Res} {op : Int32 → Option Nat} {b : Nat} {cs : List Nat} (hop : op (T b) = none) : ∀ k, binL T f op k b cs = (true, b, cs)
  | 0 => rfl
  | k + 1 => by
    show (match op (T b) with | none => _ | some o => _) = _
    rw [hop]
theorem binL_bad {T : Nat → Int32} {n : Nat} {f : Nat → Res} {op : Int32 → Option Nat} (hT : lim T n) (ho : opOK op) {b o : Nat} {cs : List Nat} (hop : op (T b) = some o) (q : ¬ (f (b + 1)).1 = true) : binL T f op (n - b) b cs = (false, (f (b + 1)).2.1, cs ++ (f (b + 1)).2.2) := by
  have hbn : b < n := by
    rcases Nat.lt_or_ge b n with q | q
    · exact q
    · rw [hT b q, ho] at hop; exact absurd hop (by simp)
  rw [show n - b = (n - b - 1) + 1 by omega]
  show (match op (T b) with | none => _ | some o => _) = _
  rw [hop]
  simp only [if_neg q]
theorem isS_t {σ : MSt} {b : Nat} {cs : List Nat} {c : Int32} (h : sgnT σ b = c) : isS (emS σ b cs) c = emS σ (b + 1) cs := by
  have e : sgnT (emS σ b cs) ((emS σ b cs).1 15) = sgnT σ b := by rw [emS_15]; rfl
  unfold isS
  rw [pif_t (e.trans h), emS_15]
  exact emS_at _ _ _ _
theorem isS_f {σ : MSt} {b : Nat} {cs : List Nat} {c : Int32} (h : ¬ sgnT σ b = c) : isS (emS σ b cs) c = emS σ b cs := by
  have e : sgnT (emS σ b cs) ((emS σ b cs).1 15) = sgnT σ b := by rw [emS_15]; rfl
  unfold isS
  rw [pif_f (fun z => h (e.symm.trans z))]
theorem nameV_lt {x : Int32} : nameV x < 0 ↔ nameK x = none := by
  unfold nameV
  cases h : nameK x with
  | none => exact ⟨fun _ => rfl, fun _ => by decide⟩
  | some k =>
    have hk : k < 2 ^ 31 := by
      unfold nameK at h
      repeat' split at h
      all_goals first | (have := Option.some.inj h; omega) | exact absurd h (by simp)
    exact ⟨fun z => absurd z (nI_pos hk), fun z => absurd z (by simp)⟩
theorem emS_7 (σ : MSt) (b : Nat) (cs : List Nat) : (emS σ b cs).1 7 = σ.1 7 := rfl
theorem emS_16 (σ : MSt) (b : Nat) (cs : List Nat) (v : Nat) : sN (emS σ b cs) 16 v = emS (sN σ 16 v) b cs := by
  show (va_up (va_up (va_up σ.1 17 (σ.1 17 + cs.length)) 15 b) 16 v, va_up σ.2.1 22 (appF (σ.2.1 22) (σ.1 17) cs), σ.2.2) = (va_up (va_up (va_up σ.1 16 v) 17 (va_up σ.1 16 v 17 + cs.length)) 15 b, va_up σ.2.1 22 (appF (σ.2.1 22) (va_up σ.1 16 v 17) cs), σ.2.2)
  rw [va_up_ne _ _ (show (17 : Nat) ≠ 16 by decide), up_comm (va_up σ.1 17 _) (show (15 : Nat) ≠ 16 by decide), up_comm σ.1 (show (17 : Nat) ≠ 16 by decide)]
theorem once_none {T : Nat → Int32} {f : Nat → Res} {op : Int32 → Option Nat} {a : Nat} (h : (f a).1 = true) (ho : op (T (f a).2.1) = none) : once T f op a = f a := by
  unfold once; rw [if_pos h, ho]
theorem once_ok {T : Nat → Int32} {f : Nat → Res} {op : Int32 → Option Nat} {a o : Nat} (h : (f a).1 = true) (ho : op (T (f a).2.1) = some o) (g : (f ((f a).2.1 + 1)).1 = true) : once T f op a = (true, (f ((f a).2.1 + 1)).2.1, (f a).2.2 ++ ((f ((f a).2.1 + 1)).2.2 ++ [o])) := by
  unfold once; rw [if_pos h, ho]; exact if_pos g
theorem once_bad {T : Nat → Int32} {f : Nat → Res} {op : Int32 → Option Nat} {a o : Nat} (h : (f a).1 = true) (ho : op (T (f a).2.1) = some o) (g : ¬ (f ((f a).2.1 + 1)).1 = true) : once T f op a = (false, (f ((f a).2.1 + 1)).2.1, (f a).2.2 ++ (f ((f a).2.1 + 1)).2.2) := by
  unfold once; rw [if_pos h, ho]; exact if_neg g
section Deep
variable {T : Nat → Int32} {n e a : Nat}
theorem pr_dig (h : isDg (T a) = true) : prO T n e a = (true, (pDig T 4 a 0).1, [18 + (pDig T 4 a 0).2]) := by cases e <;> exact if_pos h
theorem pr_nam {k : Nat} (h : ¬ isDg (T a) = true) (hk : nameK (T a) = some k) : prO T n e a = (true, a + 1, [k]) := by
  cases e <;> (show oper T _ a = _; unfold oper; rw [if_neg h, hk])
theorem pr_no (h : ¬ isDg (T a) = true) (hk : nameK (T a) = none) : prO T n 0 a = (false, a, []) := by
  show oper T _ a = _; unfold oper; rw [if_neg h, hk]
theorem pr_deep (h : ¬ isDg (T a) = true) (hk : nameK (T a) = none) : prO T n (e + 1) a = deepr T n (prO T n e) a := by
  show oper T _ a = _; unfold oper; rw [if_neg h, hk]
theorem dp1_t (h : ¬ isDg (T a) = true) (hk : nameK (T a) = none) (g : T a = nI 33) (q : (prO T n e (a + 1)).1 = true) : prO T n (e + 1) a = (true, (prO T n e (a + 1)).2.1, (prO T n e (a + 1)).2.2 ++ [16]) := by
  rw [pr_deep h hk]; unfold deepr; rw [if_pos g]; exact if_pos q
theorem dp1_f (h : ¬ isDg (T a) = true) (hk : nameK (T a) = none) (g : T a = nI 33) (q : ¬ (prO T n e (a + 1)).1 = true) : prO T n (e + 1) a = prO T n e (a + 1) := by
  rw [pr_deep h hk]; unfold deepr; rw [if_pos g]; exact if_neg q
theorem dp2_t (h : ¬ isDg (T a) = true) (hk : nameK (T a) = none) (g1 : ¬ T a = nI 33) (g : T a = nI 45) (q : (prO T n e (a + 1)).1 = true) : prO T n (e + 1) a = (true, (prO T n e (a + 1)).2.1, (prO T n e (a + 1)).2.2 ++ [17]) := by
  rw [pr_deep h hk]; unfold deepr; rw [if_neg g1, if_pos g]; exact if_pos q
theorem dp2_f (h : ¬ isDg (T a) = true) (hk : nameK (T a) = none) (g1 : ¬ T a = nI 33) (g : T a = nI 45) (q : ¬ (prO T n e (a + 1)).1 = true) : prO T n (e + 1) a = prO T n e (a + 1) := by
  rw [pr_deep h hk]; unfold deepr; rw [if_neg g1, if_pos g]; exact if_neg q
theorem dp3_t (h : ¬ isDg (T a) = true) (hk : nameK (T a) = none) (g1 : ¬ T a = nI 33) (g2 : ¬ T a = nI 45) (g : T a = nI 40) (q : (prE T n (prO T n e) 5 (a + 1)).1 = true) (z : T (prE T n (prO T n e) 5 (a + 1)).2.1 = nI 41) : prO T n (e + 1) a = (true, (prE T n (prO T n e) 5 (a + 1)).2.1 + 1, (prE T n (prO T n e) 5 (a + 1)).2.2) := by
  rw [pr_deep h hk]; unfold deepr; rw [if_neg g1, if_neg g2, if_pos g]; exact if_pos ⟨q, z⟩
theorem dp3_f (h : ¬ isDg (T a) = true) (hk : nameK (T a) = none) (g1 : ¬ T a = nI 33) (g2 : ¬ T a = nI 45) (g : T a = nI 40) (q : ¬ ((prE T n (prO T n e) 5 (a + 1)).1 = true ∧ T (prE T n (prO T n e) 5 (a + 1)).2.1 = nI 41)) : prO T n (e + 1) a = (false, (prE T n (prO T n e) 5 (a + 1)).2.1, (prE T n (prO T n e) 5 (a + 1)).2.2) := by
  rw [pr_deep h hk]; unfold deepr; rw [if_neg g1, if_neg g2, if_pos g]; exact if_neg q
theorem dp_0 (h : ¬ isDg (T a) = true) (hk : nameK (T a) = none) (g1 : ¬ T a = nI 33) (g2 : ¬ T a = nI 45) (g : ¬ T a = nI 40) : prO T n (e + 1) a = (false, a, []) := by
  rw [pr_deep h hk]; unfold deepr; rw [if_neg g1, if_neg g2, if_neg g]
theorem pDig_t {k v : Nat} (h : isDg (T a) = true) : pDig T (k + 1) a v = pDig T k (a + 1) (10 * v + ((T a).toNatClampNeg - 48)) := if_pos h
theorem pDig_f {v : Nat} (h : ¬ isDg (T a) = true) : ∀ k, pDig T k a v = (a, v)
  | 0 => rfl
  | k + 1 => if_neg h
end Deep
theorem dg_val {x : Int32} (h : isDg x = true) : ∃ d, d ≤ 9 ∧ x = nI (48 + d) := by
  obtain ⟨h1, h2⟩ := isDg_iff.mp h
  obtain ⟨j, j1, j2, rfl⟩ := (btw_iff (x := x) (a := 48) (b := 57) (by decide) (by decide)).mp ⟨h1, h2⟩
  exact ⟨j - 48, by omega, by rw [show 48 + (j - 48) = j by omega]⟩
theorem nameV_some {x : Int32} (h : ¬ nameV x < 0) : ∃ k, nameK x = some k ∧ nameV x = nI k := by
  cases hk : nameK x with
  | none => exact absurd (nameV_lt.mpr hk) h
  | some k => exact ⟨k, rfl, by unfold nameV; rw [hk]⟩
