/-! SPEC 15: lines read one by one; the law told -/
set_option maxRecDepth 100000
theorem appF_lt : ∀ (cs : List Nat) (f : Nat → Int32) (n j : Nat), j < n → appF f n cs j = f j
  | [], f, n, j, h => rfl
  | c :: t, f, n, j, h => by
    show appF (va_up f n (nI c)) (n + 1) t j = f j
    rw [appF_lt t _ _ _ (by omega), va_up_ne _ _ (by omega)]
theorem sg_congr {f g : Nat → Int32} : ∀ (l : List Nat) (a : Nat), (∀ j, a ≤ j → j < a + l.length → f j = g j) → sg f a l → sg g a l
  | [], a, h, s => trivial
  | c :: t, a, h, s => by
    refine ⟨(h a (Nat.le_refl _) (by simp only [List.length_cons]; omega)).symm.trans s.1, sg_congr t (a + 1) (fun j h1 h2 => h j (by omega) (by simp only [List.length_cons]; omega)) s.2⟩
theorem sg_app : ∀ (cs : List Nat) (f : Nat → Int32) (n : Nat), sg (appF f n cs) n cs
  | [], f, n => trivial
  | c :: t, f, n => by
    refine ⟨?_, sg_app t _ _⟩
    show appF (va_up f n (nI c)) (n + 1) t n = nI c
    rw [appF_lt t _ _ _ (Nat.lt_succ_self _), va_up_self]
theorem sg_split : ∀ (q g : List Nat) (f : Nat → Int32) (a : Nat), sg f a (q ++ g) → sg f a q ∧ sg f (a + q.length) g
  | [], g, f, a, h => ⟨trivial, h⟩
  | c :: t, g, f, a, h => by
    obtain ⟨i1, i2⟩ := sg_split t g f (a + 1) h.2
    refine ⟨⟨h.1, i1⟩, ?_⟩
    rw [show a + (c :: t).length = a + 1 + t.length by simp only [List.length_cons]; omega]
    exact i2
def nlM (τ : MSt) (i : Nat) (q : List Nat × List Nat) : Prop := ∃ a : Nat, τ.2.1 19 i = nI a ∧ τ.2.1 20 i = nI (a + q.1.length) ∧ τ.2.1 21 i = nI (a + q.1.length + q.2.length) ∧ a + q.1.length + q.2.length ≤ τ.1 17 ∧ sg (τ.2.1 22) a q.1 ∧ sg (τ.2.1 22) (a + q.1.length) q.2 ∧ (q.1 = [] ∨ zwf 0 q.1 1) ∧ zwf 0 q.2 1
def lnsR (σ : MSt) (ls : List (List Nat × List Nat)) (b : Nat) (τ : MSt) : Prop := gar σ τ ∧ τ.1 15 = b ∧ τ.1 16 = 0 ∧ τ.1 17 ≤ b ∧ τ.1 18 = ls.length ∧ 2 * ls.length ≤ b + 1 ∧ ∀ (i : Nat) (q : List Nat × List Nat), ls[i]? = some q → nlM τ i q
theorem gar_sgn {σ τ : MSt} (h : gar σ τ) : sgnT τ = sgnT σ := by
  funext a
  unfold sgnT
  rw [h.1 7 (by decide), h.2.1 8 (by decide)]
theorem gar_7 {σ τ : MSt} (h : gar σ τ) : τ.1 7 = σ.1 7 := h.1 7 (by decide)
theorem gar_eAll {σ τ : MSt} (h : gar σ τ) : eAll τ = eAll σ := by
  unfold eAll; rw [gar_sgn h, gar_7 h]
theorem pl_lt {σ : MSt} {a : Nat} (ha : a ≤ σ.1 7) (h : (pLine (sgnT σ) (eAll σ) a).1 = true) : a < (pLine (sgnT σ) (eAll σ) a).2.1 := by
  have hL := sgnT_lim σ
  have hG : good (σ.1 7) (eAll σ) := good_prE hL (good_prO hL 6) 5
  obtain ⟨g1, g2, g3, g4⟩ := hG a ha
  by_cases q : (eAll σ a).1 = true
  · by_cases g : sgnT σ (eAll σ a).2.1 = nI 63
    · rw [pl_two q g]
      obtain ⟨i1, i2, i3, i4⟩ := hG ((eAll σ a).2.1 + 1) (sgnT_lt g (by decide))
      show a < (eAll σ ((eAll σ a).2.1 + 1)).2.1
      omega
    · rw [pl_one q g]; exact g4 q
  · rw [pl_bad q] at h; exact absurd h (by simp)
theorem lnX_15 (σ : MSt) (q g : List Nat) : (lnX σ q g).1 16 = σ.1 16 ∧ (lnX σ q g).1 17 = σ.1 17 ∧ (lnX σ q g).1 18 = σ.1 18 + 1 := by
  have e : (lnX σ q g).1 = va_up σ.1 18 (σ.1 18 + 1) := rfl
  rw [e]
  exact ⟨va_up_ne _ _ (by decide), va_up_ne _ _ (by decide), va_up_self _ _ _⟩
theorem lnX_gar (σ : MSt) (q g : List Nat) : gar σ (lnX σ q g) := gar_sA (gar_sN (gar_sA (gar_sA (gar_refl σ) (by decide) _ _) (by decide) _ _) (by decide) _) (by decide) _ _
theorem lnX_arr (σ : MSt) (q g : List Nat) (k i : Nat) : (lnX σ q g).2.1 k i = if k = 21 ∧ i = σ.1 18 then nI (σ.1 17 + (q ++ g).length) else if k = 20 ∧ i = σ.1 18 then nI (σ.1 17 + q.length) else if k = 19 ∧ i = σ.1 18 then nI (σ.1 17) else σ.2.1 k i := by
  unfold lnX
  rw [sA_2]
  show (if k = 21 ∧ i = σ.1 18 then _ else (sA (sA σ 19 (σ.1 18) (nI (σ.1 17))) 20 (σ.1 18) (nI (σ.1 17 + q.length))).2.1 k i) = _
  rw [sA_2, sA_2]
/-- one more line -/
theorem lnsR_step {σ τ : MSt} {ls : List (List Nat × List Nat)} {b : Nat} {q g : List Nat} {b' : Nat} (h : lnsR σ ls b τ) (hb : b ≤ b') (h2 : 2 * ls.length + 2 ≤ b' + 1) (hcl : τ.1 17 + (q ++ g).length ≤ b') (hw : (q = [] ∨ zwf 0 q 1) ∧ zwf 0 g 1) : lnsR σ (ls ++ [(q, g)]) b' (emS (lnX τ q g) b' (q ++ g)) := by
  obtain ⟨k1, k2, k3, k4, k5, k6, k7⟩ := h
  have e22 : (emS (lnX τ q g) b' (q ++ g)).2.1 22 = appF (τ.2.1 22) (τ.1 17) (q ++ g) := by
    show va_up (lnX τ q g).2.1 22 (appF ((lnX τ q g).2.1 22) ((lnX τ q g).1 17) (q ++ g)) 22 = _
    rw [va_up_self, (lnX_15 τ q g).2.1]
    rw [show (lnX τ q g).2.1 22 = τ.2.1 22 by funext i; rw [lnX_arr, if_neg (by omega), if_neg (by omega), if_neg (by omega)]]
  have e17 : (emS (lnX τ q g) b' (q ++ g)).1 17 = τ.1 17 + (q ++ g).length := by rw [emS_17, (lnX_15 τ q g).2.1]
  have ek : ∀ k, k ≠ 22 → ∀ i, (emS (lnX τ q g) b' (q ++ g)).2.1 k i = (lnX τ q g).2.1 k i := fun k hk i => congrFun (va_up_ne (lnX τ q g).2.1 _ hk) i
  refine ⟨gar_trans k1 (gar_emS (lnX_gar τ q g) _ _), emS_15 _ _ _, ?_, ?_, ?_, ?_, ?_⟩
  · show va_up (va_up (lnX τ q g).1 17 ((lnX τ q g).1 17 + (q ++ g).length)) 15 b' 16 = 0
    rw [va_up_ne _ _ (by decide), va_up_ne _ _ (by decide), (lnX_15 τ q g).1]; exact k3
  · rw [e17]; exact hcl
  · show va_up (va_up (lnX τ q g).1 17 ((lnX τ q g).1 17 + (q ++ g).length)) 15 b' 18 = _
    rw [va_up_ne _ _ (by decide), va_up_ne _ _ (by decide), (lnX_15 τ q g).2.2, k5, List.length_append]; rfl
  · rw [List.length_append]; simp only [List.length_cons, List.length_nil]; omega
  · intro i z hz
    rcases Nat.lt_or_ge i ls.length with hi | hi
    · rw [List.getElem?_append_left hi] at hz
      obtain ⟨a, a1, a2, a3, a4, a5, a6, a7⟩ := k7 i z hz
      have hne : i ≠ τ.1 18 := by omega
      refine ⟨a, ?_, ?_, ?_, by rw [e17]; omega, ?_, ?_, a7⟩
      · rw [ek _ (by decide), lnX_arr, if_neg (by omega), if_neg (by omega), if_neg (by omega)]; exact a1
      · rw [ek _ (by decide), lnX_arr, if_neg (by omega), if_neg (by omega), if_neg (by omega)]; exact a2
      · rw [ek _ (by decide), lnX_arr, if_neg (by omega), if_neg (by omega), if_neg (by omega)]; exact a3
      · rw [e22]; exact sg_congr _ _ (fun j _ hj => (appF_lt _ _ _ _ (by omega)).symm) a5
      · rw [e22]; exact sg_congr _ _ (fun j _ hj => (appF_lt _ _ _ _ (by omega)).symm) a6
    · have hz2 : i = ls.length ∧ z = (q, g) := by
        rw [List.getElem?_append_right hi] at hz
        have : i - ls.length = 0 := by
          rcases Nat.eq_zero_or_pos (i - ls.length) with w | w
          · exact w
          · rw [List.getElem?_eq_none (by simp only [List.length_cons, List.length_nil]; omega)] at hz; exact absurd hz (by simp)
        rw [this] at hz
        exact ⟨by omega, (Option.some.inj hz).symm⟩
      obtain ⟨hi2, rfl⟩ := hz2
      have hi3 : i = τ.1 18 := by omega
      have hsg := sg_split q g _ _ (sg_app (q ++ g) (τ.2.1 22) (τ.1 17))
      refine ⟨τ.1 17, ?_, ?_, ?_, ?_, ?_, ?_, hw⟩
      · rw [ek _ (by decide), lnX_arr, if_neg (by omega), if_neg (by omega), if_pos ⟨rfl, hi3⟩]
      · rw [ek _ (by decide), lnX_arr, if_neg (by omega), if_pos ⟨rfl, hi3⟩]
      · rw [ek _ (by decide), lnX_arr, if_pos ⟨rfl, hi3⟩, List.length_append, Nat.add_assoc]
      · rw [e17, List.length_append]; show τ.1 17 + q.length + g.length ≤ _; omega
      · rw [e22]; exact hsg.1
      · rw [e22]; exact hsg.2
def pLs (T : Nat → Int32) (E : Nat → Res) : Nat → Nat → List (List Nat × List Nat) → Bool × Nat × List (List Nat × List Nat)
  | 0, a, ls => (false, a, ls)
  | k + 1, a, ls => if (pLine T E a).1 = true then (if T (pLine T E a).2.1 = nI 59 then pLs T E k ((pLine T E a).2.1 + 1) (ls ++ [((pLine T E a).2.2.1, (pLine T E a).2.2.2)]) else (true, (pLine T E a).2.1, ls ++ [((pLine T E a).2.2.1, (pLine T E a).2.2.2)])) else (false, (pLine T E a).2.1, ls)
def lawRes (σ : MSt) : Bool × Nat × List (List Nat × List Nat) := pLs (sgnT σ) (eAll σ) (σ.1 7 + 1) 0 []
def lawSo (σ : MSt) : Prop := (lawRes σ).1 = true ∧ (lawRes σ).2.1 = σ.1 7
noncomputable def rLaw (σ : MSt) : Int32 := pif (lawSo σ) 1 (-100 - nI (lawRes σ).2.1)
