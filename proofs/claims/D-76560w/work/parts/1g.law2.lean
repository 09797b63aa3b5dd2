/-! SPEC 14: the codes told are well formed; lines told; the law -/
set_option maxRecDepth 100000
theorem zwf_add (k : Nat) : ∀ (cs : List Nat) (d e : Nat), zwf d cs e → zwf (d + k) cs (e + k)
  | [], d, e, h => by
    have h : d = e := h
    show d + k = e + k
    rw [h]
  | c :: t, d, e, h => by
    refine ⟨h.1, ?_⟩
    have h2 := h.2
    by_cases q : 18 ≤ c ∨ c ≤ 5
    · rw [if_pos q] at h2 ⊢
      rw [show d + k + 1 = d + 1 + k by omega]
      exact zwf_add k t _ _ h2
    · rw [if_neg q] at h2 ⊢
      by_cases q2 : c = 16 ∨ c = 17
      · rw [if_pos q2] at h2 ⊢
        exact ⟨by omega, zwf_add k t _ _ h2.2⟩
      · rw [if_neg q2] at h2 ⊢
        refine ⟨by omega, ?_⟩
        rw [show d + k - 1 = d - 1 + k by omega]
        exact zwf_add k t _ _ h2.2
theorem zwf_bin {cs cs' : List Nat} {o : Nat} (ho : 6 ≤ o ∧ o ≤ 15) (h : zwf 0 cs 1) (g : zwf 0 cs' 1) : zwf 0 (cs ++ (cs' ++ [o])) 1 := by
  refine zwf_app _ _ _ _ _ h (zwf_app _ _ _ _ _ (zwf_add 1 _ _ _ g) ?_)
  refine ⟨by omega, ?_⟩
  rw [if_neg (by omega), if_neg (by omega)]
  exact ⟨Nat.le_refl _, rfl⟩
theorem zwf_un {cs : List Nat} {o : Nat} (ho : o = 16 ∨ o = 17) (h : zwf 0 cs 1) : zwf 0 (cs ++ [o]) 1 := by
  refine zwf_app _ _ _ _ _ h ?_
  refine ⟨by omega, ?_⟩
  rw [if_neg (by omega), if_pos ho]
  exact ⟨Nat.le_refl _, rfl⟩
theorem zwf_one {c : Nat} (h : c < 20000) (g : 18 ≤ c ∨ c ≤ 5) : zwf 0 [c] 1 := by
  refine ⟨h, ?_⟩
  rw [if_pos g]; rfl
def wfR (f : Nat → Res) : Prop := ∀ a, (f a).1 = true → zwf 0 (f a).2.2 1
def opR (op : Int32 → Option Nat) : Prop := ∀ x o, op x = some o → 6 ≤ o ∧ o ≤ 15
theorem wf_binL {T : Nat → Int32} {f : Nat → Res} {op : Int32 → Option Nat} (hf : wfR f) (ho : opR op) : ∀ (k b : Nat) (cs : List Nat), zwf 0 cs 1 → (binL T f op k b cs).1 = true → zwf 0 (binL T f op k b cs).2.2 1
  | 0, b, cs, h, _ => h
  | k + 1, b, cs, h, g => by
    unfold binL at g ⊢
    cases hop : op (T b) with
    | none => exact h
    | some o =>
      rw [hop] at g
      by_cases q : (f (b + 1)).1 = true
      · simp only [if_pos q] at g ⊢
        exact wf_binL hf ho k _ _ (zwf_bin (ho _ _ hop) h (hf _ q)) g
      · simp only [if_neg q] at g
        exact absurd g (by simp)
theorem wf_chain {T : Nat → Int32} {n : Nat} {f : Nat → Res} {op : Int32 → Option Nat} (hf : wfR f) (ho : opR op) : wfR (chain T n f op) := by
  intro a h
  unfold chain at h ⊢
  by_cases q : (f a).1 = true
  · rw [if_pos q] at h ⊢; exact wf_binL hf ho _ _ _ (hf a q) h
  · rw [if_neg q] at h; exact absurd h q
theorem wf_once {T : Nat → Int32} {f : Nat → Res} {op : Int32 → Option Nat} (hf : wfR f) (ho : opR op) : wfR (once T f op) := by
  intro a h
  by_cases q : (f a).1 = true
  · cases hop : op (T (f a).2.1) with
    | none => rw [once_none q hop]; exact hf a q
    | some o =>
      by_cases g : (f ((f a).2.1 + 1)).1 = true
      · rw [once_ok q hop g]; exact zwf_bin (ho _ _ hop) (hf a q) (hf _ g)
      · rw [once_bad q hop g] at h; exact absurd h (by simp)
  · unfold once at h; rw [if_neg q] at h; exact absurd h q
theorem opR_P : opR opP := fun x o h => by
  unfold opP at h
  repeat' split at h
  all_goals first | (have := Option.some.inj h; omega) | exact absurd h (by simp)
theorem opR_S : opR opS := fun x o h => by
  unfold opS at h
  repeat' split at h
  all_goals first | (have := Option.some.inj h; omega) | exact absurd h (by simp)
theorem opR_B : opR opB := fun x o h => by
  unfold opB at h
  repeat' split at h
  all_goals first | (have := Option.some.inj h; omega) | exact absurd h (by simp)
theorem opR_A : opR opA := fun x o h => by
  unfold opA at h
  repeat' split at h
  all_goals first | (have := Option.some.inj h; omega) | exact absurd h (by simp)
theorem opR_E : opR opE := fun x o h => by
  unfold opE at h
  repeat' split at h
  all_goals first | (have := Option.some.inj h; omega) | exact absurd h (by simp)
theorem wf_prE {T : Nat → Int32} {n : Nat} {f : Nat → Res} (hf : wfR f) : wfR (prE T n f 5) := wf_chain (wf_chain (wf_once (wf_chain (wf_chain hf opR_P) opR_S) opR_B) opR_A) opR_E
theorem pDig_lt {T : Nat → Int32} : ∀ (k a v m : Nat), v < 10 ^ m → (pDig T k a v).2 < 10 ^ (m + k)
  | 0, a, v, m, h => h
  | k + 1, a, v, m, h => by
    unfold pDig
    split
    · next q =>
      obtain ⟨d, hd, e⟩ := dg_val q
      rw [e, nI_clamp (by omega), Nat.add_sub_cancel_left, show m + (k + 1) = m + 1 + k by omega]
      refine pDig_lt k (a + 1) (10 * v + d) (m + 1) ?_
      rw [Nat.pow_succ]; omega
    · exact Nat.lt_of_lt_of_le h (Nat.pow_le_pow_right (by decide) (by omega))
theorem nameK_le {x : Int32} {k : Nat} (h : nameK x = some k) : k ≤ 5 := by
  unfold nameK at h
  repeat' split at h
  all_goals first | (have := Option.some.inj h; omega) | exact absurd h (by simp)
theorem wf_oper {T : Nat → Int32} {rest : Nat → Res} (hr : wfR rest) : wfR (oper T rest) := by
  intro a h
  unfold oper at h ⊢
  by_cases q : isDg (T a) = true
  · rw [if_pos q]
    have := pDig_lt (T := T) 4 a 0 0 (by decide)
    exact zwf_one (by show 18 + (pDig T 4 a 0).2 < 20000; omega) (Or.inl (by omega))
  · rw [if_neg q] at h ⊢
    cases hk : nameK (T a) with
    | some k => exact zwf_one (by have := nameK_le hk; omega) (Or.inr (nameK_le hk))
    | none => rw [hk] at h; exact hr a h
theorem wf_unar {r : Res} {o : Nat} (ho : o = 16 ∨ o = 17) (hr : r.1 = true → zwf 0 r.2.2 1) : (unar r o).1 = true → zwf 0 (unar r o).2.2 1 := by
  intro h
  unfold unar at h ⊢
  by_cases q : r.1 = true
  · rw [if_pos q]; exact zwf_un ho (hr q)
  · rw [if_neg q] at h; exact absurd h q
theorem wf_deepr {T : Nat → Int32} {n : Nat} {O : Nat → Res} (hO : wfR O) : wfR (deepr T n O) := by
  intro a h
  unfold deepr at h ⊢
  by_cases q1 : T a = nI 33
  · rw [if_pos q1] at h ⊢; exact wf_unar (Or.inl rfl) (hO _) h
  · rw [if_neg q1] at h ⊢
    by_cases q2 : T a = nI 45
    · rw [if_pos q2] at h ⊢; exact wf_unar (Or.inr rfl) (hO _) h
    · rw [if_neg q2] at h ⊢
      by_cases q3 : T a = nI 40
      · rw [if_pos q3] at h ⊢
        unfold clos at h ⊢
        by_cases q : (prE T n O 5 (a + 1)).1 = true ∧ T (prE T n O 5 (a + 1)).2.1 = nI 41
        · rw [if_pos q]; exact wf_prE hO _ q.1
        · rw [if_neg q] at h; exact absurd h (by simp)
      · rw [if_neg q3] at h; exact absurd h (by simp)
theorem wf_prO {T : Nat → Int32} {n : Nat} : ∀ e, wfR (prO T n e)
  | 0 => wf_oper (fun a h => absurd h (by simp))
  | e + 1 => wf_oper (wf_deepr (wf_prO e))
theorem wf_all (σ : MSt) : wfR (eAll σ) := wf_prE (wf_prO 6)
theorem pl_wf {σ : MSt} {a : Nat} (h : (pLine (sgnT σ) (eAll σ) a).1 = true) : ((pLine (sgnT σ) (eAll σ) a).2.2.1 = [] ∨ zwf 0 (pLine (sgnT σ) (eAll σ) a).2.2.1 1) ∧ zwf 0 (pLine (sgnT σ) (eAll σ) a).2.2.2 1 := by
  by_cases q : (eAll σ a).1 = true
  · by_cases g : sgnT σ (eAll σ a).2.1 = nI 63
    · rw [pl_two q g] at h ⊢
      exact ⟨Or.inr (wf_all σ _ q), wf_all σ _ h⟩
    · rw [pl_one q g]; exact ⟨Or.inl rfl, wf_all σ _ q⟩
  · rw [pl_bad q] at h; exact absurd h (by simp)
