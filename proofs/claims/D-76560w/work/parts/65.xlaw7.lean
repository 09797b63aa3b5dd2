/-! X: plain laws: a change more; the image taken back -/
set_option maxRecDepth 100000
theorem x_close {D : va_G} {Λ : LT} {I : AH} {L : LawT} {σ τ : MSt} {nm km kd : Nat → Int32} {h : AH} (hr : XR Λ I L (hid σ nm km kd)) (hN : ∀ j, xVn j = true → τ.1 j = σ.1 j) (h2 : ∀ j, xV j = true → τ.2.1 j = σ.2.1 j) (hw : XW D Λ I (hid τ nm km kd) h) : XH D Λ I L τ h :=
  ⟨nm, km, kd, XR_congr (σ := hid σ nm km kd) (fun j hj => hN j hj) (fun j hj => hid_congr (h2 j hj)) hr, hw⟩
theorem lam_id (Λ : LT) (k : Nat) : (Λ.1, va_up Λ.2 k (Λ.2 k)) = Λ := by
  have : va_up Λ.2 k (Λ.2 k) = Λ.2 := by
    funext j
    by_cases h : j = k
    · rw [h, va_up_self]
    · rw [va_up_ne _ _ h]
  rw [this]
theorem va_up2 {α : Type} (f : Nat → α) (k : Nat) (a b : α) : va_up (va_up f k a) k b = va_up f k b := by
  funext j
  by_cases h : j = k
  · rw [h, va_up_self, va_up_self]
  · rw [va_up_ne _ _ h, va_up_ne _ _ h, va_up_ne _ _ h]
theorem upR_up (A : Nat → Nat → Option Nat) (k i : Nat) (r : Nat → Option Nat) (v : Option Nat) : upR (va_up A k r) k i v = va_up A k (va_up r i v) := by
  unfold upR
  rw [va_up_self, va_up2]
/-- what a change leaves, if it is one -/
noncomputable def gBecome (σ : MSt) (n w : Nat) (was v : Int32) : MSt := pif (was = v) σ (sSet (chPush (if σ.1 32 = 40 then shX σ else σ) n w was v) n w v)
theorem shX_31 (σ : MSt) (x : Nat) : shX (sN σ 31 x) = shX σ := by
  refine sN_ext (fun k => ?_) (fun a b => rfl) rfl
  unfold shX cpS
  simp only [sN_1]
  by_cases h : k = 31 <;> simp [h]
theorem push_31 (σ : MSt) (x : Nat) (n w : Nat) (h v : Int32) : chPush (sN σ 31 x) n w h v = chPush σ n w h v := by
  refine sN_ext (fun k => ?_) (fun a b => ?_) rfl
  · unfold chPush
    simp only [sN_1, sA_1]
    by_cases h1 : k = 31
    · simp [h1]
    · simp [h1]
  · unfold chPush
    simp only [sA_2, sN_2, sA_1, sN_1]
    simp
theorem sN3 (σ : MSt) (n x y : Nat) : sN (sN (sN σ 31 x) 32 n) 31 y = sN (sN σ 32 n) 31 y := by
  refine sN_ext (fun k => ?_) (fun a b => rfl) rfl
  simp only [sN_1]
  by_cases h : k = 31 <;> simp [h]
section XRefW
variable {p : Program} {l : Launch} {e : Env} {R : Room} {s : State} {m : MethodId} {args : Array Value} {below : List Frame} {meth : Method} {c : Code} {D : va_G} {E : State → Prop} {B nL : Nat} {Q : State → Prop}
variable {kc ns pc np : Nat} {lv lv' : List (Option Value)} {st st' rest : List Value} {own : String} {cc : ByteArray} {Λ Λ' : LT} {I J : AH} {L : LawT} {σ σ' : MSt}
/-- a change that is known goes into the changes' array -/
theorem w_ast6 (F : FX p s m args meth c D E B nL own cc) {i a : Nat} {x : Int32} {fs : List Value} {r : Nat → Option Nat} (hI : I a = some (.inr (5, fs))) (hi : i < 40) (e0 : x = nI i) (d : decode cc pc = .ok (.aastore, 1)) (hp : pc + 1 = np) (kk : WG p l e R s m args below meth c D B nL Q (XW D (Λ.1, va_up Λ.2 6 (va_up r i (some a))) I σ) kc ns np lv st) : WG p l e R s m args below meth c D B nL Q (XW D (Λ.1, va_up Λ.2 6 r) I σ) kc ns pc lv (.ref a :: .int x :: .ref (Λ.1 0 6) :: st) := by
  refine g_astq (t0 := 7) (ci := 5) F rfl rfl (fun h hw => ?_) d hp kk
  have hk : xC D (Λ.1, va_up Λ.2 6 r) σ 0 6 = some (xrefs (D.1 107) 40 r) := (xC_0 _ _ _ (by decide)).trans (by show some (xrefs _ _ (va_up Λ.2 6 r 6)) = _; rw [va_up_self])
  refine ⟨⟨fs, hw.2.2.1 a _ hI⟩, 40, r, hw.1 0 6 _ hk, (m_in (by decide) hi e0).1, ?_⟩
  rw [(m_in (by decide) hi e0).2, ← upR_up Λ.2 6 i r (some a)]
  refine hw.up (k := 0) (i := 6) (by rw [hk]; exact fun q => by cases q) ?_ (xC_ref (Λ := (Λ.1, va_up Λ.2 6 r)) (by decide) i (some a)) rfl
  rw [xC_0 _ _ _ (by decide)]
  show some (xrefs _ _ (upR (va_up Λ.2 6 r) 6 i (some a) 6)) = _
  rw [upR_up, va_up_self]
  rfl
end XRefW
theorem less31 {D : va_G} {Λ : LT} {I : AH} {L : LawT} {σ : MSt} {x : Nat} {nm km kd : Nat → Int32} {h : AH} (hx : x ≤ σ.1 31) (hr : XR Λ I L (hid σ nm km kd)) (hw : XW D Λ I (hid (sN σ 31 x) nm km kd) h) : XH D Λ I L (sN σ 31 x) h := by
  refine ⟨nm, km, kd, ?_, hw⟩
  obtain ⟨r1, r2, r3, r4, r5, r6, r7⟩ := hr
  exact ⟨r1, r2, fun e he => r3 e (Nat.lt_of_lt_of_le he hx), r4, r5, r6, r7⟩
theorem sh_step {f r : Nat → Option Nat} {k : Nat} {v : Option Nat} (h : ∀ e, r e = if e + 1 < k then f (e + 1) else f e) (hk : 1 ≤ k) (hv : f k = v) : ∀ e, va_up r (k - 1) v e = if e + 1 < k + 1 then f (e + 1) else f e := by
  intro e
  by_cases q : e = k - 1
  · subst q
    rw [va_up_self, if_pos (by omega), show k - 1 + 1 = k by omega]; exact hv.symm
  · rw [va_up_ne _ _ q, h]
    by_cases q2 : e + 1 < k
    · rw [if_pos q2, if_pos (by omega)]
    · rw [if_neg q2, if_neg (by omega)]
theorem become_mend {σ : MSt} {n w v : Int32} (h1 : ofP (σ.1 0) (σ.1 2) n w) (h2 : fitP w v) : gBecome σ n.toNatClampNeg w.toNatClampNeg (sGet σ n.toNatClampNeg w.toNatClampNeg) v = gMend σ n w v := by
  unfold gBecome gMend
  by_cases h : sGet σ n.toNatClampNeg w.toNatClampNeg = v
  · rw [pif_t h, pif_f (fun z => z.2.2 h)]
  · rw [pif_f h, pif_t ⟨h1, h2, h⟩, mend_fin]
theorem back_eq {σ : MSt} {f g : Nat → Int32} {td : Nat} (hf : ∀ j, f j = if j < σ.1 27 then σ.2.1 29 j else σ.2.1 1 j) (hg : ∀ j, g j = if 60 ≤ j ∧ j < 60 + σ.1 28 then σ.2.1 29 (8 + (j - 60)) else σ.2.1 3 j) (ht : σ.2.1 29 22 = nI td) (ht2 : td ≤ 99) : sA (sA (sA (sA (sA (sN (cpS (cpS σ 1 f) 3 g) 6 td) 25 0 (σ.2.1 30 0)) 25 1 (σ.2.1 30 1)) 25 2 (σ.2.1 30 2)) 25 3 (σ.2.1 30 3)) 25 4 (σ.2.1 30 4) = backS σ := by
  refine (sN_ext (fun k => ?_) (fun a b => ?_) rfl)
  · show va_up σ.1 6 td k = va_up σ.1 6 (σ.2.1 29 22).toNatClampNeg k
    rw [ht, nI_clamp (by omega)]
  · unfold backS
    simp only [sA_2, sN_2]
    show (if a = 25 ∧ b = 4 then _ else if a = 25 ∧ b = 3 then _ else if a = 25 ∧ b = 2 then _ else if a = 25 ∧ b = 1 then _ else if a = 25 ∧ b = 0 then _ else va_up (va_up σ.2.1 1 f) 3 g a b) = va_up (va_up (va_up σ.2.1 1 (fun j => if j < σ.1 27 then σ.2.1 29 j else σ.2.1 1 j)) 3 (fun i => if 60 ≤ i ∧ i < 60 + σ.1 28 then σ.2.1 29 (8 + (i - 60)) else σ.2.1 3 i)) 25 (fun j => if j < 5 then σ.2.1 30 j else σ.2.1 25 j) a b
    rw [show f = (fun j => if j < σ.1 27 then σ.2.1 29 j else σ.2.1 1 j) from funext hf, show g = (fun i => if 60 ≤ i ∧ i < 60 + σ.1 28 then σ.2.1 29 (8 + (i - 60)) else σ.2.1 3 i) from funext hg]
    by_cases h : a = 25
    · subst h
      rw [va_up_self, va_up_ne _ _ (show (25 : Nat) ≠ 3 by decide), va_up_ne _ _ (show (25 : Nat) ≠ 1 by decide)]
      by_cases q4 : b = 4
      · subst q4; rfl
      · by_cases q3 : b = 3
        · subst q3; rfl
        · by_cases q2 : b = 2
          · subst q2; rfl
          · by_cases q1 : b = 1
            · subst q1; rfl
            · by_cases q0 : b = 0
              · subst q0; rfl
              · rw [if_neg (fun z => q4 z.2), if_neg (fun z => q3 z.2), if_neg (fun z => q2 z.2), if_neg (fun z => q1 z.2), if_neg (fun z => q0 z.2), if_neg (show ¬ b < 5 by omega)]
    · rw [va_up_ne _ _ h, if_neg (fun z => h z.1), if_neg (fun z => h z.1), if_neg (fun z => h z.1), if_neg (fun z => h z.1), if_neg (fun z => h z.1)]
