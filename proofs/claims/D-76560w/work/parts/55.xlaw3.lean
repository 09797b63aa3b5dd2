/-! X: plain laws: fits; rows for bytes -/
set_option maxRecDepth 100000
theorem qdm {q : Int32} {a : Nat} (h : q = nI a) (ha : a < 2 ^ 31) : q / nI 100 - q / nI 100 / nI 100 * nI 100 = nI (a / 100 % 100) := by
  rw [h, pk_div ha (by decide) (by decide), pk_rem (by omega) (by decide) (by decide)]
theorem fitX {σ : MSt} {L : LawT} (hm : σ.1 2 ≤ 15) {p j : Nat} (hp : p < 15) (h2 : 2 ≤ j) (hj : j < 7) (x : Int32) (t : Nat) (told : Nat → Int32) (len : Nat) (o : Int32) : sUnlike (mV (sA σ 3 (15 * (j - 2) + p) x) L) t told len o = sUnlike (pSet (mP σ) p j x, (mV σ L).2) t told len o :=
  sUnlike_congr (v := mV (sA σ 3 (15 * (j - 2) + p) x) L) (v' := (pSet (mP σ) p j x, (mV σ L).2)) (fun q hq i hi => mP_set hp h2 hj x q (by have hq : q < σ.1 2 := hq; omega) i hi) rfl _ _ _ _
theorem i8_nar (x : Int32) : vp_nar .byte (x.toInt8.toInt32) = x.toInt8.toInt32 := by
  show (x.toInt8.toInt32).toInt8.toInt32 = x.toInt8.toInt32
  rw [Int8.toInt8_toInt32]
theorem xA_bst9 {D : va_G} {Λ : LT} {σ : MSt} (i : Nat) (v : Int32) {j : Nat} (hn : j ≠ 9) : xA D Λ (sA σ 8 i v) j = xA D Λ σ j := by
  have ea : ∀ b, b ≠ 8 → (sA σ 8 i v).2.1 b = σ.2.1 b := fun b hb => up2_n _ _ _ hb
  unfold xA
  rw [ea 37 (by decide), ea 51 (by decide), ea 52 (by decide), ea 53 (by decide), ea 54 (by decide)]
  unfold xA0
  split <;> first | rfl | exact absurd rfl hn
theorem xA_bst34 {D : va_G} {Λ : LT} {σ : MSt} (i : Nat) (v : Int32) {j : Nat} (hn : j ≠ 34) : xA D Λ (sA σ 37 i v) j = xA D Λ σ j := by
  have ea : ∀ b, b ≠ 37 → (sA σ 37 i v).2.1 b = σ.2.1 b := fun b hb => up2_n _ _ _ hb
  unfold xA
  rw [ea 8 (by decide), ea 51 (by decide), ea 52 (by decide), ea 53 (by decide), ea 54 (by decide)]
  unfold xA0
  split <;> first | rfl | exact absurd rfl hn
theorem xC_bst {D : va_G} {Λ : LT} {σ : MSt} {J a : Nat} (hJ : (J = 9 ∧ a = 8) ∨ (J = 34 ∧ a = 37)) (i : Nat) (v : Int32) (k' i' : Nat) (hne : ¬ (k' = 0 ∧ i' = J)) : xC D Λ (sA σ a i v) k' i' = none ∨ xC D Λ (sA σ a i v) k' i' = xC D Λ σ k' i' := by
  refine Or.inr ?_
  have ea : ∀ j, j ≠ 8 → j ≠ 37 → (sA σ a i v).2.1 j = σ.2.1 j := fun j h1 h2 => up2_n _ _ _ (by omega)
  have hA : i' ≠ J → xA D Λ (sA σ a i v) i' = xA D Λ σ i' := by
    intro hn
    rcases hJ with ⟨rfl, rfl⟩ | ⟨rfl, rfl⟩
    · exact xA_bst9 i v hn
    · exact xA_bst34 i v hn
  have e38 := rowK_congr (ea 38 (by decide) (by decide))
  have e39 := xI_congr (D := D) (ea 39 (by decide) (by decide)) (show (sA σ a i v).2.2 = σ.2.2 from rfl) i'
  have e1 := ea 1 (by decide) (by decide)
  have e3 := ea 3 (by decide) (by decide)
  have e4 := ea 4 (by decide) (by decide)
  have e5 := ea 5 (by decide) (by decide)
  have eF : xF Λ (sA σ a i v) = xF Λ σ := by
    unfold xF
    rw [ea 25 (by decide) (by decide), ea 50 (by decide) (by decide), ea 29 (by decide) (by decide), ea 30 (by decide) (by decide)]
    rfl
  match k', hne with
  | 0, hne =>
    by_cases h38 : i' = 38
    · rw [h38, x38, x38, eF]
    · exact (xC_0 _ _ _ h38).trans ((hA (fun q => hne ⟨rfl, q⟩)).trans (xC_0 _ _ _ h38).symm)
  | 1, _ => rw [xC_1, xC_1]; unfold xc1; rw [e1]; rfl
  | 2, _ => rw [xC_2, xC_2]; unfold xc2 xP; rw [e3, e4, e5]; rfl
  | 3, _ => rw [xC_3, xC_3]; unfold xc3; rw [e38]
  | 4, _ => rw [xC_4, xC_4]; unfold xc4; rw [e38, e39]
  | n + 5, _ => rw [xC_5, xC_5]
section XByte
variable {p : Program} {l : Launch} {e : Env} {R : Room} {s : State} {m : MethodId} {args : Array Value} {below : List Frame} {meth : Method} {c : Code} {D : va_G} {E : State → Prop} {B nL : Nat} {Q : State → Prop}
variable {kc ns pc np : Nat} {lv lv' : List (Option Value)} {st st' rest : List Value} {own : String} {cc : ByteArray} {Λ Λ' : LT} {I I' : AH} {L : LawT} {σ σ' : MSt}
theorem w_bast (F : FX p s m args meth c D E B nL own cc) {J a i n : Nat} {x v : Int32} (hJ : (J = 9 ∧ a = 8) ∨ (J = 34 ∧ a = 37)) (hA : ∀ τ : MSt, xC D Λ τ 0 J = some (.inl (D.1 101, n, .inl (fun i => (τ.2.1 a i).toInt8.toInt32)))) (hn : n < 2 ^ 31) (hi : i < n) (e0 : x = nI i) (d : decode cc pc = .ok (.bastore, 1)) (hp : pc + 1 = np) (kk : WG p l e R s m args below meth c D B nL Q (XW D Λ I (sA σ a i v)) kc ns np lv st) : WG p l e R s m args below meth c D B nL Q (XW D Λ I σ) kc ns pc lv (.int (v.toInt8.toInt32) :: .int x :: .ref (Λ.1 0 J) :: st) := g_bast F (fun h hs => ⟨_, _, hs.1 0 J _ (hA σ), (m_in hn hi e0).1, by
    rw [(m_in hn hi e0).2]
    refine hs.up (k := 0) (i := J) (by rw [hA]; exact fun q => by cases q) ?_ (xC_bst hJ i v) rfl
    rw [hA, i8_nar]
    have e1 : (fun b => ((sA σ a i v).2.1 a b).toInt8.toInt32) = va_up (fun b => (σ.2.1 a b).toInt8.toInt32) i v.toInt8.toInt32 := by
      funext b
      rw [show (sA σ a i v).2.1 a = va_up (σ.2.1 a) i v from up2_k _ _ _ _]
      unfold va_up
      by_cases q : b = i
      · rw [if_pos q, if_pos q]
      · rw [if_neg q, if_neg q]
    rw [e1]⟩) d hp kk
theorem x_bast (F : FX p s m args meth c D E B nL own cc) {J a i n : Nat} {x v : Int32} (hJ : (J = 9 ∧ a = 8) ∨ (J = 34 ∧ a = 37)) (hA : ∀ τ : MSt, xC D Λ τ 0 J = some (.inl (D.1 101, n, .inl (fun i => (τ.2.1 a i).toInt8.toInt32)))) (hn : n < 2 ^ 31) (hi : i < n) (e0 : x = nI i) (d : decode cc pc = .ok (.bastore, 1)) (hp : pc + 1 = np) (kk : WG p l e R s m args below meth c D B nL Q (XH D Λ I L (sA σ a i v)) kc ns np lv st) : WG p l e R s m args below meth c D B nL Q (XH D Λ I L σ) kc ns pc lv (.int (v.toInt8.toInt32) :: .int x :: .ref (Λ.1 0 J) :: st) := x_lift (σ := σ) (σ' := sA σ a i v) (fun nm km kd hr => XR_congr (σ := hid σ nm km kd) (fun j _ => rfl) (fun j hj => hid_congr (up2_n _ _ _ (fun z => by rcases hJ with ⟨-, q⟩ | ⟨-, q⟩ <;> (rw [z, q] at hj; cases hj)))) hr) (fun nm km kd k2 => w_bast F hJ hA hn hi e0 d hp (by rw [hid_sA _ _ _ _ _ _ (by omega) (by omega) (by omega)]; exact k2)) kk
end XByte
theorem n_i8 {k : Nat} (h : k < 128) : (nI k).toInt8.toInt32 = nI k := by
  have e : ∀ k < 128, (nI k).toInt8.toInt32 = nI k := by decide +kernel
  exact e k h
/-- traces are small numbers -/
def trOK (σ : MSt) : Prop := ∀ i, i < 24 → ∃ k, k < 128 ∧ σ.2.1 37 i = nI k
