/-! SPEC 11: draws -/
set_option maxRecDepth 100000
def ush (z : Int32) (k : Nat) : Int32 := (z.toUInt32 >>> ((nI k).toUInt32 &&& Int32.toUInt32 31)).toInt32
theorem u_nI (x : UInt32) : x.toInt32 = nI x.toNat := by
  apply Int32.toBitVec_inj.mp
  show x.toBitVec = BitVec.ofNat 32 x.toNat
  apply BitVec.eq_of_toNat_eq
  rw [BitVec.toNat_ofNat]
  exact (Nat.mod_eq_of_lt x.toBitVec.isLt).symm
theorem ush_nI (z : Int32) {k : Nat} (h1 : 1 ≤ k) (h2 : k < 31) : ∃ a, a < 2 ^ 31 ∧ ush z k = nI a := by
  refine ⟨_, ?_, u_nI _⟩
  rw [UInt32.toNat_shiftRight]
  have e : ∀ k, k < 31 → ((nI k).toUInt32 &&& Int32.toUInt32 31).toNat % 32 = k := by decide
  rw [e k h2, Nat.shiftRight_eq_div_pow]
  have h3 : z.toUInt32.toNat < 2 ^ 32 := z.toUInt32.toNat_lt
  have h4 : 2 ≤ 2 ^ k := by
    calc 2 = 2 ^ 1 := rfl
      _ ≤ 2 ^ k := Nat.pow_le_pow_right (by decide) h1
  rw [Nat.div_lt_iff_lt_mul (by omega)]
  calc z.toUInt32.toNat < 2 ^ 31 * 2 := h3
    _ ≤ 2 ^ 31 * 2 ^ k := Nat.mul_le_mul_left _ h4
def drZ (z : Int32) : Int32 := z * 1103515245 + nI 12345
def drR (m : Nat) (z : Int32) : Int32 := ush z 8 - ush z 8 / nI m * nI m
theorem drR_in {m : Nat} (z : Int32) (h0 : 0 < m) (hm : m < 2 ^ 31) : inN (drR m z) m := by
  obtain ⟨a, ha, e⟩ := ush_nI z (k := 8) (by decide) (by decide)
  refine ⟨a % m, Nat.mod_lt _ h0, ?_⟩
  unfold drR
  rw [e, pk_rem ha h0 hm]
def drO (z : Int32) : Int32 := ush z 16 - ush z 16 / nI 12 * nI 12
/-- the promises' numbers, with other done flags -/
def gS (σ : MSt) (g : Nat → Int32) : MSt := cpS σ 3 g
noncomputable def drHit (σ : MSt) (g : Nat → Int32) (d : Nat) (z : Int32) (od : Nat) : Prop := ¬ σ.1 2 = 0 ∧ sOpen (mP (gS σ g)) d (drR (σ.1 2) z).toNatClampNeg ∧ ¬ g (15 + (drR (σ.1 2) z).toNatClampNeg) = nI 2 ∧ drO z < nI od
noncomputable def drG (σ : MSt) (g : Nat → Int32) (d : Nat) (z : Int32) (od : Nat) : Nat → Int32 := pif (drHit σ g d z od) (va_up g (60 + (drR (σ.1 2) z).toNatClampNeg) (nI 1)) g
noncomputable def drK (σ : MSt) (od : Nat) : Nat → Int32 → Int32 × (Nat → Int32)
  | 0, z => (z, σ.2.1 3)
  | k + 1, z => (drZ (drK σ od k z).1, drG σ (drK σ od k z).2 (day (σ.1 6) k) (drZ (drK σ od k z).1) od)
noncomputable def drN (σ : MSt) (L : LawT) (mm od : Nat) (o : Int32) : Nat → Int32 → Int32 × Int32
  | 0, z => (z, nI 0)
  | n + 1, z => ((drK σ od mm (drN σ L mm od o n z).1).1, (drN σ L mm od o n z).2 + (if o = -1 then sAll (mV (gS σ (drK σ od mm (drN σ L mm od o n z).1).2) L) (day (σ.1 6) mm) (σ.1 0) else sHigh (mV (gS σ (drK σ od mm (drN σ L mm od o n z).1).2) L) (day (σ.1 6) mm) o))
noncomputable def drawP (no : Nat) (q o : Int32) : Prop := ¬ q < 0 ∧ btw (nI (q.toNatClampNeg / 10000)) (nI 1) (nI 30) ∧ btw (nI (q.toNatClampNeg / 100 % 100)) (nI 1) (nI 40) ∧ ¬ 12 < q.toNatClampNeg % 100 ∧ (o = -1 ∨ inN o no)
noncomputable def rDrawn (L : LawT) (σ : MSt) (z q o : Int32) : Int32 := pif (drawP (σ.1 0) q o) (drN σ L (q.toNatClampNeg / 100 % 100) (q.toNatClampNeg % 100) o (q.toNatClampNeg / 10000) z).2 (-1)
noncomputable def gDrawn (σ : MSt) (q o : Int32) : MSt := pif (drawP (σ.1 0) q o) (cpS σ 41 (fun i => if i < σ.1 2 then σ.2.1 3 (60 + i) else σ.2.1 41 i)) σ
/-- only done flags differ -/
def gOK (σ : MSt) (g : Nat → Int32) : Prop := ∀ j, ¬ (60 ≤ j ∧ j < 60 + σ.1 2) → g j = σ.2.1 3 j
theorem drG_ok {σ : MSt} {g : Nat → Int32} {d : Nat} {z : Int32} {od : Nat} (hm : σ.1 2 < 2 ^ 31) (h : gOK σ g) : gOK σ (drG σ g d z od) := by
  intro j hj
  unfold drG
  by_cases q : drHit σ g d z od
  · rw [pif_t q]
    have := (inN_cl hm (drR_in z (Nat.pos_of_ne_zero q.1) hm)).1
    rw [va_up_ne _ _ (by omega)]
    exact h j hj
  · rw [pif_f q]; exact h j hj
theorem drK_ok {σ : MSt} {od : Nat} (hm : σ.1 2 < 2 ^ 31) (z : Int32) : ∀ k, gOK σ (drK σ od k z).2
  | 0 => fun _ _ => rfl
  | k + 1 => drG_ok hm (drK_ok hm z k)
theorem day_s (t k : Nat) : day (day t k) 1 = day t (k + 1) := by unfold day; omega
theorem day_0 {t : Nat} (h : t ≤ 99) : day t 0 = t := by unfold day; omega
theorem dr_in (τ : MSt) : sN (cpS τ 3 (τ.2.1 3)) 6 (τ.1 6) = τ := by rw [cpS_id, sN_same]
theorem mOK.cp41 {σ : MSt} {L : LawT} (h : mOK σ L) (f : Nat → Int32) : mOK (cpS σ 41 f) L := by
  obtain ⟨a, b, c, d, e⟩ := h
  exact ⟨a, b, c, d, e.same rfl rfl (fun k k1 k2 => va_up_ne _ _ (by omega))⟩
theorem mOK.cp3 {σ : MSt} {L : LawT} (h : mOK σ L) (f : Nat → Int32) : mOK (cpS σ 3 f) L := h.same rfl (fun k hk => va_up_ne _ _ hk)
