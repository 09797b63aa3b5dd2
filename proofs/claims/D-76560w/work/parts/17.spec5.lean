/-! SPEC 5: owners, promises, changes, the tape, the image: answers and new numbers -/
set_option maxRecDepth 100000
noncomputable def rOwner (σ : MSt) (x : Int32) : Int32 := pif (inN x 1000) (if σ.1 0 = 8 then -3 else nI (σ.1 0)) (-1)
noncomputable def gOwner (σ : MSt) (x : Int32) : MSt := pif (inN x 1000 ∧ ¬ σ.1 0 = 8) (sN (sA σ 1 (σ.1 0) x) 0 (σ.1 0 + 1)) σ
def suchP (no : Nat) (b t w kd : Int32) : Prop := inN b no ∧ (t = -1 ∨ (inN t no ∧ ¬ t = b)) ∧ inN w 100 ∧ inN kd 3
def newS (σ : MSt) (b t w kd : Int32) : MSt := sN (sA (bOne σ (σ.1 2) b t w kd (nI 30)) 25 0 (σ.2.1 25 0 + nI 1)) 2 (σ.1 2 + 1)
def promP (no : Nat) (b t wk : Int32) : Prop := ¬ wk < 0 ∧ suchP no b t (nI (wk.toNatClampNeg / 10)) (nI (wk.toNatClampNeg % 10))
noncomputable def rPromise (σ : MSt) (b t wk : Int32) : Int32 := pif (promP (σ.1 0) b t wk) (if σ.1 2 = 14 then -3 else nI (σ.1 2)) (-1)
noncomputable def gPromise (σ : MSt) (b t wk : Int32) : MSt := pif (promP (σ.1 0) b t wk ∧ ¬ σ.1 2 = 14) (newS σ b t (nI (wk.toNatClampNeg / 10)) (nI (wk.toNatClampNeg % 10))) σ
def ofP (no m : Nat) (n w : Int32) : Prop := (w = 0 ∧ inN n no) ∨ (btw w (nI 1) (nI 5) ∧ inN n m) ∨ (w = nI 6 ∧ n = 0)
def fitP (w v : Int32) : Prop := if w = 0 then inN v 1000 else if w = 2 then inN v 3 else if w = 3 then btw v (nI 1) (nI 99) else if w = 5 then inN v 2 else inN v 100
noncomputable def rOf (σ : MSt) (n w : Int32) : Int32 := pif (btw w (nI 7) (nI 8)) (pif (inN n (σ.1 2)) (if w = nI 7 then σ.2.1 4 n.toNatClampNeg else σ.2.1 5 n.toNatClampNeg) (-2000000000)) (pif (ofP (σ.1 0) (σ.1 2) n w) (sGet σ n.toNatClampNeg w.toNatClampNeg) (-2000000000))
theorem ofP_cl {no m : Nat} {n w : Int32} (hno : no ≤ 8) (hm : m ≤ 15) (h : ofP no m n w) : n = nI n.toNatClampNeg ∧ w = nI w.toNatClampNeg ∧ w.toNatClampNeg ≤ 6 ∧ (w.toNatClampNeg = 0 → n.toNatClampNeg < no) ∧ (1 ≤ w.toNatClampNeg → w.toNatClampNeg ≤ 5 → n.toNatClampNeg < m) ∧ (w.toNatClampNeg = 6 → n.toNatClampNeg = 0) := by
  rcases h with ⟨rfl, h⟩ | ⟨h1, h⟩ | ⟨rfl, rfl⟩
  · obtain ⟨a, b⟩ := inN_cl (by omega) h
    exact ⟨b, by decide, by decide, fun _ => a, fun q => absurd q (by decide), fun q => absurd q (by decide)⟩
  · obtain ⟨a, b⟩ := inN_cl (by omega) h
    obtain ⟨j, g1, g2, rfl⟩ := (btw_iff (by decide) (by decide)).mp h1
    rw [nI_clamp (by omega)]
    exact ⟨b, rfl, by omega, fun _ => by omega, fun _ _ => a, fun _ => by omega⟩
  · refine ⟨by decide, by decide, by decide, fun q => absurd q (by decide), fun _ q => absurd q (by decide), fun _ => by decide⟩
noncomputable def rFeed (σ : MSt) (x : Int32) : Int32 := pif (inN x 256) (if σ.1 7 = 120 then -3 else nI (σ.1 7 + 1)) (-1)
noncomputable def gFeed (σ : MSt) (x : Int32) : MSt := pif (inN x 256 ∧ ¬ σ.1 7 = 120) (sA (sN σ 7 (σ.1 7 + 1)) 8 (σ.1 7) x) σ
noncomputable def gDoes (σ : MSt) (L : LawT) (p o : Int32) : MSt := pif (inN p (σ.1 2) ∧ inN o (σ.1 0) ∧ dOK (mV σ L) (σ.1 6) (σ.1 0) p o) (doesS σ p.toNatClampNeg o.toNatClampNeg) σ
noncomputable def gRel (σ : MSt) (p : Int32) : MSt := pif (inN p (σ.1 2) ∧ sOpen (mP σ) (σ.1 6) p.toNatClampNeg ∧ ¬ mP σ p.toNatClampNeg 1 < 0) (relS σ p.toNatClampNeg) σ
noncomputable def gDays (σ : MSt) (n : Int32) : MSt := pif (btw n (nI 1) (nI 99)) (sA (sN σ 6 (day (σ.1 6) n.toNatClampNeg)) 25 4 (σ.2.1 25 4 + n)) σ
noncomputable def rLed (σ : MSt) (w : Int32) : Int32 := pif (inN w 5) (σ.2.1 25 w.toNatClampNeg) (-1)
theorem mOK.sA3 {σ : MSt} {L : LawT} (h : mOK σ L) (i : Nat) (x : Int32) : mOK (sA σ 3 i x) L := h.same rfl (fun k hk => up2_n _ _ _ hk)
theorem mOK.sA25 {σ : MSt} {L : LawT} (h : mOK σ L) (i : Nat) (x : Int32) : mOK (sA σ 25 i x) L := by
  obtain ⟨a, b, c, d, e⟩ := h
  exact ⟨a, b, c, d, e.same rfl rfl (fun k k1 k2 => up2_n _ _ _ (by omega))⟩
theorem rel_high {σ : MSt} {L : LawT} (hm : σ.1 2 ≤ 15) {p : Nat} (hp : p < 15) (y : Int32) (o : Int32) : sHigh (mV (sA (sA σ 3 (60 + p) (nI 1)) 25 2 y) L) (σ.1 6) o = sHigh (pDo (mP σ) p, (mV σ L).2) (σ.1 6) o := by
  refine sHigh_congr (v := mV (sA (sA σ 3 (60 + p) (nI 1)) 25 2 y) L) (v' := (pDo (mP σ) p, (mV σ L).2)) (fun q hq j hj => ?_) rfl _ _
  have hq : q < σ.1 2 := hq
  exact mP_do hp q (by omega) j hj
