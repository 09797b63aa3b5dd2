/-! WALKS (printed by walk.py): gives, storeysOf, highOf, storeys, allHigh, high, opens, roofOf, roof, falls -/
set_option maxRecDepth 100000
set_option maxRecDepth 100000 in
theorem ct_X0_gives {l : Launch} {D : va_G} {B : Nat} {Λ : LT} {I : AH} (σ : MSt) (ls : List (List Nat × List Nat)) (nm : Nat → Int32)  (hln : lnT I (Λ.2 11 0) ls) (hnF : ∀ k, k ≤ 5 → nm k = σ.2.1 52 (letC k)) : Ct l D ZE B yX0_gives cX0_gives 2 (some .int) 201 4623 0 0 [.ref (Λ.1 0 38)] (XW D Λ I σ) (RI (sLines nm ls) (XW D Λ I σ)) := by
  refine Ct.of (nL := 2) (lv := [some (.ref (Λ.1 0 38)), none]) (by decide) (Nat.le_of_ble_eq_true rfl) stZE 1 rfl ?_
  generalize hT : RI (sLines nm ls) (XW D Λ I σ) = T
  intro zp ze zs zm zb zt zc F hr hnm
  generalize ([.ref (Λ.1 0 38)] : List Value).toArray = za at F ⊢
  refine g_aload_n F dX0_gives_0 rfl rfl (np := 1) rfl ?_
  refine w_get F (k := 11) (v := va_rf (Λ.2 11 0)) (by decide) rfl (Or.inl q190) dX0_gives_1 (np := 4) rfl ?_
  refine g_astore_nQ F (lv' := [some (.ref (Λ.1 0 38)), some (va_rf (Λ.2 11 0))]) dX0_gives_4 rfl (by decide) rfl rfl (np := 5) rfl ?_
  have L5 : ∀ (zn : Nat) (r : Option Nat) (lt : List (List Nat × List Nat)), (lnT I r lt) → (sLines nm lt = sLines nm ls) → lt.length < zn → WG zp l ze ({ frames := 201, cells := 0, slots := 0, locals := 4623 } : Room) zs zm za zb zt zc D B 2 (MQ zb (QT D B T) za zs 0 0 (zA B)) (XW D Λ I σ) 0 0 5 [some (.ref (Λ.1 0 38)), some (va_rf (r))] [] := by
    intro zn
    induction zn with
    | zero => intro r lt h1 h2 hm; exact absurd hm (Nat.not_lt_zero _)
    | succ zn ih5 =>
      intro r lt h1 h2 hm
      refine g_aload_nQ F dX0_gives_5 rfl rfl (np := 6) rfl ?_
      rcases ho6 : r with _ | a6
      · refine WG.eqv (st' := [.null]) (by first | rfl | (rw [ho6]; rfl)) (lv' := [some (.ref (Λ.1 0 38)), some (.null)]) (by first | rfl | (simp only [ho6]; rfl)) ?_
        refine g_ifnullN F dX0_gives_6 (np := 50) (by decide) ?_
        refine g_iconst F (v := (nI 0)) dX0_gives_50 (by decide) (np := 51) rfl ?_
        have hv : nI (0) = sLines nm ls := by rw [← h2]; rw [ho6] at h1; cases lt with
  | nil => rfl
  | cons q l2 => obtain ⟨q1, q2⟩ := q; obtain ⟨_, _, _, _, e1, _⟩ := h1; cases e1
        exact g_iret F hr rfl (Nat.le_of_ble_eq_true rfl) (Nat.le_of_ble_eq_true rfl) dX0_gives_51 (fun h hs => by rw [← hT]; exact ⟨congrArg (fun z => some (Value.int z)) hv, hs⟩)
      · refine WG.eqv (st' := [.ref (a6)]) (by first | rfl | (rw [ho6]; rfl)) (lv' := [some (.ref (Λ.1 0 38)), some (.ref (a6))]) (by first | rfl | (simp only [ho6]; rfl)) ?_
        refine g_ifnull F dX0_gives_6 (np := 9) rfl ?_
        rw [ho6] at h1
        obtain ⟨⟨t, g⟩, l2, rfl⟩ : ∃ q l2, lt = q :: l2 := by
          cases lt with
          | nil => cases h1
          | cons q l2 => exact ⟨q, l2, rfl⟩
        obtain ⟨a, tn, gn, nx, e1, e2, e3, e4, e5⟩ := h1
        obtain rfl : a6 = a := Option.some.inj e1
        refine g_aload_n F dX0_gives_9 rfl rfl (np := 10) rfl ?_
        refine g_getL F in_X7 (ci := 7) rfl 0 (by decide) rfl (Or.inr ⟨_, ze606⟩) (v := va_rf (tn)) (fun h hs => ⟨_, hs.2.2.1 _ _ e2, rfl⟩) dX0_gives_10 (np := 13) rfl ?_
        rcases ho13 : tn with _ | a13
        · refine WG.eqv (st' := [.null]) (by first | rfl | (rw [ho13]; rfl)) (lv' := [some (.ref (Λ.1 0 38)), some (.ref (a6))]) (by first | rfl | (simp only [ho13]; rfl)) ?_
          refine g_ifnullN F dX0_gives_13 (np := 30) (by decide) ?_
          refine g_aload_n F dX0_gives_30 rfl rfl (np := 31) rfl ?_
          refine g_getL F in_X7 (ci := 7) rfl 1 (by decide) rfl (Or.inr ⟨_, ze608⟩) (v := .ref (gn)) (fun h hs => ⟨_, hs.2.2.1 _ _ e2, rfl⟩) dX0_gives_31 (np := 34) rfl ?_
          refine g_aload_n F dX0_gives_34 rfl rfl (np := 35) rfl ?_
          refine w_get F (k := 12) (v := .ref (Λ.1 0 12)) (by decide) rfl (Or.inl q191) dX0_gives_35 (np := 38) rfl ?_
          refine g_value F (rest := []) (val_all (fun h hs => hs.2.2.1) (fun h hs => ⟨hs.facts, hs.1 0 39 _ rfl⟩) hnF XD _ _ e4) (fun h hs => hs.2.2.1) q837 ⟨Nat.le_of_ble_eq_true rfl, Nat.le_of_ble_eq_true rfl⟩ (Nat.le_of_ble_eq_true rfl) dX0_gives_38 ⟨Nat.le_of_ble_eq_true rfl, Nat.le_of_ble_eq_true rfl⟩ (np := 41) rfl ?_
          have hv : zev nm g = sLines nm ls := by rw [← h2]; show _ = if t ≠ [] ∧ zev nm t = 0 then _ else _; first | (rw [if_neg (fun z => c27 z.2)]; done) | (rw [if_neg (fun z => e3.elim (fun w => z.1 w.1) (fun w => by obtain ⟨_, b, w2, _⟩ := w; rw [w2] at ho13; cases ho13))])
          exact g_iret F hr rfl (Nat.le_of_ble_eq_true rfl) (Nat.le_of_ble_eq_true rfl) dX0_gives_41 (fun h hs => by rw [← hT]; exact ⟨congrArg (fun z => some (Value.int z)) hv, hs⟩)
        · refine WG.eqv (st' := [.ref (a13)]) (by first | rfl | (rw [ho13]; rfl)) (lv' := [some (.ref (Λ.1 0 38)), some (.ref (a6))]) (by first | rfl | (simp only [ho13]; rfl)) ?_
          refine g_ifnull F dX0_gives_13 (np := 16) rfl ?_
          obtain ⟨q1, b3, q2, q3⟩ := e3.resolve_left (fun z => by rw [z.2] at ho13; cases ho13)
          obtain rfl : b3 = a13 := Option.some.inj (q2.symm.trans ho13)
          refine g_aload_n F dX0_gives_16 rfl rfl (np := 17) rfl ?_
          refine g_getL F in_X7 (ci := 7) rfl 0 (by decide) rfl (Or.inr ⟨_, ze606⟩) (v := va_rf (tn)) (fun h hs => ⟨_, hs.2.2.1 _ _ e2, rfl⟩) dX0_gives_17 (np := 20) rfl ?_
          refine WG.eqv (st' := [.ref (b3)]) (by rw [ho13]; rfl) rfl ?_
          refine g_aload_n F dX0_gives_20 rfl rfl (np := 21) rfl ?_
          refine w_get F (k := 12) (v := .ref (Λ.1 0 12)) (by decide) rfl (Or.inl q191) dX0_gives_21 (np := 24) rfl ?_
          refine g_value F (rest := []) (val_all (fun h hs => hs.2.2.1) (fun h hs => ⟨hs.facts, hs.1 0 39 _ rfl⟩) hnF XD _ _ q3) (fun h hs => hs.2.2.1) q837 ⟨Nat.le_of_ble_eq_true rfl, Nat.le_of_ble_eq_true rfl⟩ (Nat.le_of_ble_eq_true rfl) dX0_gives_24 ⟨Nat.le_of_ble_eq_true rfl, Nat.le_of_ble_eq_true rfl⟩ (np := 27) rfl ?_
          refine g_if_eq F dX0_gives_27 (tp := 42) (by decide) (np := 30) rfl (fun c27 => ?_) (fun c27 => ?_)
          · refine g_aload_n F dX0_gives_42 rfl rfl (np := 43) rfl ?_
            refine g_getL F in_X7 (ci := 7) rfl 2 (by decide) rfl (Or.inr ⟨_, ze610⟩) (v := va_rf (nx)) (fun h hs => ⟨_, hs.2.2.1 _ _ e2, rfl⟩) dX0_gives_43 (np := 46) rfl ?_
            refine g_astore_nQ F (lv' := [some (.ref (Λ.1 0 38)), some (va_rf (nx))]) dX0_gives_46 rfl (by decide) rfl rfl (np := 47) rfl ?_
            refine g_goto F dX0_gives_47 (np := 5) (by decide) ?_
            exact ih5 nx l2 (by exact e5) (by rw [← h2]; show _ = if t ≠ [] ∧ zev nm t = 0 then _ else _; rw [if_pos ⟨q1, c27⟩]) (by simp only [List.length_cons] at hm; omega)
          · refine g_aload_n F dX0_gives_30 rfl rfl (np := 31) rfl ?_
            refine g_getL F in_X7 (ci := 7) rfl 1 (by decide) rfl (Or.inr ⟨_, ze608⟩) (v := .ref (gn)) (fun h hs => ⟨_, hs.2.2.1 _ _ e2, rfl⟩) dX0_gives_31 (np := 34) rfl ?_
            refine g_aload_n F dX0_gives_34 rfl rfl (np := 35) rfl ?_
            refine w_get F (k := 12) (v := .ref (Λ.1 0 12)) (by decide) rfl (Or.inl q191) dX0_gives_35 (np := 38) rfl ?_
            refine g_value F (rest := []) (val_all (fun h hs => hs.2.2.1) (fun h hs => ⟨hs.facts, hs.1 0 39 _ rfl⟩) hnF XD _ _ e4) (fun h hs => hs.2.2.1) q837 ⟨Nat.le_of_ble_eq_true rfl, Nat.le_of_ble_eq_true rfl⟩ (Nat.le_of_ble_eq_true rfl) dX0_gives_38 ⟨Nat.le_of_ble_eq_true rfl, Nat.le_of_ble_eq_true rfl⟩ (np := 41) rfl ?_
            have hv : zev nm g = sLines nm ls := by rw [← h2]; show _ = if t ≠ [] ∧ zev nm t = 0 then _ else _; first | (rw [if_neg (fun z => c27 z.2)]; done) | (rw [if_neg (fun z => e3.elim (fun w => z.1 w.1) (fun w => by obtain ⟨_, b, w2, _⟩ := w; rw [w2] at ho13; cases ho13))])
            exact g_iret F hr rfl (Nat.le_of_ble_eq_true rfl) (Nat.le_of_ble_eq_true rfl) dX0_gives_41 (fun h hs => by rw [← hT]; exact ⟨congrArg (fun z => some (Value.int z)) hv, hs⟩)
  exact L5 _ (Λ.2 11 0) ls (by exact hln) (by rfl) (Nat.lt_succ_self _)

set_option maxRecDepth 100000 in
theorem ct_X0_storeysOf {l : Launch} {D : va_G} {B : Nat} {Λ : LT} {I : AH} {L : LawT} (σ : MSt)  (p : Nat) (d : Nat) (hp : p < σ.1 2) (hok : mOK σ L) (hm14 : σ.1 2 ≤ 14) (hbO : byOK σ) : Ct l D ZE B yX0_storeysOf cX0_storeysOf 5 (some .int) 202 4644 0 0 [.ref (Λ.1 0 38), .int (nI p), .int (nI d)] (XH D Λ I L σ) (RI (sSt (mV σ L) d p) (XH D Λ I L σ)) := by
  refine Ct.of (nL := 5) (lv := [some (.ref (Λ.1 0 38)), some (.int (nI p)), some (.int (nI d)), none, none]) (by decide) (Nat.le_of_ble_eq_true rfl) stZE 2 rfl ?_
  generalize hT : RI (sSt (mV σ L) d p) (XH D Λ I L σ) = T
  intro zp ze zs zm zb zt zc F hr hnm
  generalize ([.ref (Λ.1 0 38), .int (nI p), .int (nI d)] : List Value).toArray = za at F ⊢
  have hok2 := hok
  obtain ⟨ho8, hm15, ht99, hby, hlaw⟩ := hok2
  obtain ⟨o0, ho0, eo0⟩ := hbO p hp
  refine WG.ex (fun nm0 => ?_)
  refine WG.ex (fun km0 => ?_)
  refine WG.ex (fun kd0 => ?_)
  refine WG.pr (fun hXR => ?_)
  refine g_aload_n F dX0_storeysOf_0 rfl rfl (np := 1) rfl ?_
  refine w_get F (k := 1) (v := .ref (Λ.1 0 1)) (by decide) rfl (Or.inl q178) dX0_storeysOf_1 (np := 4) rfl ?_
  refine g_iload_n F dX0_storeysOf_4 rfl rfl (np := 5) rfl ?_
  refine w_aldP F (i := p) rfl hXR.2.1 (show p < σ.1 2 by omega) (show σ.1 2 ≤ 14 by omega) dX0_storeysOf_5 (np := 6) rfl ?_
  refine g_astore_n F (lv' := [some (.ref (Λ.1 0 38)), some (.int (nI p)), some (.int (nI d)), some (.ref (Λ.1 2 p)), none]) dX0_storeysOf_6 rfl (by decide) rfl rfl (np := 7) rfl ?_
  refine g_aload_n F dX0_storeysOf_7 rfl rfl (np := 8) rfl ?_
  refine g_iload_n F dX0_storeysOf_8 rfl rfl (np := 9) rfl ?_
  refine g_runV F (C := RX4) (ci := 4) (T0 := TX4) (N := 7) (rest := []) (ct_X4_isOpenW (hid σ nm0 km0 kd0) p d (by first | assumption | omega)) (lw_V q820 q821 q822 q104 q823) hcV_X4_isOpen ⟨Nat.le_of_ble_eq_true rfl, Nat.le_of_ble_eq_true rfl⟩ rfl (fun h hs => ⟨_, hs.prm (show p < σ.1 2 by omega)⟩) rfl rfl (Nat.le_of_ble_eq_true rfl) dX0_storeysOf_9 ⟨Nat.le_of_ble_eq_true rfl, Nat.le_of_ble_eq_true rfl⟩ (np := 12) rfl (k_RI ?_)
  refine g_if_neB F dX0_storeysOf_12 (tp := 17) (by decide) (np := 15) rfl (fun c12 => ?_) (fun c12 => ?_)
  · have J42 : ∀ (is : Int32), (is = mP σ p 2 / nI 20 + nI 1 + (if mP σ p 3 = nI 2 then nI 1 else nI 0)) → WG zp l ze ({ frames := 202, cells := 0, slots := 0, locals := 4644 } : Room) zs zm za zb zt zc D B 5 (MQ zb (QT D B T) za zs 0 0 (zA B)) (XW D Λ I ((hid σ nm0 km0 kd0))) 0 0 42 [some (.ref (Λ.1 0 38)), some (.int (nI p)), some (.int (nI d)), some (.ref (Λ.1 2 p)), some (.int is)] [] := by
      intro is k1
      refine g_aload_n F dX0_storeysOf_42 rfl rfl (np := 43) rfl ?_
      refine w_get F (k := 11) (v := va_rf (Λ.2 11 0)) (by decide) rfl (Or.inl q190) dX0_storeysOf_43 (np := 46) rfl ?_
      rcases ho46 : Λ.2 11 0 with _ | a46
      · refine WG.eqv (st' := [.null]) (by first | rfl | (rw [ho46]; rfl)) (lv' := [some (.ref (Λ.1 0 38)), some (.int (nI p)), some (.int (nI d)), some (.ref (Λ.1 2 p)), some (.int is)]) (by first | rfl | (simp only [ho46]; rfl)) ?_
        refine g_ifnullN F dX0_storeysOf_46 (np := 165) (by decide) ?_
        refine g_iconst F (v := (nI 0)) dX0_storeysOf_165 (by decide) (np := 166) rfl ?_
        refine g_bipush F (v := (nI 9)) dX0_storeysOf_166 (by decide) (np := 168) rfl ?_
        refine g_iload F dX0_storeysOf_168 rfl (np := 170) rfl ?_
        refine g_min F (rest := [.int (nI 0)]) q861 (by decide) (by decide) (Nat.le_of_ble_eq_true rfl) (Nat.le_of_ble_eq_true rfl) dX0_storeysOf_170 (np := 173) rfl ?_
        refine g_max F (rest := []) q828 (by decide) (by decide) (Nat.le_of_ble_eq_true rfl) (Nat.le_of_ble_eq_true rfl) dX0_storeysOf_173 (np := 176) rfl ?_
        refine WG.weak (S' := XH D Λ I L σ) (fun h hs => ⟨_, km0, kd0, hXR.nm, hs⟩) ?_
        have hv : jmax (nI (0)) (jmin (nI (9)) is) = sSt (mV σ L) d p := by unfold sSt; rw [pif_t (show sOpen (mV σ L).1 d p from c12)]; first | (rw [show sRaw (mV σ L) d p = sLines (sNames (mV σ L) d p) ls from by unfold sRaw; rw [hLs]; rfl]; done) | (rw [show sRaw (mV σ L) d p = is from by rw [k1, show L = none from (law_null hXR).mp ho46]; rfl])
        exact g_iret F hr rfl (Nat.le_of_ble_eq_true rfl) (Nat.le_of_ble_eq_true rfl) dX0_storeysOf_176 (fun h hs => by rw [← hT]; exact ⟨congrArg (fun z => some (Value.int z)) hv, hs⟩)
      · refine WG.eqv (st' := [.ref (a46)]) (by first | rfl | (rw [ho46]; rfl)) (lv' := [some (.ref (Λ.1 0 38)), some (.int (nI p)), some (.int (nI d)), some (.ref (Λ.1 2 p)), some (.int is)]) (by first | rfl | (simp only [ho46]; rfl)) ?_
        refine g_ifnull F dX0_storeysOf_46 (np := 49) rfl ?_
        obtain ⟨ls, hLs⟩ : ∃ ls, L = some ls := by
          cases L with
          | none => rw [(law_null hXR).mpr rfl] at ho46; cases ho46
          | some ls => exact ⟨ls, rfl⟩
        refine g_aload_n F dX0_storeysOf_49 rfl rfl (np := 50) rfl ?_
        refine w_get F (k := 12) (v := .ref (Λ.1 0 12)) (by decide) rfl (Or.inl q191) dX0_storeysOf_50 (np := 53) rfl ?_
        refine g_runV F (C := RX1) (ci := 1) (T0 := TX1) (N := 1) (rest := []) (ct_X1_clear ((hid σ nm0 km0 kd0)) ) (lw_V q824 q825 q826 q101 q827) hcV_X1_clear ⟨Nat.le_of_ble_eq_true rfl, Nat.le_of_ble_eq_true rfl⟩ rfl (fun h hs => ⟨_, hs.facts⟩) rfl rfl (Nat.le_of_ble_eq_true rfl) dX0_storeysOf_53 ⟨Nat.le_of_ble_eq_true rfl, Nat.le_of_ble_eq_true rfl⟩ (np := 56) rfl (k_RV ?_)
        obtain ⟨f0, hf0⟩ : ∃ f : Nat → Int32, cpS (hid σ nm0 km0 kd0) 52 (fun j => if j < 128 then 0 else (hid σ nm0 km0 kd0).2.1 52 j) = hid σ f km0 kd0 := ⟨_, hid_cp52 _ _ _ _ _⟩
        refine WG.weak (S' := XW D Λ I (hid σ f0 km0 kd0)) (fun h hs => by rw [show (hid σ f0 km0 kd0) = (cpS ((hid σ nm0 km0 kd0)) 52 (fun j => if j < 128 then 0 else ((hid σ nm0 km0 kd0)).2.1 52 j)) from by exact hf0.symm]; exact hs) ?_
        refine g_aload_n F dX0_storeysOf_56 rfl rfl (np := 57) rfl ?_
        refine w_get F (k := 12) (v := .ref (Λ.1 0 12)) (by decide) rfl (Or.inl q191) dX0_storeysOf_57 (np := 60) rfl ?_
        refine g_getL F in_X1 (ci := 1) rfl 0 (by decide) rfl (Or.inr ⟨_, ze167⟩) (v := .ref (Λ.1 0 39)) (fun h hs => ⟨_, hs.facts, rfl⟩) dX0_storeysOf_60 (np := 63) rfl ?_
        refine g_bipush F (v := (nI 119)) dX0_storeysOf_63 (by decide) (np := 65) rfl ?_
        refine g_aload_n F dX0_storeysOf_65 rfl rfl (np := 66) rfl ?_
        refine w_getP F (k := 2) (i := p) (v := .int (σ.2.1 3 p)) (by decide) (show p < σ.1 2 by omega) rfl (Or.inr ⟨_, ze337⟩) dX0_storeysOf_66 (np := 69) rfl ?_
        refine w_iast F (J := 39) (a := 52) (i := 119) (n := 128) (Or.inr (Or.inr (Or.inr ⟨rfl, rfl⟩))) (fun _ => rfl) (by decide) (by omega) rfl dX0_storeysOf_69 (np := 70) rfl ?_
        refine WG.weak (S' := XW D Λ I (hid σ (va_up f0 119 (σ.2.1 3 p)) km0 kd0)) (fun h hs => by rw [← hid_s52]; exact hs) ?_
        refine g_aload_n F dX0_storeysOf_70 rfl rfl (np := 71) rfl ?_
        refine w_get F (k := 12) (v := .ref (Λ.1 0 12)) (by decide) rfl (Or.inl q191) dX0_storeysOf_71 (np := 74) rfl ?_
        refine g_getL F in_X1 (ci := 1) rfl 0 (by decide) rfl (Or.inr ⟨_, ze167⟩) (v := .ref (Λ.1 0 39)) (fun h hs => ⟨_, hs.facts, rfl⟩) dX0_storeysOf_74 (np := 77) rfl ?_
        refine g_bipush F (v := (nI 100)) dX0_storeysOf_77 (by decide) (np := 79) rfl ?_
        refine g_iconst F (v := (nI 0)) dX0_storeysOf_79 (by decide) (np := 80) rfl ?_
        refine g_iload_n F dX0_storeysOf_80 rfl rfl (np := 81) rfl ?_
        refine g_aload_n F dX0_storeysOf_81 rfl rfl (np := 82) rfl ?_
        refine w_getP F (k := 5) (i := p) (v := .int (σ.2.1 3 (45 + p))) (by decide) (show p < σ.1 2 by omega) rfl (Or.inr ⟨_, ze343⟩) dX0_storeysOf_82 (np := 85) rfl ?_
        refine g_isub F dX0_storeysOf_85 (np := 86) rfl ?_
        refine g_max F (rest := [.int (nI 100), .ref (Λ.1 0 39)]) q828 (by decide) (by decide) (Nat.le_of_ble_eq_true rfl) (Nat.le_of_ble_eq_true rfl) dX0_storeysOf_86 (np := 89) rfl ?_
        refine w_iast F (J := 39) (a := 52) (i := 100) (n := 128) (Or.inr (Or.inr (Or.inr ⟨rfl, rfl⟩))) (fun _ => rfl) (by decide) (by omega) rfl dX0_storeysOf_89 (np := 90) rfl ?_
        refine WG.weak (S' := XW D Λ I (hid σ (va_up (va_up f0 119 (σ.2.1 3 p)) 100 (jmax (nI (0)) ((nI (d)) - (σ.2.1 3 (45 + p))))) km0 kd0)) (fun h hs => by rw [← hid_s52]; exact hs) ?_
        refine g_aload_n F dX0_storeysOf_90 rfl rfl (np := 91) rfl ?_
        refine w_get F (k := 12) (v := .ref (Λ.1 0 12)) (by decide) rfl (Or.inl q191) dX0_storeysOf_91 (np := 94) rfl ?_
        refine g_getL F in_X1 (ci := 1) rfl 0 (by decide) rfl (Or.inr ⟨_, ze167⟩) (v := .ref (Λ.1 0 39)) (fun h hs => ⟨_, hs.facts, rfl⟩) dX0_storeysOf_94 (np := 97) rfl ?_
        refine g_bipush F (v := (nI 108)) dX0_storeysOf_97 (by decide) (np := 99) rfl ?_
        refine g_aload_n F dX0_storeysOf_99 rfl rfl (np := 100) rfl ?_
        refine w_getP F (k := 4) (i := p) (v := .int (σ.2.1 3 (30 + p))) (by decide) (show p < σ.1 2 by omega) rfl (Or.inr ⟨_, ze341⟩) dX0_storeysOf_100 (np := 103) rfl ?_
        refine w_iast F (J := 39) (a := 52) (i := 108) (n := 128) (Or.inr (Or.inr (Or.inr ⟨rfl, rfl⟩))) (fun _ => rfl) (by decide) (by omega) rfl dX0_storeysOf_103 (np := 104) rfl ?_
        refine WG.weak (S' := XW D Λ I (hid σ (va_up (va_up (va_up f0 119 (σ.2.1 3 p)) 100 (jmax (nI (0)) ((nI (d)) - (σ.2.1 3 (45 + p))))) 108 (σ.2.1 3 (30 + p))) km0 kd0)) (fun h hs => by rw [← hid_s52]; exact hs) ?_
        refine g_aload_n F dX0_storeysOf_104 rfl rfl (np := 105) rfl ?_
        refine w_get F (k := 12) (v := .ref (Λ.1 0 12)) (by decide) rfl (Or.inl q191) dX0_storeysOf_105 (np := 108) rfl ?_
        refine g_getL F in_X1 (ci := 1) rfl 0 (by decide) rfl (Or.inr ⟨_, ze167⟩) (v := .ref (Λ.1 0 39)) (fun h hs => ⟨_, hs.facts, rfl⟩) dX0_storeysOf_108 (np := 111) rfl ?_
        refine g_bipush F (v := (nI 107)) dX0_storeysOf_111 (by decide) (np := 113) rfl ?_
        refine g_aload_n F dX0_storeysOf_113 rfl rfl (np := 114) rfl ?_
        refine w_getP F (k := 3) (i := p) (v := .int (σ.2.1 3 (15 + p))) (by decide) (show p < σ.1 2 by omega) rfl (Or.inr ⟨_, ze339⟩) dX0_storeysOf_114 (np := 117) rfl ?_
        refine w_iast F (J := 39) (a := 52) (i := 107) (n := 128) (Or.inr (Or.inr (Or.inr ⟨rfl, rfl⟩))) (fun _ => rfl) (by decide) (by omega) rfl dX0_storeysOf_117 (np := 118) rfl ?_
        refine WG.weak (S' := XW D Λ I (hid σ (va_up (va_up (va_up (va_up f0 119 (σ.2.1 3 p)) 100 (jmax (nI (0)) ((nI (d)) - (σ.2.1 3 (45 + p))))) 108 (σ.2.1 3 (30 + p))) 107 (σ.2.1 3 (15 + p))) km0 kd0)) (fun h hs => by rw [← hid_s52]; exact hs) ?_
        refine g_aload_n F dX0_storeysOf_118 rfl rfl (np := 119) rfl ?_
        refine w_get F (k := 12) (v := .ref (Λ.1 0 12)) (by decide) rfl (Or.inl q191) dX0_storeysOf_119 (np := 122) rfl ?_
        refine g_getL F in_X1 (ci := 1) rfl 0 (by decide) rfl (Or.inr ⟨_, ze167⟩) (v := .ref (Λ.1 0 39)) (fun h hs => ⟨_, hs.facts, rfl⟩) dX0_storeysOf_122 (np := 125) rfl ?_
        refine g_bipush F (v := (nI 109)) dX0_storeysOf_125 (by decide) (np := 127) rfl ?_
        refine g_aload_n F dX0_storeysOf_127 rfl rfl (np := 128) rfl ?_
        refine w_get F (k := 0) (v := .ref (Λ.1 0 0)) (by decide) rfl (Or.inl q177) dX0_storeysOf_128 (np := 131) rfl ?_
        refine g_aload_n F dX0_storeysOf_131 rfl rfl (np := 132) rfl ?_
        refine w_getP F (k := 0) (i := p) (v := .int (σ.2.1 4 p)) (by decide) (show p < σ.1 2 by omega) rfl (Or.inr ⟨_, ze333⟩) dX0_storeysOf_132 (np := 135) rfl ?_
        refine WG.eqv (st' := [.int (nI o0), .ref (Λ.1 0 0), .int (nI 109), .ref (Λ.1 0 39)]) (congrArg (fun z => ([.int z, .ref (Λ.1 0 0), .int (nI 109), .ref (Λ.1 0 39)] : List Value)) (show (σ.2.1 4 p) = (nI o0) from by exact eo0)) rfl ?_
        refine w_aldO F (i := o0) rfl hXR.1 (show o0 < σ.1 0 by omega) (show σ.1 0 ≤ 8 by omega) dX0_storeysOf_135 (np := 136) rfl ?_
        refine w_getO F (i := o0) (v := σ.2.1 1 o0) (show o0 < σ.1 0 by omega) rfl (Or.inr ⟨_, ze307⟩) dX0_storeysOf_136 (np := 139) rfl ?_
        refine w_iast F (J := 39) (a := 52) (i := 109) (n := 128) (Or.inr (Or.inr (Or.inr ⟨rfl, rfl⟩))) (fun _ => rfl) (by decide) (by omega) rfl dX0_storeysOf_139 (np := 140) rfl ?_
        refine WG.weak (S' := XW D Λ I (hid σ (va_up (va_up (va_up (va_up (va_up f0 119 (σ.2.1 3 p)) 100 (jmax (nI (0)) ((nI (d)) - (σ.2.1 3 (45 + p))))) 108 (σ.2.1 3 (30 + p))) 107 (σ.2.1 3 (15 + p))) 109 (σ.2.1 1 o0)) km0 kd0)) (fun h hs => by rw [← hid_s52]; exact hs) ?_
        refine g_aload_n F dX0_storeysOf_140 rfl rfl (np := 141) rfl ?_
        refine w_get F (k := 12) (v := .ref (Λ.1 0 12)) (by decide) rfl (Or.inl q191) dX0_storeysOf_141 (np := 144) rfl ?_
        refine g_getL F in_X1 (ci := 1) rfl 0 (by decide) rfl (Or.inr ⟨_, ze167⟩) (v := .ref (Λ.1 0 39)) (fun h hs => ⟨_, hs.facts, rfl⟩) dX0_storeysOf_144 (np := 147) rfl ?_
        refine g_bipush F (v := (nI 110)) dX0_storeysOf_147 (by decide) (np := 149) rfl ?_
        refine g_aload_n F dX0_storeysOf_149 rfl rfl (np := 150) rfl ?_
        refine g_aload_n F dX0_storeysOf_150 rfl rfl (np := 151) rfl ?_
        refine w_getP F (k := 0) (i := p) (v := .int (σ.2.1 4 p)) (by decide) (show p < σ.1 2 by omega) rfl (Or.inr ⟨_, ze333⟩) dX0_storeysOf_151 (np := 154) rfl ?_
        refine g_iload_n F dX0_storeysOf_154 rfl rfl (np := 155) rfl ?_
        refine g_runV F (C := RX0) (ci := 0) (T0 := TX0) (N := 38) (rest := [.int (nI 110), .ref (Λ.1 0 39)]) (ct_X0_openBy (hid σ (va_up (va_up (va_up (va_up (va_up f0 119 (σ.2.1 3 p)) 100 (jmax (nI (0)) ((nI (d)) - (σ.2.1 3 (45 + p))))) 108 (σ.2.1 3 (30 + p))) 107 (σ.2.1 3 (15 + p))) 109 (σ.2.1 1 o0)) km0 kd0) L (σ.2.1 4 p) d (by exact hXR.nm) (by exact hm14)) (lw_V q829 q831 qs23 q100 q832) hcV_X0_openBy ⟨Nat.le_of_ble_eq_true rfl, Nat.le_of_ble_eq_true rfl⟩ rfl (fun h hs => hs.obj) rfl rfl (Nat.le_of_ble_eq_true rfl) dX0_storeysOf_155 ⟨Nat.le_of_ble_eq_true rfl, Nat.le_of_ble_eq_true rfl⟩ (np := 158) rfl (k_RI ?_)
        refine w_iast F (J := 39) (a := 52) (i := 110) (n := 128) (Or.inr (Or.inr (Or.inr ⟨rfl, rfl⟩))) (fun _ => rfl) (by decide) (by omega) rfl dX0_storeysOf_158 (np := 159) rfl ?_
        refine WG.weak (S' := XW D Λ I (hid σ (va_up (va_up (va_up (va_up (va_up (va_up f0 119 (σ.2.1 3 p)) 100 (jmax (nI (0)) ((nI (d)) - (σ.2.1 3 (45 + p))))) 108 (σ.2.1 3 (30 + p))) 107 (σ.2.1 3 (15 + p))) 109 (σ.2.1 1 o0)) 110 (nI (sCnt (mP (hid σ (va_up (va_up (va_up (va_up (va_up f0 119 (σ.2.1 3 p)) 100 (jmax (nI (0)) ((nI (d)) - (σ.2.1 3 (45 + p))))) 108 (σ.2.1 3 (30 + p))) 107 (σ.2.1 3 (15 + p))) 109 (σ.2.1 1 o0)) km0 kd0)) d (σ.2.1 4 p) ((hid σ (va_up (va_up (va_up (va_up (va_up f0 119 (σ.2.1 3 p)) 100 (jmax (nI (0)) ((nI (d)) - (σ.2.1 3 (45 + p))))) 108 (σ.2.1 3 (30 + p))) 107 (σ.2.1 3 (15 + p))) 109 (σ.2.1 1 o0)) km0 kd0).1 2)))) km0 kd0)) (fun h hs => by rw [← hid_s52]; exact hs) ?_
        obtain ⟨nmF, hnF⟩ : ∃ f, f = (va_up (va_up (va_up (va_up (va_up (va_up f0 119 (σ.2.1 3 p)) 100 (jmax (nI (0)) ((nI (d)) - (σ.2.1 3 (45 + p))))) 108 (σ.2.1 3 (30 + p))) 107 (σ.2.1 3 (15 + p))) 109 (σ.2.1 1 o0)) 110 (nI (sCnt (mP (hid σ (va_up (va_up (va_up (va_up (va_up f0 119 (σ.2.1 3 p)) 100 (jmax (nI (0)) ((nI (d)) - (σ.2.1 3 (45 + p))))) 108 (σ.2.1 3 (30 + p))) 107 (σ.2.1 3 (15 + p))) 109 (σ.2.1 1 o0)) km0 kd0)) d (σ.2.1 4 p) ((hid σ (va_up (va_up (va_up (va_up (va_up f0 119 (σ.2.1 3 p)) 100 (jmax (nI (0)) ((nI (d)) - (σ.2.1 3 (45 + p))))) 108 (σ.2.1 3 (30 + p))) 107 (σ.2.1 3 (15 + p))) 109 (σ.2.1 1 o0)) km0 kd0).1 2)))) := ⟨_, rfl⟩
        rw [← hnF]
        have hnm : ∀ k, k ≤ 5 → sNames (mV σ L) d p k = nmF (letC k) := by
          intro k hk
          rw [hnF]
          rcases (show k = 0 ∨ k = 1 ∨ k = 2 ∨ k = 3 ∨ k = 4 ∨ k = 5 by omega) with rfl | rfl | rfl | rfl | rfl | rfl
          · show mP σ p 2 = _; rw [mP_2]; rfl
          · rfl
          · rfl
          · rfl
          · show σ.2.1 1 (σ.2.1 4 p).toNatClampNeg = σ.2.1 1 o0; rw [eo0, nI_clamp (by omega)]
          · rfl
        refine g_aload_n F dX0_storeysOf_159 rfl rfl (np := 160) rfl ?_
        refine g_runV F (C := RX0) (ci := 0) (T0 := TX0) (N := 38) (rest := []) (ct_X0_gives (hid σ nmF km0 kd0) ls (sNames (mV σ L) d p) (by exact law_ls (hLs ▸ hXR)) (by exact hnm)) (lw_V q833 q835 qs24 q100 q836) hcV_X0_gives ⟨Nat.le_of_ble_eq_true rfl, Nat.le_of_ble_eq_true rfl⟩ rfl (fun h hs => hs.obj) rfl rfl (Nat.le_of_ble_eq_true rfl) dX0_storeysOf_160 ⟨Nat.le_of_ble_eq_true rfl, Nat.le_of_ble_eq_true rfl⟩ (np := 163) rfl (k_RI ?_)
        refine g_istore F (lv' := [some (.ref (Λ.1 0 38)), some (.int (nI p)), some (.int (nI d)), some (.ref (Λ.1 2 p)), some (.int (sLines (sNames (mV σ L) d p) ls))]) dX0_storeysOf_163 (by decide) rfl rfl (np := 165) rfl ?_
        refine g_iconst F (v := (nI 0)) dX0_storeysOf_165 (by decide) (np := 166) rfl ?_
        refine g_bipush F (v := (nI 9)) dX0_storeysOf_166 (by decide) (np := 168) rfl ?_
        refine g_iload F dX0_storeysOf_168 rfl (np := 170) rfl ?_
        refine g_min F (rest := [.int (nI 0)]) q861 (by decide) (by decide) (Nat.le_of_ble_eq_true rfl) (Nat.le_of_ble_eq_true rfl) dX0_storeysOf_170 (np := 173) rfl ?_
        refine g_max F (rest := []) q828 (by decide) (by decide) (Nat.le_of_ble_eq_true rfl) (Nat.le_of_ble_eq_true rfl) dX0_storeysOf_173 (np := 176) rfl ?_
        refine WG.weak (S' := XH D Λ I L σ) (fun h hs => ⟨_, km0, kd0, hXR.nm, hs⟩) ?_
        have hv : jmax (nI (0)) (jmin (nI (9)) (sLines (sNames (mV σ L) d p) ls)) = sSt (mV σ L) d p := by unfold sSt; rw [pif_t (show sOpen (mV σ L).1 d p from c12)]; first | (rw [show sRaw (mV σ L) d p = sLines (sNames (mV σ L) d p) ls from by unfold sRaw; rw [hLs]; rfl]; done) | (rw [show sRaw (mV σ L) d p = is from by rw [k1, show L = none from (law_null hXR).mp ho46]; rfl])
        exact g_iret F hr rfl (Nat.le_of_ble_eq_true rfl) (Nat.le_of_ble_eq_true rfl) dX0_storeysOf_176 (fun h hs => by rw [← hT]; exact ⟨congrArg (fun z => some (Value.int z)) hv, hs⟩)
    refine g_aload_n F dX0_storeysOf_17 rfl rfl (np := 18) rfl ?_
    refine w_getP F (k := 2) (i := p) (v := .int (σ.2.1 3 p)) (by decide) (show p < σ.1 2 by omega) rfl (Or.inr ⟨_, ze337⟩) dX0_storeysOf_18 (np := 21) rfl ?_
    refine g_bipush F (v := (nI 20)) dX0_storeysOf_21 (by decide) (np := 23) rfl ?_
    refine g_idiv F dX0_storeysOf_23 (by decide) (np := 24) rfl ?_
    refine g_iconst F (v := (nI 1)) dX0_storeysOf_24 (by decide) (np := 25) rfl ?_
    refine g_iadd F dX0_storeysOf_25 (np := 26) rfl ?_
    refine g_aload_n F dX0_storeysOf_26 rfl rfl (np := 27) rfl ?_
    refine w_getP F (k := 3) (i := p) (v := .int (σ.2.1 3 (15 + p))) (by decide) (show p < σ.1 2 by omega) rfl (Or.inr ⟨_, ze339⟩) dX0_storeysOf_27 (np := 30) rfl ?_
    refine g_iconst F (v := (nI 2)) dX0_storeysOf_30 (by decide) (np := 31) rfl ?_
    refine g_icmp_ne F dX0_storeysOf_31 (tp := 38) (by decide) (np := 34) rfl (fun c31 => ?_) (fun c31 => ?_)
    · refine g_iconst F (v := (nI 0)) dX0_storeysOf_38 (by decide) (np := 39) rfl ?_
      refine g_iadd F dX0_storeysOf_39 (np := 40) rfl ?_
      refine g_istore F (lv' := [some (.ref (Λ.1 0 38)), some (.int (nI p)), some (.int (nI d)), some (.ref (Λ.1 2 p)), some (.int ((((σ.2.1 3 p) / (nI (20))) + (nI (1))) + (nI (0))))]) dX0_storeysOf_40 (by decide) rfl rfl (np := 42) rfl ?_
      exact J42 ((((σ.2.1 3 p) / (nI (20))) + (nI (1))) + (nI (0))) (by rw [mP_2, mP_3]; first | (rw [if_pos c31]; done) | (rw [if_neg c31]))
    · refine g_iconst F (v := (nI 1)) dX0_storeysOf_34 (by decide) (np := 35) rfl ?_
      refine g_goto F dX0_storeysOf_35 (np := 39) (by decide) ?_
      refine g_iadd F dX0_storeysOf_39 (np := 40) rfl ?_
      refine g_istore F (lv' := [some (.ref (Λ.1 0 38)), some (.int (nI p)), some (.int (nI d)), some (.ref (Λ.1 2 p)), some (.int ((((σ.2.1 3 p) / (nI (20))) + (nI (1))) + (nI (1))))]) dX0_storeysOf_40 (by decide) rfl rfl (np := 42) rfl ?_
      exact J42 ((((σ.2.1 3 p) / (nI (20))) + (nI (1))) + (nI (1))) (by rw [mP_2, mP_3]; first | (rw [if_pos c31]; done) | (rw [if_neg c31]))
  · refine WG.weak (S' := XH D Λ I L σ) (fun h hs => ⟨nm0, km0, kd0, hXR, hs⟩) ?_
    refine g_iconst F (v := (nI 0)) dX0_storeysOf_15 (by decide) (np := 16) rfl ?_
    have hv : nI (0) = sSt (mV σ L) d p := by unfold sSt; rw [pif_f (show ¬ sOpen (mV σ L).1 d p from c12)]; rfl
    exact g_iret F hr rfl (Nat.le_of_ble_eq_true rfl) (Nat.le_of_ble_eq_true rfl) dX0_storeysOf_16 (fun h hs => by rw [← hT]; exact ⟨congrArg (fun z => some (Value.int z)) hv, hs⟩)

set_option maxRecDepth 100000 in
theorem ct_X0_highOf {l : Launch} {D : va_G} {B : Nat} {Λ : LT} {I : AH} {L : LawT} (σ : MSt)  (o : Int32) (d : Nat) (hok : mOK σ L) (hm14 : σ.1 2 ≤ 14) (hbO : byOK σ) : Ct l D ZE B yX0_highOf cX0_highOf 5 (some .int) 203 4668 0 0 [.ref (Λ.1 0 38), .int o, .int (nI d)] (XH D Λ I L σ) (RI (sHigh (mV σ L) d o) (XH D Λ I L σ)) := by
  refine Ct.of (nL := 5) (lv := [some (.ref (Λ.1 0 38)), some (.int o), some (.int (nI d)), none, none]) (by decide) (Nat.le_of_ble_eq_true rfl) stZE 2 rfl ?_
  generalize hT : RI (sHigh (mV σ L) d o) (XH D Λ I L σ) = T
  intro zp ze zs zm zb zt zc F hr hnm
  generalize ([.ref (Λ.1 0 38), .int o, .int (nI d)] : List Value).toArray = za at F ⊢
  have hok2 := hok
  obtain ⟨ho8, hm15, ht99, hby, hlaw⟩ := hok2
  refine g_iconst F (v := (nI 0)) dX0_highOf_0 (by decide) (np := 1) rfl ?_
  refine g_istore_n F (lv' := [some (.ref (Λ.1 0 38)), some (.int o), some (.int (nI d)), some (.int (nI 0)), none]) dX0_highOf_1 rfl (by decide) rfl rfl (np := 2) rfl ?_
  refine g_iconst F (v := (nI 0)) dX0_highOf_2 (by decide) (np := 3) rfl ?_
  refine g_istore F (lv' := [some (.ref (Λ.1 0 38)), some (.int o), some (.int (nI d)), some (.int (nI 0)), some (.int (nI 0))]) dX0_highOf_3 (by decide) rfl rfl (np := 5) rfl ?_
  have L5 : ∀ (zn : Nat) (a : Int32) (p : Nat), (a = sMaxN (mV σ L) d o p) → (p ≤ σ.1 2) → σ.1 2 - p < zn → WG zp l ze ({ frames := 203, cells := 0, slots := 0, locals := 4668 } : Room) zs zm za zb zt zc D B 5 (MQ zb (QT D B T) za zs 0 0 (zA B)) (XH D Λ I L σ) 0 0 5 [some (.ref (Λ.1 0 38)), some (.int o), some (.int (nI d)), some (.int a), some (.int (nI p))] [] := by
    intro zn
    induction zn with
    | zero => intro a p h1 h2 hm; exact absurd hm (Nat.not_lt_zero _)
    | succ zn ih5 =>
      intro a p h1 h2 hm
      refine g_iload F dX0_highOf_5 rfl (np := 7) rfl ?_
      refine g_aload_n F dX0_highOf_7 rfl rfl (np := 8) rfl ?_
      refine x_get F (k := 3) (v := .int (nI (σ.1 2))) (by decide) rfl (Or.inl q180) dX0_highOf_8 (np := 11) rfl ?_
      refine g_icmp_geN F (by omega) (by omega) dX0_highOf_11 (tp := 46) (by decide) (np := 14) rfl (fun c11 => ?_) (fun c11 => ?_)
      · refine g_iload_n F dX0_highOf_46 rfl rfl (np := 47) rfl ?_
        have hv : a = sHigh (mV σ L) d o := by rw [h1, show p = σ.1 2 by omega]; exact sMaxN_high (mV σ L) d o
        exact g_iret F hr rfl (Nat.le_of_ble_eq_true rfl) (Nat.le_of_ble_eq_true rfl) dX0_highOf_47 (fun h hs => by rw [← hT]; exact ⟨congrArg (fun z => some (Value.int z)) hv, hs⟩)
      · refine g_aload_n F dX0_highOf_14 rfl rfl (np := 15) rfl ?_
        refine x_get F (k := 1) (v := .ref (Λ.1 0 1)) (by decide) rfl (Or.inl q178) dX0_highOf_15 (np := 18) rfl ?_
        refine g_iload F dX0_highOf_18 rfl (np := 20) rfl ?_
        refine x_aldP F (i := p) rfl (show p < σ.1 2 by omega) (show σ.1 2 ≤ 14 by omega) dX0_highOf_20 (np := 21) rfl ?_
        refine x_getP F (k := 0) (i := p) (v := .int (σ.2.1 4 p)) (by decide) (show p < σ.1 2 by omega) rfl (Or.inr ⟨_, ze333⟩) dX0_highOf_21 (np := 24) rfl ?_
        refine g_iload_n F dX0_highOf_24 rfl rfl (np := 25) rfl ?_
        refine g_icmp_ne F dX0_highOf_25 (tp := 40) (by decide) (np := 28) rfl (fun c25 => ?_) (fun c25 => ?_)
        · refine g_iinc F (v := (nI (p + 1))) (lv' := [some (.ref (Λ.1 0 38)), some (.int o), some (.int (nI d)), some (.int a), some (.int (nI (p + 1)))]) dX0_highOf_40 rfl (nI_add _ _) (by decide) rfl rfl (np := 43) rfl ?_
          refine g_goto F dX0_highOf_43 (np := 5) (by decide) ?_
          exact ih5 a (p + 1) (by first | (show _ = if mP σ p 0 = o then _ else _; rw [if_pos (show mP σ p 0 = o from c25), h1]; done) | (show _ = if mP σ p 0 = o then _ else _; rw [if_neg (show ¬ mP σ p 0 = o from c25), h1]; done)) (by first | assumption | omega) (by omega)
        · refine g_iload_n F dX0_highOf_28 rfl rfl (np := 29) rfl ?_
          refine g_aload_n F dX0_highOf_29 rfl rfl (np := 30) rfl ?_
          refine g_iload F dX0_highOf_30 rfl (np := 32) rfl ?_
          refine g_iload_n F dX0_highOf_32 rfl rfl (np := 33) rfl ?_
          refine g_runV F (C := RX0) (ci := 0) (T0 := TX0) (N := 38) (rest := [.int a]) (ct_X0_storeysOf σ p d (by first | assumption | omega) (by first | assumption | omega) (by first | assumption | omega) (by first | assumption | omega)) (lw_V q816 q818 qs22 q100 q819) hcV_X0_storeysOf ⟨Nat.le_of_ble_eq_true rfl, Nat.le_of_ble_eq_true rfl⟩ rfl (fun h hs => hs.obj) rfl rfl (Nat.le_of_ble_eq_true rfl) dX0_highOf_33 ⟨Nat.le_of_ble_eq_true rfl, Nat.le_of_ble_eq_true rfl⟩ (np := 36) rfl (k_RI ?_)
          refine g_max F (rest := []) q828 (by decide) (by decide) (Nat.le_of_ble_eq_true rfl) (Nat.le_of_ble_eq_true rfl) dX0_highOf_36 (np := 39) rfl ?_
          refine g_istore_n F (lv' := [some (.ref (Λ.1 0 38)), some (.int o), some (.int (nI d)), some (.int (jmax a (sSt (mV σ L) d p))), some (.int (nI p))]) dX0_highOf_39 rfl (by decide) rfl rfl (np := 40) rfl ?_
          refine g_iinc F (v := (nI (p + 1))) (lv' := [some (.ref (Λ.1 0 38)), some (.int o), some (.int (nI d)), some (.int (jmax a (sSt (mV σ L) d p))), some (.int (nI (p + 1)))]) dX0_highOf_40 rfl (nI_add _ _) (by decide) rfl rfl (np := 43) rfl ?_
          refine g_goto F dX0_highOf_43 (np := 5) (by decide) ?_
          exact ih5 (jmax a (sSt (mV σ L) d p)) (p + 1) (by first | (show _ = if mP σ p 0 = o then _ else _; rw [if_pos (show mP σ p 0 = o from c25), h1]; done) | (show _ = if mP σ p 0 = o then _ else _; rw [if_neg (show ¬ mP σ p 0 = o from c25), h1]; done)) (by first | assumption | omega) (by omega)
  exact L5 _ (nI (0)) 0 (by rfl) (by omega) (Nat.lt_succ_self _)

set_option maxRecDepth 100000 in
theorem ct_X0_storeys {l : Launch} {D : va_G} {B : Nat} {Λ : LT} {I : AH} {L : LawT} (σ : MSt)  (p : Int32) (hok : mOK σ L) (hm14 : σ.1 2 ≤ 14) (hbO : byOK σ) : Ct l D ZE B yX0_storeys cX0_storeys 2 (some .int) 203 4668 0 0 [.ref (Λ.1 0 38), .int p] (XH D Λ I L σ) (RI (rStoreys (mV σ L) (σ.1 6) p) (XH D Λ I L σ)) := by
  refine Ct.of (nL := 2) (lv := [some (.ref (Λ.1 0 38)), some (.int p)]) (by decide) (Nat.le_of_ble_eq_true rfl) stZE 0 rfl ?_
  generalize hT : RI (rStoreys (mV σ L) (σ.1 6) p) (XH D Λ I L σ) = T
  intro zp ze zs zm zb zt zc F hr hnm
  generalize ([.ref (Λ.1 0 38), .int p] : List Value).toArray = za at F ⊢
  have hok2 := hok
  obtain ⟨ho8, hm15, ht99, hby, hlaw⟩ := hok2
  refine g_aload_n F dX0_storeys_0 rfl rfl (np := 1) rfl ?_
  refine g_iload_n F dX0_storeys_1 rfl rfl (np := 2) rfl ?_
  refine g_runV F (C := RX0) (ci := 0) (T0 := TX0) (N := 38) (rest := []) (ct_X0_isPromise σ p (by first | assumption | omega)) (lw_V q521 q523 qs7 q100 q524) hcV_X0_isPromise ⟨Nat.le_of_ble_eq_true rfl, Nat.le_of_ble_eq_true rfl⟩ rfl (fun h hs => hs.obj) rfl rfl (Nat.le_of_ble_eq_true rfl) dX0_storeys_2 ⟨Nat.le_of_ble_eq_true rfl, Nat.le_of_ble_eq_true rfl⟩ (np := 5) rfl (k_RI ?_)
  refine g_if_eqB F dX0_storeys_5 (tp := 20) (by decide) (np := 8) rfl (fun c5 => ?_) (fun c5 => ?_)
  · refine g_iconst F (v := (-1)) dX0_storeys_20 (by decide) (np := 21) rfl ?_
    have hv : -1 = rStoreys (mV σ L) (σ.1 6) p := by first | (unfold rStoreys; rw [pif_t (by assumption)]; done) | (unfold rStoreys; rw [pif_f (by assumption)]; done)
    exact g_iret F hr rfl (Nat.le_of_ble_eq_true rfl) (Nat.le_of_ble_eq_true rfl) dX0_storeys_21 (fun h hs => by rw [← hT]; exact ⟨congrArg (fun z => some (Value.int z)) hv, hs⟩)
  · obtain ⟨hpl, hpe⟩ := inN_cl (by omega) c5
    refine g_aload_n F dX0_storeys_8 rfl rfl (np := 9) rfl ?_
    refine g_iload_n F dX0_storeys_9 rfl rfl (np := 10) rfl ?_
    refine WG.eqv (st' := [.int (nI (p.toNatClampNeg)), .ref (Λ.1 0 38)]) (congrArg (fun z => ([.int z, .ref (Λ.1 0 38)] : List Value)) (show p = (nI (p.toNatClampNeg)) from by exact hpe)) rfl ?_
    refine g_aload_n F dX0_storeys_10 rfl rfl (np := 11) rfl ?_
    refine x_get F (k := 4) (v := .int (nI (σ.1 6))) (by decide) rfl (Or.inl q181) dX0_storeys_11 (np := 14) rfl ?_
    refine g_runV F (C := RX0) (ci := 0) (T0 := TX0) (N := 38) (rest := []) (ct_X0_storeysOf σ p.toNatClampNeg (σ.1 6) (by first | assumption | omega) (by first | assumption | omega) (by first | assumption | omega) (by first | assumption | omega)) (lw_V q816 q818 qs22 q100 q819) hcV_X0_storeysOf ⟨Nat.le_of_ble_eq_true rfl, Nat.le_of_ble_eq_true rfl⟩ rfl (fun h hs => hs.obj) rfl rfl (Nat.le_of_ble_eq_true rfl) dX0_storeys_14 ⟨Nat.le_of_ble_eq_true rfl, Nat.le_of_ble_eq_true rfl⟩ (np := 17) rfl (k_RI ?_)
    refine g_goto F dX0_storeys_17 (np := 21) (by decide) ?_
    have hv : sSt (mV σ L) (σ.1 6) p.toNatClampNeg = rStoreys (mV σ L) (σ.1 6) p := by first | (unfold rStoreys; rw [pif_t (by assumption)]; done) | (unfold rStoreys; rw [pif_f (by assumption)]; done)
    exact g_iret F hr rfl (Nat.le_of_ble_eq_true rfl) (Nat.le_of_ble_eq_true rfl) dX0_storeys_21 (fun h hs => by rw [← hT]; exact ⟨congrArg (fun z => some (Value.int z)) hv, hs⟩)

set_option maxRecDepth 100000 in
theorem ct_X0_allHigh {l : Launch} {D : va_G} {B : Nat} {Λ : LT} {I : AH} {L : LawT} (σ : MSt)  (d : Nat) (hok : mOK σ L) (hm14 : σ.1 2 ≤ 14) (hbO : byOK σ) : Ct l D ZE B yX0_allHigh cX0_allHigh 4 (some .int) 204 4692 0 0 [.ref (Λ.1 0 38), .int (nI d)] (XH D Λ I L σ) (RI (sAll (mV σ L) d (σ.1 0)) (XH D Λ I L σ)) := by
  refine Ct.of (nL := 4) (lv := [some (.ref (Λ.1 0 38)), some (.int (nI d)), none, none]) (by decide) (Nat.le_of_ble_eq_true rfl) stZE 2 rfl ?_
  generalize hT : RI (sAll (mV σ L) d (σ.1 0)) (XH D Λ I L σ) = T
  intro zp ze zs zm zb zt zc F hr hnm
  generalize ([.ref (Λ.1 0 38), .int (nI d)] : List Value).toArray = za at F ⊢
  have hok2 := hok
  obtain ⟨ho8, hm15, ht99, hby, hlaw⟩ := hok2
  refine g_iconst F (v := (nI 0)) dX0_allHigh_0 (by decide) (np := 1) rfl ?_
  refine g_istore_n F (lv' := [some (.ref (Λ.1 0 38)), some (.int (nI d)), some (.int (nI 0)), none]) dX0_allHigh_1 rfl (by decide) rfl rfl (np := 2) rfl ?_
  refine g_iconst F (v := (nI 0)) dX0_allHigh_2 (by decide) (np := 3) rfl ?_
  refine g_istore_n F (lv' := [some (.ref (Λ.1 0 38)), some (.int (nI d)), some (.int (nI 0)), some (.int (nI 0))]) dX0_allHigh_3 rfl (by decide) rfl rfl (np := 4) rfl ?_
  have L4 : ∀ (zn : Nat) (a : Int32) (o : Nat), (a = sAll (mV σ L) d o) → (o ≤ σ.1 0) → σ.1 0 - o < zn → WG zp l ze ({ frames := 204, cells := 0, slots := 0, locals := 4692 } : Room) zs zm za zb zt zc D B 4 (MQ zb (QT D B T) za zs 0 0 (zA B)) (XH D Λ I L σ) 0 0 4 [some (.ref (Λ.1 0 38)), some (.int (nI d)), some (.int a), some (.int (nI o))] [] := by
    intro zn
    induction zn with
    | zero => intro a o h1 h2 hm; exact absurd hm (Nat.not_lt_zero _)
    | succ zn ih4 =>
      intro a o h1 h2 hm
      refine g_iload_n F dX0_allHigh_4 rfl rfl (np := 5) rfl ?_
      refine g_aload_n F dX0_allHigh_5 rfl rfl (np := 6) rfl ?_
      refine x_get F (k := 2) (v := .int (nI (σ.1 0))) (by decide) rfl (Or.inl q179) dX0_allHigh_6 (np := 9) rfl ?_
      refine g_icmp_geN F (by omega) (by omega) dX0_allHigh_9 (tp := 27) (by decide) (np := 12) rfl (fun c9 => ?_) (fun c9 => ?_)
      · refine g_iload_n F dX0_allHigh_27 rfl rfl (np := 28) rfl ?_
        have hv : a = sAll (mV σ L) d (σ.1 0) := by rw [h1, show o = σ.1 0 by omega]
        exact g_iret F hr rfl (Nat.le_of_ble_eq_true rfl) (Nat.le_of_ble_eq_true rfl) dX0_allHigh_28 (fun h hs => by rw [← hT]; exact ⟨congrArg (fun z => some (Value.int z)) hv, hs⟩)
      · refine g_iload_n F dX0_allHigh_12 rfl rfl (np := 13) rfl ?_
        refine g_aload_n F dX0_allHigh_13 rfl rfl (np := 14) rfl ?_
        refine g_iload_n F dX0_allHigh_14 rfl rfl (np := 15) rfl ?_
        refine g_iload_n F dX0_allHigh_15 rfl rfl (np := 16) rfl ?_
        refine g_runV F (C := RX0) (ci := 0) (T0 := TX0) (N := 38) (rest := [.int a]) (ct_X0_highOf σ (nI (o)) d (by first | assumption | omega) (by first | assumption | omega) (by first | assumption | omega)) (lw_V q877 q879 qs27 q100 q880) hcV_X0_highOf ⟨Nat.le_of_ble_eq_true rfl, Nat.le_of_ble_eq_true rfl⟩ rfl (fun h hs => hs.obj) rfl rfl (Nat.le_of_ble_eq_true rfl) dX0_allHigh_16 ⟨Nat.le_of_ble_eq_true rfl, Nat.le_of_ble_eq_true rfl⟩ (np := 19) rfl (k_RI ?_)
        refine g_iadd F dX0_allHigh_19 (np := 20) rfl ?_
        refine g_istore_n F (lv' := [some (.ref (Λ.1 0 38)), some (.int (nI d)), some (.int (a + (sHigh (mV σ L) d (nI (o))))), some (.int (nI o))]) dX0_allHigh_20 rfl (by decide) rfl rfl (np := 21) rfl ?_
        refine g_iinc F (v := (nI (o + 1))) (lv' := [some (.ref (Λ.1 0 38)), some (.int (nI d)), some (.int (a + (sHigh (mV σ L) d (nI (o))))), some (.int (nI (o + 1)))]) dX0_allHigh_21 rfl (nI_add _ _) (by decide) rfl rfl (np := 24) rfl ?_
        refine g_goto F dX0_allHigh_24 (np := 4) (by decide) ?_
        exact ih4 (a + (sHigh (mV σ L) d (nI (o)))) (o + 1) (by rw [h1]; rfl) (by first | assumption | omega) (by omega)
  exact L4 _ (nI (0)) 0 (by rfl) (by omega) (Nat.lt_succ_self _)

set_option maxRecDepth 100000 in
theorem ct_X0_high {l : Launch} {D : va_G} {B : Nat} {Λ : LT} {I : AH} {L : LawT} (σ : MSt)  (n : Int32) (o : Int32) (hok : mOK σ L) (hm14 : σ.1 2 ≤ 14) (hbO : byOK σ) : Ct l D ZE B yX0_high cX0_high 3 (some .int) 205 4715 0 0 [.ref (Λ.1 0 38), .int n, .int o] (XH D Λ I L σ) (RI (rHigh (mV σ L) (σ.1 6) (σ.1 0) n o) (XH D Λ I L σ)) := by
  refine Ct.of (nL := 3) (lv := [some (.ref (Λ.1 0 38)), some (.int n), some (.int o)]) (by decide) (Nat.le_of_ble_eq_true rfl) stZE 0 rfl ?_
  generalize hT : RI (rHigh (mV σ L) (σ.1 6) (σ.1 0) n o) (XH D Λ I L σ) = T
  intro zp ze zs zm zb zt zc F hr hnm
  generalize ([.ref (Λ.1 0 38), .int n, .int o] : List Value).toArray = za at F ⊢
  have hok2 := hok
  obtain ⟨ho8, hm15, ht99, hby, hlaw⟩ := hok2
  have J22 : (inN n 100) → (o = -1 ∨ inN o (σ.1 0)) → WG zp l ze ({ frames := 205, cells := 0, slots := 0, locals := 4715 } : Room) zs zm za zb zt zc D B 3 (MQ zb (QT D B T) za zs 0 0 (zA B)) (XH D Λ I L σ) 0 0 22 [some (.ref (Λ.1 0 38)), some (.int n), some (.int o)] [] := by
    intro  k1 k2
    obtain ⟨hnl, hne⟩ := inN_cl (by decide) k1
    refine WG.eqv (lv' := [some (.ref (Λ.1 0 38)), some (.int (nI (n.toNatClampNeg))), some (.int o)]) rfl (congrArg (fun z => ([some (.ref (Λ.1 0 38)), some (.int z), some (.int o)] : List (Option Value))) (show n = (nI (n.toNatClampNeg)) from by exact hne)) ?_
    refine g_iload_n F dX0_high_22 rfl rfl (np := 23) rfl ?_
    refine g_if_ge F dX0_high_23 (tp := 38) (by decide) (np := 26) rfl (fun c23 => ?_) (fun c23 => ?_)
    · refine g_aload_n F dX0_high_38 rfl rfl (np := 39) rfl ?_
      refine g_iload_n F dX0_high_39 rfl rfl (np := 40) rfl ?_
      refine g_aload_n F dX0_high_40 rfl rfl (np := 41) rfl ?_
      refine g_iload_n F dX0_high_41 rfl rfl (np := 42) rfl ?_
      refine g_runV F (C := RX0) (ci := 0) (T0 := TX0) (N := 38) (rest := [.int o, .ref (Λ.1 0 38)]) (ct_X0_dayBehind σ n.toNatClampNeg (by first | assumption | omega) (by first | assumption | omega)) (lw_V q869 q871 qs25 q100 q872) hcV_X0_dayBehind ⟨Nat.le_of_ble_eq_true rfl, Nat.le_of_ble_eq_true rfl⟩ rfl (fun h hs => hs.obj) rfl rfl (Nat.le_of_ble_eq_true rfl) dX0_high_42 ⟨Nat.le_of_ble_eq_true rfl, Nat.le_of_ble_eq_true rfl⟩ (np := 45) rfl (k_RI ?_)
      refine g_runV F (C := RX0) (ci := 0) (T0 := TX0) (N := 38) (rest := []) (ct_X0_highOf σ o (day (σ.1 6) n.toNatClampNeg) (by first | assumption | omega) (by first | assumption | omega) (by first | assumption | omega)) (lw_V q877 q879 qs27 q100 q880) hcV_X0_highOf ⟨Nat.le_of_ble_eq_true rfl, Nat.le_of_ble_eq_true rfl⟩ rfl (fun h hs => hs.obj) rfl rfl (Nat.le_of_ble_eq_true rfl) dX0_high_45 ⟨Nat.le_of_ble_eq_true rfl, Nat.le_of_ble_eq_true rfl⟩ (np := 48) rfl (k_RI ?_)
      have hv : sHigh (mV σ L) (day (σ.1 6) n.toNatClampNeg) o = rHigh (mV σ L) (σ.1 6) (σ.1 0) n o := by unfold rHigh; rw [pif_t ⟨k1, k2⟩]; unfold sHighs; first | (rw [if_pos (k2.resolve_right (fun z => by obtain ⟨j, hj, rfl⟩ := z; exact c23 (nI_pos' (by omega))))]; done) | (rw [if_neg (by rintro rfl; exact absurd c23 (by decide))]; done)
      exact g_iret F hr rfl (Nat.le_of_ble_eq_true rfl) (Nat.le_of_ble_eq_true rfl) dX0_high_48 (fun h hs => by rw [← hT]; exact ⟨congrArg (fun z => some (Value.int z)) hv, hs⟩)
    · refine g_aload_n F dX0_high_26 rfl rfl (np := 27) rfl ?_
      refine g_aload_n F dX0_high_27 rfl rfl (np := 28) rfl ?_
      refine g_iload_n F dX0_high_28 rfl rfl (np := 29) rfl ?_
      refine g_runV F (C := RX0) (ci := 0) (T0 := TX0) (N := 38) (rest := [.ref (Λ.1 0 38)]) (ct_X0_dayBehind σ n.toNatClampNeg (by first | assumption | omega) (by first | assumption | omega)) (lw_V q869 q871 qs25 q100 q872) hcV_X0_dayBehind ⟨Nat.le_of_ble_eq_true rfl, Nat.le_of_ble_eq_true rfl⟩ rfl (fun h hs => hs.obj) rfl rfl (Nat.le_of_ble_eq_true rfl) dX0_high_29 ⟨Nat.le_of_ble_eq_true rfl, Nat.le_of_ble_eq_true rfl⟩ (np := 32) rfl (k_RI ?_)
      refine g_runV F (C := RX0) (ci := 0) (T0 := TX0) (N := 38) (rest := []) (ct_X0_allHigh σ (day (σ.1 6) n.toNatClampNeg) (by first | assumption | omega) (by first | assumption | omega) (by first | assumption | omega)) (lw_V q873 q875 qs26 q100 q876) hcV_X0_allHigh ⟨Nat.le_of_ble_eq_true rfl, Nat.le_of_ble_eq_true rfl⟩ rfl (fun h hs => hs.obj) rfl rfl (Nat.le_of_ble_eq_true rfl) dX0_high_32 ⟨Nat.le_of_ble_eq_true rfl, Nat.le_of_ble_eq_true rfl⟩ (np := 35) rfl (k_RI ?_)
      refine g_goto F dX0_high_35 (np := 48) (by decide) ?_
      have hv : sAll (mV σ L) (day (σ.1 6) n.toNatClampNeg) (σ.1 0) = rHigh (mV σ L) (σ.1 6) (σ.1 0) n o := by unfold rHigh; rw [pif_t ⟨k1, k2⟩]; unfold sHighs; first | (rw [if_pos (k2.resolve_right (fun z => by obtain ⟨j, hj, rfl⟩ := z; exact c23 (nI_pos' (by omega))))]; done) | (rw [if_neg (by rintro rfl; exact absurd c23 (by decide))]; done)
      exact g_iret F hr rfl (Nat.le_of_ble_eq_true rfl) (Nat.le_of_ble_eq_true rfl) dX0_high_48 (fun h hs => by rw [← hT]; exact ⟨congrArg (fun z => some (Value.int z)) hv, hs⟩)
  refine g_iload_n F dX0_high_0 rfl rfl (np := 1) rfl ?_
  refine g_runS F (rest := []) (ct_X0_areDays n ) (lw_S q866 q867 q100 q868) hcS_X0_areDays ⟨Nat.le_of_ble_eq_true rfl, Nat.le_of_ble_eq_true rfl⟩ rfl rfl (Nat.le_of_ble_eq_true rfl) dX0_high_1 ⟨Nat.le_of_ble_eq_true rfl, Nat.le_of_ble_eq_true rfl⟩ (np := 4) rfl (k_RI ?_)
  refine g_if_eqB F dX0_high_4 (tp := 20) (by decide) (np := 7) rfl (fun c4 => ?_) (fun c4 => ?_)
  · refine g_iconst F (v := (-1)) dX0_high_20 (by decide) (np := 21) rfl ?_
    have hv : -1 = rHigh (mV σ L) (σ.1 6) (σ.1 0) n o := by first | (unfold rHigh; rw [pif_f (fun z => ‹¬ inN n 100› z.1)]; done) | (unfold rHigh; rw [pif_f (fun z => z.2.elim ‹_› ‹_›)]; done)
    exact g_iret F hr rfl (Nat.le_of_ble_eq_true rfl) (Nat.le_of_ble_eq_true rfl) dX0_high_21 (fun h hs => by rw [← hT]; exact ⟨congrArg (fun z => some (Value.int z)) hv, hs⟩)
  · refine g_iload_n F dX0_high_7 rfl rfl (np := 8) rfl ?_
    refine g_iconst F (v := (-1)) dX0_high_8 (by decide) (np := 9) rfl ?_
    refine g_icmp_eq F dX0_high_9 (tp := 22) (by decide) (np := 12) rfl (fun c9 => ?_) (fun c9 => ?_)
    · exact J22  (by exact c4) (by first | exact Or.inl c9 | exact Or.inr c17)
    · refine g_aload_n F dX0_high_12 rfl rfl (np := 13) rfl ?_
      refine g_iload_n F dX0_high_13 rfl rfl (np := 14) rfl ?_
      refine g_runV F (C := RX0) (ci := 0) (T0 := TX0) (N := 38) (rest := []) (ct_X0_isOwner σ o (by first | assumption | omega)) (lw_V q319 q321 qs1 q100 q322) hcV_X0_isOwner ⟨Nat.le_of_ble_eq_true rfl, Nat.le_of_ble_eq_true rfl⟩ rfl (fun h hs => hs.obj) rfl rfl (Nat.le_of_ble_eq_true rfl) dX0_high_14 ⟨Nat.le_of_ble_eq_true rfl, Nat.le_of_ble_eq_true rfl⟩ (np := 17) rfl (k_RI ?_)
      refine g_if_neB F dX0_high_17 (tp := 22) (by decide) (np := 20) rfl (fun c17 => ?_) (fun c17 => ?_)
      · exact J22  (by exact c4) (by first | exact Or.inl c9 | exact Or.inr c17)
      · refine g_iconst F (v := (-1)) dX0_high_20 (by decide) (np := 21) rfl ?_
        have hv : -1 = rHigh (mV σ L) (σ.1 6) (σ.1 0) n o := by first | (unfold rHigh; rw [pif_f (fun z => ‹¬ inN n 100› z.1)]; done) | (unfold rHigh; rw [pif_f (fun z => z.2.elim ‹_› ‹_›)]; done)
        exact g_iret F hr rfl (Nat.le_of_ble_eq_true rfl) (Nat.le_of_ble_eq_true rfl) dX0_high_21 (fun h hs => by rw [← hT]; exact ⟨congrArg (fun z => some (Value.int z)) hv, hs⟩)

set_option maxRecDepth 100000 in
theorem ct_X0_opens {l : Launch} {D : va_G} {B : Nat} {Λ : LT} {I : AH} {L : LawT} (σ : MSt)  (n : Int32) (hok : mOK σ L) (hm14 : σ.1 2 ≤ 14) (hbO : byOK σ) : Ct l D ZE B yX0_opens cX0_opens 4 (some .int) 2 42 0 0 [.ref (Λ.1 0 38), .int n] (XH D Λ I L σ) (RI (rOpens (mV σ L) (σ.1 6) n) (XH D Λ I L σ)) := by
  refine Ct.of (nL := 4) (lv := [some (.ref (Λ.1 0 38)), some (.int n), none, none]) (by decide) (Nat.le_of_ble_eq_true rfl) stZE 2 rfl ?_
  generalize hT : RI (rOpens (mV σ L) (σ.1 6) n) (XH D Λ I L σ) = T
  intro zp ze zs zm zb zt zc F hr hnm
  generalize ([.ref (Λ.1 0 38), .int n] : List Value).toArray = za at F ⊢
  have hok2 := hok
  obtain ⟨ho8, hm15, ht99, hby, hlaw⟩ := hok2
  refine g_iload_n F dX0_opens_0 rfl rfl (np := 1) rfl ?_
  refine g_runS F (rest := []) (ct_X0_areDays n ) (lw_S q866 q867 q100 q868) hcS_X0_areDays ⟨Nat.le_of_ble_eq_true rfl, Nat.le_of_ble_eq_true rfl⟩ rfl rfl (Nat.le_of_ble_eq_true rfl) dX0_opens_1 ⟨Nat.le_of_ble_eq_true rfl, Nat.le_of_ble_eq_true rfl⟩ (np := 4) rfl (k_RI ?_)
  refine g_if_neB F dX0_opens_4 (tp := 9) (by decide) (np := 7) rfl (fun c4 => ?_) (fun c4 => ?_)
  · obtain ⟨hnl, hne⟩ := inN_cl (by decide) c4
    refine WG.eqv (lv' := [some (.ref (Λ.1 0 38)), some (.int (nI (n.toNatClampNeg))), none, none]) rfl (congrArg (fun z => ([some (.ref (Λ.1 0 38)), some (.int z), none, none] : List (Option Value))) (show n = (nI (n.toNatClampNeg)) from by exact hne)) ?_
    refine g_iconst F (v := (nI 0)) dX0_opens_9 (by decide) (np := 10) rfl ?_
    refine g_istore_n F (lv' := [some (.ref (Λ.1 0 38)), some (.int (nI (n.toNatClampNeg))), some (.int (nI 0)), none]) dX0_opens_10 rfl (by decide) rfl rfl (np := 11) rfl ?_
    refine g_iconst F (v := (nI 0)) dX0_opens_11 (by decide) (np := 12) rfl ?_
    refine g_istore_n F (lv' := [some (.ref (Λ.1 0 38)), some (.int (nI (n.toNatClampNeg))), some (.int (nI 0)), some (.int (nI 0))]) dX0_opens_12 rfl (by decide) rfl rfl (np := 13) rfl ?_
    have L13 : ∀ (zn : Nat) (b : Int32) (p : Nat), (b = sBits (mP σ) (day (σ.1 6) n.toNatClampNeg) p) → (p ≤ σ.1 2) → σ.1 2 - p < zn → WG zp l ze ({ frames := 2, cells := 0, slots := 0, locals := 42 } : Room) zs zm za zb zt zc D B 4 (MQ zb (QT D B T) za zs 0 0 (zA B)) (XH D Λ I L σ) 0 0 13 [some (.ref (Λ.1 0 38)), some (.int (nI (n.toNatClampNeg))), some (.int b), some (.int (nI p))] [] := by
      intro zn
      induction zn with
      | zero => intro b p h1 h2 hm; exact absurd hm (Nat.not_lt_zero _)
      | succ zn ih13 =>
        intro b p h1 h2 hm
        refine g_iload_n F dX0_opens_13 rfl rfl (np := 14) rfl ?_
        refine g_aload_n F dX0_opens_14 rfl rfl (np := 15) rfl ?_
        refine x_get F (k := 3) (v := .int (nI (σ.1 2))) (by decide) rfl (Or.inl q180) dX0_opens_15 (np := 18) rfl ?_
        refine g_icmp_geN F (by omega) (by omega) dX0_opens_18 (tp := 50) (by decide) (np := 21) rfl (fun c18 => ?_) (fun c18 => ?_)
        · refine g_iload_n F dX0_opens_50 rfl rfl (np := 51) rfl ?_
          have hv : b = rOpens (mV σ L) (σ.1 6) n := by unfold rOpens; rw [pif_t c4, h1, show p = σ.1 2 by omega]; rfl
          exact g_iret F hr rfl (Nat.le_of_ble_eq_true rfl) (Nat.le_of_ble_eq_true rfl) dX0_opens_51 (fun h hs => by rw [← hT]; exact ⟨congrArg (fun z => some (Value.int z)) hv, hs⟩)
        · refine g_aload_n F dX0_opens_21 rfl rfl (np := 22) rfl ?_
          refine x_get F (k := 1) (v := .ref (Λ.1 0 1)) (by decide) rfl (Or.inl q178) dX0_opens_22 (np := 25) rfl ?_
          refine g_iload_n F dX0_opens_25 rfl rfl (np := 26) rfl ?_
          refine x_aldP F (i := p) rfl (show p < σ.1 2 by omega) (show σ.1 2 ≤ 14 by omega) dX0_opens_26 (np := 27) rfl ?_
          refine g_aload_n F dX0_opens_27 rfl rfl (np := 28) rfl ?_
          refine g_iload_n F dX0_opens_28 rfl rfl (np := 29) rfl ?_
          refine g_runV F (C := RX0) (ci := 0) (T0 := TX0) (N := 38) (rest := [.ref (Λ.1 2 p)]) (ct_X0_dayBehind σ n.toNatClampNeg (by first | assumption | omega) (by first | assumption | omega)) (lw_V q869 q871 qs25 q100 q872) hcV_X0_dayBehind ⟨Nat.le_of_ble_eq_true rfl, Nat.le_of_ble_eq_true rfl⟩ rfl (fun h hs => hs.obj) rfl rfl (Nat.le_of_ble_eq_true rfl) dX0_opens_29 ⟨Nat.le_of_ble_eq_true rfl, Nat.le_of_ble_eq_true rfl⟩ (np := 32) rfl (k_RI ?_)
          refine g_runV F (C := RX4) (ci := 4) (T0 := TX4) (N := 7) (rest := []) (ct_X4_isOpen σ p (day (σ.1 6) n.toNatClampNeg) (by first | assumption | omega)) (lw_V q820 q821 q822 q104 q823) hcV_X4_isOpen ⟨Nat.le_of_ble_eq_true rfl, Nat.le_of_ble_eq_true rfl⟩ rfl (fun h hs => ⟨_, hs.prm (show p < σ.1 2 by omega)⟩) rfl rfl (Nat.le_of_ble_eq_true rfl) dX0_opens_32 ⟨Nat.le_of_ble_eq_true rfl, Nat.le_of_ble_eq_true rfl⟩ (np := 35) rfl (k_RI ?_)
          refine g_if_eqB F dX0_opens_35 (tp := 44) (by decide) (np := 38) rfl (fun c35 => ?_) (fun c35 => ?_)
          · refine g_iinc F (v := (nI (p + 1))) (lv' := [some (.ref (Λ.1 0 38)), some (.int (nI (n.toNatClampNeg))), some (.int b), some (.int (nI (p + 1)))]) dX0_opens_44 rfl (nI_add _ _) (by decide) rfl rfl (np := 47) rfl ?_
            refine g_goto F dX0_opens_47 (np := 13) (by decide) ?_
            exact ih13 b (p + 1) (by first | (unfold sBits; rw [pif_t (by assumption), h1]; done) | (unfold sBits; rw [pif_f (by assumption), h1]; done)) (by first | assumption | omega) (by omega)
          · refine g_iload_n F dX0_opens_38 rfl rfl (np := 39) rfl ?_
            refine g_iconst F (v := (nI 1)) dX0_opens_39 (by decide) (np := 40) rfl ?_
            refine g_iload_n F dX0_opens_40 rfl rfl (np := 41) rfl ?_
            refine g_ishl F dX0_opens_41 (np := 42) rfl ?_
            refine g_ior F dX0_opens_42 (np := 43) rfl ?_
            refine g_istore_n F (lv' := [some (.ref (Λ.1 0 38)), some (.int (nI (n.toNatClampNeg))), some (.int (b ||| ((nI (1)) <<< ((nI (p)) &&& 31)))), some (.int (nI p))]) dX0_opens_43 rfl (by decide) rfl rfl (np := 44) rfl ?_
            refine g_iinc F (v := (nI (p + 1))) (lv' := [some (.ref (Λ.1 0 38)), some (.int (nI (n.toNatClampNeg))), some (.int (b ||| ((nI (1)) <<< ((nI (p)) &&& 31)))), some (.int (nI (p + 1)))]) dX0_opens_44 rfl (nI_add _ _) (by decide) rfl rfl (np := 47) rfl ?_
            refine g_goto F dX0_opens_47 (np := 13) (by decide) ?_
            exact ih13 (b ||| ((nI (1)) <<< ((nI (p)) &&& 31))) (p + 1) (by first | (unfold sBits; rw [pif_t (by assumption), h1]; done) | (unfold sBits; rw [pif_f (by assumption), h1]; done)) (by first | assumption | omega) (by omega)
    exact L13 _ (nI (0)) 0 (by rfl) (by omega) (Nat.lt_succ_self _)
  · refine g_iconst F (v := (-1)) dX0_opens_7 (by decide) (np := 8) rfl ?_
    have hv : -1 = rOpens (mV σ L) (σ.1 6) n := by unfold rOpens; rw [pif_f c4]
    exact g_iret F hr rfl (Nat.le_of_ble_eq_true rfl) (Nat.le_of_ble_eq_true rfl) dX0_opens_8 (fun h hs => by rw [← hT]; exact ⟨congrArg (fun z => some (Value.int z)) hv, hs⟩)

set_option maxRecDepth 100000 in
theorem ct_X0_roofOf {l : Launch} {D : va_G} {B : Nat} {Λ : LT} {I : AH} {L : LawT} (σ : MSt)  (o : Int32) (hok : mOK σ L) (hm14 : σ.1 2 ≤ 14) (hbO : byOK σ) : Ct l D ZE B yX0_roofOf cX0_roofOf 4 (some .int) 203 4668 0 0 [.ref (Λ.1 0 38), .int o] (XH D Λ I L σ) (RI (oI (sRoof (mV σ L) (σ.1 6) o)) (XH D Λ I L σ)) := by
  refine Ct.of (nL := 4) (lv := [some (.ref (Λ.1 0 38)), some (.int o), none, none]) (by decide) (Nat.le_of_ble_eq_true rfl) stZE 2 rfl ?_
  generalize hT : RI (oI (sRoof (mV σ L) (σ.1 6) o)) (XH D Λ I L σ) = T
  intro zp ze zs zm zb zt zc F hr hnm
  generalize ([.ref (Λ.1 0 38), .int o] : List Value).toArray = za at F ⊢
  have hok2 := hok
  obtain ⟨ho8, hm15, ht99, hby, hlaw⟩ := hok2
  refine g_bipush F (v := (-2)) dX0_roofOf_0 (by decide) (np := 2) rfl ?_
  refine g_istore_n F (lv' := [some (.ref (Λ.1 0 38)), some (.int o), some (.int (-2)), none]) dX0_roofOf_2 rfl (by decide) rfl rfl (np := 3) rfl ?_
  refine g_iconst F (v := (nI 0)) dX0_roofOf_3 (by decide) (np := 4) rfl ?_
  refine g_istore_n F (lv' := [some (.ref (Λ.1 0 38)), some (.int o), some (.int (-2)), some (.int (nI 0))]) dX0_roofOf_4 rfl (by decide) rfl rfl (np := 5) rfl ?_
  have L5 : ∀ (zn : Nat) (f : Int32) (p : Nat), (f = oI (sRoofN (mV σ L) (σ.1 6) o p)) → (p ≤ σ.1 2) → σ.1 2 - p < zn → WG zp l ze ({ frames := 203, cells := 0, slots := 0, locals := 4668 } : Room) zs zm za zb zt zc D B 4 (MQ zb (QT D B T) za zs 0 0 (zA B)) (XH D Λ I L σ) 0 0 5 [some (.ref (Λ.1 0 38)), some (.int o), some (.int f), some (.int (nI p))] [] := by
    intro zn
    induction zn with
    | zero => intro f p h1 h2 hm; exact absurd hm (Nat.not_lt_zero _)
    | succ zn ih5 =>
      intro f p h1 h2 hm
      refine g_iload_n F dX0_roofOf_5 rfl rfl (np := 6) rfl ?_
      refine g_aload_n F dX0_roofOf_6 rfl rfl (np := 7) rfl ?_
      refine x_get F (k := 3) (v := .int (nI (σ.1 2))) (by decide) rfl (Or.inl q180) dX0_roofOf_7 (np := 10) rfl ?_
      refine g_icmp_geN F (by omega) (by omega) dX0_roofOf_10 (tp := 78) (by decide) (np := 13) rfl (fun c10 => ?_) (fun c10 => ?_)
      · refine g_iload_n F dX0_roofOf_78 rfl rfl (np := 79) rfl ?_
        have hv : f = oI (sRoof (mV σ L) (σ.1 6) o) := by rw [h1, show p = σ.1 2 by omega]; rfl
        exact g_iret F hr rfl (Nat.le_of_ble_eq_true rfl) (Nat.le_of_ble_eq_true rfl) dX0_roofOf_79 (fun h hs => by rw [← hT]; exact ⟨congrArg (fun z => some (Value.int z)) hv, hs⟩)
      · refine g_aload_n F dX0_roofOf_13 rfl rfl (np := 14) rfl ?_
        refine x_get F (k := 1) (v := .ref (Λ.1 0 1)) (by decide) rfl (Or.inl q178) dX0_roofOf_14 (np := 17) rfl ?_
        refine g_iload_n F dX0_roofOf_17 rfl rfl (np := 18) rfl ?_
        refine x_aldP F (i := p) rfl (show p < σ.1 2 by omega) (show σ.1 2 ≤ 14 by omega) dX0_roofOf_18 (np := 19) rfl ?_
        refine x_getP F (k := 0) (i := p) (v := .int (σ.2.1 4 p)) (by decide) (show p < σ.1 2 by omega) rfl (Or.inr ⟨_, ze333⟩) dX0_roofOf_19 (np := 22) rfl ?_
        refine g_iload_n F dX0_roofOf_22 rfl rfl (np := 23) rfl ?_
        refine g_icmp_ne F dX0_roofOf_23 (tp := 72) (by decide) (np := 26) rfl (fun c23 => ?_) (fun c23 => ?_)
        · refine g_iinc F (v := (nI (p + 1))) (lv' := [some (.ref (Λ.1 0 38)), some (.int o), some (.int f), some (.int (nI (p + 1)))]) dX0_roofOf_72 rfl (nI_add _ _) (by decide) rfl rfl (np := 75) rfl ?_
          refine g_goto F dX0_roofOf_75 (np := 5) (by decide) ?_
          exact ih5 f (p + 1) (by first | (rw [sRoofN_f (v := mV σ L) (fun z => c23 z.1)]; exact h1) | (rw [sRoofN_f (v := mV σ L) (fun z => c39 z.2)]; exact h1) | (rw [sRoofN_t (v := mV σ L) ⟨c23, c39⟩, (oI_lt (sRoofN_lt _ _ _ p) (by omega)).mp (by rw [← h1]; exact c46)]; rfl) | (rw [sRoofN_t (v := mV σ L) ⟨c23, c39⟩, hr1]; simp only; rw [if_pos (Int32.not_le.mp c67)]; rfl) | (rw [sRoofN_t (v := mV σ L) ⟨c23, c39⟩, hr1]; simp only; rw [if_neg (Int32.not_lt.mpr c67), h1, hr1])) (by first | assumption | omega) (by omega)
        · refine g_aload_n F dX0_roofOf_26 rfl rfl (np := 27) rfl ?_
          refine x_get F (k := 1) (v := .ref (Λ.1 0 1)) (by decide) rfl (Or.inl q178) dX0_roofOf_27 (np := 30) rfl ?_
          refine g_iload_n F dX0_roofOf_30 rfl rfl (np := 31) rfl ?_
          refine x_aldP F (i := p) rfl (show p < σ.1 2 by omega) (show σ.1 2 ≤ 14 by omega) dX0_roofOf_31 (np := 32) rfl ?_
          refine g_aload_n F dX0_roofOf_32 rfl rfl (np := 33) rfl ?_
          refine x_get F (k := 4) (v := .int (nI (σ.1 6))) (by decide) rfl (Or.inl q181) dX0_roofOf_33 (np := 36) rfl ?_
          refine g_runV F (C := RX4) (ci := 4) (T0 := TX4) (N := 7) (rest := []) (ct_X4_isOpen σ p (σ.1 6) (by first | assumption | omega)) (lw_V q820 q821 q822 q104 q823) hcV_X4_isOpen ⟨Nat.le_of_ble_eq_true rfl, Nat.le_of_ble_eq_true rfl⟩ rfl (fun h hs => ⟨_, hs.prm (show p < σ.1 2 by omega)⟩) rfl rfl (Nat.le_of_ble_eq_true rfl) dX0_roofOf_36 ⟨Nat.le_of_ble_eq_true rfl, Nat.le_of_ble_eq_true rfl⟩ (np := 39) rfl (k_RI ?_)
          refine g_if_neB F dX0_roofOf_39 (tp := 45) (by decide) (np := 42) rfl (fun c39 => ?_) (fun c39 => ?_)
          · refine g_iload_n F dX0_roofOf_45 rfl rfl (np := 46) rfl ?_
            refine g_if_lt F dX0_roofOf_46 (tp := 70) (by decide) (np := 49) rfl (fun c46 => ?_) (fun c46 => ?_)
            · refine g_iload_n F dX0_roofOf_70 rfl rfl (np := 71) rfl ?_
              refine g_istore_n F (lv' := [some (.ref (Λ.1 0 38)), some (.int o), some (.int (nI p)), some (.int (nI p))]) dX0_roofOf_71 rfl (by decide) rfl rfl (np := 72) rfl ?_
              refine g_iinc F (v := (nI (p + 1))) (lv' := [some (.ref (Λ.1 0 38)), some (.int o), some (.int (nI p)), some (.int (nI (p + 1)))]) dX0_roofOf_72 rfl (nI_add _ _) (by decide) rfl rfl (np := 75) rfl ?_
              refine g_goto F dX0_roofOf_75 (np := 5) (by decide) ?_
              exact ih5 (nI (p)) (p + 1) (by first | (rw [sRoofN_f (v := mV σ L) (fun z => c23 z.1)]; exact h1) | (rw [sRoofN_f (v := mV σ L) (fun z => c39 z.2)]; exact h1) | (rw [sRoofN_t (v := mV σ L) ⟨c23, c39⟩, (oI_lt (sRoofN_lt _ _ _ p) (by omega)).mp (by rw [← h1]; exact c46)]; rfl) | (rw [sRoofN_t (v := mV σ L) ⟨c23, c39⟩, hr1]; simp only; rw [if_pos (Int32.not_le.mp c67)]; rfl) | (rw [sRoofN_t (v := mV σ L) ⟨c23, c39⟩, hr1]; simp only; rw [if_neg (Int32.not_lt.mpr c67), h1, hr1])) (by first | assumption | omega) (by omega)
            · obtain ⟨r0, hr1, hr2, hr3⟩ := oI_some2 (sRoofN_lt _ _ _ p) (by omega) (fun z => c46 (by rw [h1]; exact z))
              refine g_aload_n F dX0_roofOf_49 rfl rfl (np := 50) rfl ?_
              refine g_iload_n F dX0_roofOf_50 rfl rfl (np := 51) rfl ?_
              refine g_aload_n F dX0_roofOf_51 rfl rfl (np := 52) rfl ?_
              refine x_get F (k := 4) (v := .int (nI (σ.1 6))) (by decide) rfl (Or.inl q181) dX0_roofOf_52 (np := 55) rfl ?_
              refine g_runV F (C := RX0) (ci := 0) (T0 := TX0) (N := 38) (rest := []) (ct_X0_storeysOf σ p (σ.1 6) (by first | assumption | omega) (by first | assumption | omega) (by first | assumption | omega) (by first | assumption | omega)) (lw_V q816 q818 qs22 q100 q819) hcV_X0_storeysOf ⟨Nat.le_of_ble_eq_true rfl, Nat.le_of_ble_eq_true rfl⟩ rfl (fun h hs => hs.obj) rfl rfl (Nat.le_of_ble_eq_true rfl) dX0_roofOf_55 ⟨Nat.le_of_ble_eq_true rfl, Nat.le_of_ble_eq_true rfl⟩ (np := 58) rfl (k_RI ?_)
              refine g_aload_n F dX0_roofOf_58 rfl rfl (np := 59) rfl ?_
              refine g_iload_n F dX0_roofOf_59 rfl rfl (np := 60) rfl ?_
              refine WG.eqv (st' := [.int (nI r0), .ref (Λ.1 0 38), .int (sSt (mV σ L) (σ.1 6) p)]) (congrArg (fun z => ([.int z, .ref (Λ.1 0 38), .int (sSt (mV σ L) (σ.1 6) p)] : List Value)) (show f = (nI r0) from by exact h1.trans hr2)) rfl ?_
              refine g_aload_n F dX0_roofOf_60 rfl rfl (np := 61) rfl ?_
              refine x_get F (k := 4) (v := .int (nI (σ.1 6))) (by decide) rfl (Or.inl q181) dX0_roofOf_61 (np := 64) rfl ?_
              refine g_runV F (C := RX0) (ci := 0) (T0 := TX0) (N := 38) (rest := [.int (sSt (mV σ L) (σ.1 6) p)]) (ct_X0_storeysOf σ r0 (σ.1 6) (by first | assumption | omega) (by first | assumption | omega) (by first | assumption | omega) (by first | assumption | omega)) (lw_V q816 q818 qs22 q100 q819) hcV_X0_storeysOf ⟨Nat.le_of_ble_eq_true rfl, Nat.le_of_ble_eq_true rfl⟩ rfl (fun h hs => hs.obj) rfl rfl (Nat.le_of_ble_eq_true rfl) dX0_roofOf_64 ⟨Nat.le_of_ble_eq_true rfl, Nat.le_of_ble_eq_true rfl⟩ (np := 67) rfl (k_RI ?_)
              refine g_icmp_le F dX0_roofOf_67 (tp := 72) (by decide) (np := 70) rfl (fun c67 => ?_) (fun c67 => ?_)
              · refine g_iinc F (v := (nI (p + 1))) (lv' := [some (.ref (Λ.1 0 38)), some (.int o), some (.int f), some (.int (nI (p + 1)))]) dX0_roofOf_72 rfl (nI_add _ _) (by decide) rfl rfl (np := 75) rfl ?_
                refine g_goto F dX0_roofOf_75 (np := 5) (by decide) ?_
                exact ih5 f (p + 1) (by first | (rw [sRoofN_f (v := mV σ L) (fun z => c23 z.1)]; exact h1) | (rw [sRoofN_f (v := mV σ L) (fun z => c39 z.2)]; exact h1) | (rw [sRoofN_t (v := mV σ L) ⟨c23, c39⟩, (oI_lt (sRoofN_lt _ _ _ p) (by omega)).mp (by rw [← h1]; exact c46)]; rfl) | (rw [sRoofN_t (v := mV σ L) ⟨c23, c39⟩, hr1]; simp only; rw [if_pos (Int32.not_le.mp c67)]; rfl) | (rw [sRoofN_t (v := mV σ L) ⟨c23, c39⟩, hr1]; simp only; rw [if_neg (Int32.not_lt.mpr c67), h1, hr1])) (by first | assumption | omega) (by omega)
              · refine g_iload_n F dX0_roofOf_70 rfl rfl (np := 71) rfl ?_
                refine g_istore_n F (lv' := [some (.ref (Λ.1 0 38)), some (.int o), some (.int (nI p)), some (.int (nI p))]) dX0_roofOf_71 rfl (by decide) rfl rfl (np := 72) rfl ?_
                refine g_iinc F (v := (nI (p + 1))) (lv' := [some (.ref (Λ.1 0 38)), some (.int o), some (.int (nI p)), some (.int (nI (p + 1)))]) dX0_roofOf_72 rfl (nI_add _ _) (by decide) rfl rfl (np := 75) rfl ?_
                refine g_goto F dX0_roofOf_75 (np := 5) (by decide) ?_
                exact ih5 (nI (p)) (p + 1) (by first | (rw [sRoofN_f (v := mV σ L) (fun z => c23 z.1)]; exact h1) | (rw [sRoofN_f (v := mV σ L) (fun z => c39 z.2)]; exact h1) | (rw [sRoofN_t (v := mV σ L) ⟨c23, c39⟩, (oI_lt (sRoofN_lt _ _ _ p) (by omega)).mp (by rw [← h1]; exact c46)]; rfl) | (rw [sRoofN_t (v := mV σ L) ⟨c23, c39⟩, hr1]; simp only; rw [if_pos (Int32.not_le.mp c67)]; rfl) | (rw [sRoofN_t (v := mV σ L) ⟨c23, c39⟩, hr1]; simp only; rw [if_neg (Int32.not_lt.mpr c67), h1, hr1])) (by first | assumption | omega) (by omega)
          · refine g_goto F dX0_roofOf_42 (np := 72) (by decide) ?_
            refine g_iinc F (v := (nI (p + 1))) (lv' := [some (.ref (Λ.1 0 38)), some (.int o), some (.int f), some (.int (nI (p + 1)))]) dX0_roofOf_72 rfl (nI_add _ _) (by decide) rfl rfl (np := 75) rfl ?_
            refine g_goto F dX0_roofOf_75 (np := 5) (by decide) ?_
            exact ih5 f (p + 1) (by first | (rw [sRoofN_f (v := mV σ L) (fun z => c23 z.1)]; exact h1) | (rw [sRoofN_f (v := mV σ L) (fun z => c39 z.2)]; exact h1) | (rw [sRoofN_t (v := mV σ L) ⟨c23, c39⟩, (oI_lt (sRoofN_lt _ _ _ p) (by omega)).mp (by rw [← h1]; exact c46)]; rfl) | (rw [sRoofN_t (v := mV σ L) ⟨c23, c39⟩, hr1]; simp only; rw [if_pos (Int32.not_le.mp c67)]; rfl) | (rw [sRoofN_t (v := mV σ L) ⟨c23, c39⟩, hr1]; simp only; rw [if_neg (Int32.not_lt.mpr c67), h1, hr1])) (by first | assumption | omega) (by omega)
  exact L5 _ (-2) 0 (by rfl) (by omega) (Nat.lt_succ_self _)

set_option maxRecDepth 100000 in
theorem ct_X0_roof {l : Launch} {D : va_G} {B : Nat} {Λ : LT} {I : AH} {L : LawT} (σ : MSt)  (o : Int32) (hok : mOK σ L) (hm14 : σ.1 2 ≤ 14) (hbO : byOK σ) : Ct l D ZE B yX0_roof cX0_roof 2 (some .int) 204 4691 0 0 [.ref (Λ.1 0 38), .int o] (XH D Λ I L σ) (RI (rRoof (mV σ L) (σ.1 6) (σ.1 0) o) (XH D Λ I L σ)) := by
  refine Ct.of (nL := 2) (lv := [some (.ref (Λ.1 0 38)), some (.int o)]) (by decide) (Nat.le_of_ble_eq_true rfl) stZE 0 rfl ?_
  generalize hT : RI (rRoof (mV σ L) (σ.1 6) (σ.1 0) o) (XH D Λ I L σ) = T
  intro zp ze zs zm zb zt zc F hr hnm
  generalize ([.ref (Λ.1 0 38), .int o] : List Value).toArray = za at F ⊢
  have hok2 := hok
  obtain ⟨ho8, hm15, ht99, hby, hlaw⟩ := hok2
  refine g_aload_n F dX0_roof_0 rfl rfl (np := 1) rfl ?_
  refine g_iload_n F dX0_roof_1 rfl rfl (np := 2) rfl ?_
  refine g_runV F (C := RX0) (ci := 0) (T0 := TX0) (N := 38) (rest := []) (ct_X0_isOwner σ o (by first | assumption | omega)) (lw_V q319 q321 qs1 q100 q322) hcV_X0_isOwner ⟨Nat.le_of_ble_eq_true rfl, Nat.le_of_ble_eq_true rfl⟩ rfl (fun h hs => hs.obj) rfl rfl (Nat.le_of_ble_eq_true rfl) dX0_roof_2 ⟨Nat.le_of_ble_eq_true rfl, Nat.le_of_ble_eq_true rfl⟩ (np := 5) rfl (k_RI ?_)
  refine g_if_eqB F dX0_roof_5 (tp := 16) (by decide) (np := 8) rfl (fun c5 => ?_) (fun c5 => ?_)
  · refine g_iconst F (v := (-1)) dX0_roof_16 (by decide) (np := 17) rfl ?_
    have hv : -1 = rRoof (mV σ L) (σ.1 6) (σ.1 0) o := by first | (unfold rRoof; rw [pif_t (by assumption)]; done) | (unfold rRoof; rw [pif_f (by assumption)]; done)
    exact g_iret F hr rfl (Nat.le_of_ble_eq_true rfl) (Nat.le_of_ble_eq_true rfl) dX0_roof_17 (fun h hs => by rw [← hT]; exact ⟨congrArg (fun z => some (Value.int z)) hv, hs⟩)
  · refine g_aload_n F dX0_roof_8 rfl rfl (np := 9) rfl ?_
    refine g_iload_n F dX0_roof_9 rfl rfl (np := 10) rfl ?_
    refine g_runV F (C := RX0) (ci := 0) (T0 := TX0) (N := 38) (rest := []) (ct_X0_roofOf σ o (by first | assumption | omega) (by first | assumption | omega) (by first | assumption | omega)) (lw_V q889 q891 qs28 q100 q892) hcV_X0_roofOf ⟨Nat.le_of_ble_eq_true rfl, Nat.le_of_ble_eq_true rfl⟩ rfl (fun h hs => hs.obj) rfl rfl (Nat.le_of_ble_eq_true rfl) dX0_roof_10 ⟨Nat.le_of_ble_eq_true rfl, Nat.le_of_ble_eq_true rfl⟩ (np := 13) rfl (k_RI ?_)
    refine g_goto F dX0_roof_13 (np := 17) (by decide) ?_
    have hv : oI (sRoof (mV σ L) (σ.1 6) o) = rRoof (mV σ L) (σ.1 6) (σ.1 0) o := by first | (unfold rRoof; rw [pif_t (by assumption)]; done) | (unfold rRoof; rw [pif_f (by assumption)]; done)
    exact g_iret F hr rfl (Nat.le_of_ble_eq_true rfl) (Nat.le_of_ble_eq_true rfl) dX0_roof_17 (fun h hs => by rw [← hT]; exact ⟨congrArg (fun z => some (Value.int z)) hv, hs⟩)

set_option maxRecDepth 100000 in
theorem ct_X0_falls {l : Launch} {D : va_G} {B : Nat} {Λ : LT} {I : AH} {L : LawT} (σ : MSt)  (o : Int32) (x : Int32) (hok : mOK σ L) (hm14 : σ.1 2 ≤ 14) (hbO : byOK σ) : Ct l D ZE B yX0_falls cX0_falls 4 (some .int) 204 4692 0 0 [.ref (Λ.1 0 38), .int o, .int x] (XH D Λ I L σ) (RI (rFalls (mV σ L) (σ.1 6) (σ.1 0) o x) (XH D Λ I L σ)) := by
  refine Ct.of (nL := 4) (lv := [some (.ref (Λ.1 0 38)), some (.int o), some (.int x), none]) (by decide) (Nat.le_of_ble_eq_true rfl) stZE 1 rfl ?_
  generalize hT : RI (rFalls (mV σ L) (σ.1 6) (σ.1 0) o x) (XH D Λ I L σ) = T
  intro zp ze zs zm zb zt zc F hr hnm
  generalize ([.ref (Λ.1 0 38), .int o, .int x] : List Value).toArray = za at F ⊢
  have hok2 := hok
  obtain ⟨ho8, hm15, ht99, hby, hlaw⟩ := hok2
  refine g_aload_n F dX0_falls_0 rfl rfl (np := 1) rfl ?_
  refine g_iload_n F dX0_falls_1 rfl rfl (np := 2) rfl ?_
  refine g_runV F (C := RX0) (ci := 0) (T0 := TX0) (N := 38) (rest := []) (ct_X0_isOwner σ o (by first | assumption | omega)) (lw_V q319 q321 qs1 q100 q322) hcV_X0_isOwner ⟨Nat.le_of_ble_eq_true rfl, Nat.le_of_ble_eq_true rfl⟩ rfl (fun h hs => hs.obj) rfl rfl (Nat.le_of_ble_eq_true rfl) dX0_falls_2 ⟨Nat.le_of_ble_eq_true rfl, Nat.le_of_ble_eq_true rfl⟩ (np := 5) rfl (k_RI ?_)
  refine g_if_eqB F dX0_falls_5 (tp := 18) (by decide) (np := 8) rfl (fun c5 => ?_) (fun c5 => ?_)
  · refine g_iconst F (v := (-1)) dX0_falls_18 (by decide) (np := 19) rfl ?_
    have hv : -1 = rFalls (mV σ L) (σ.1 6) (σ.1 0) o x := by unfold rFalls; first | (rw [pif_f (fun z => c5 z.1)]; done) | (rw [pif_f (fun z => c15 (bt9.mpr z.2))]; done)
    exact g_iret F hr rfl (Nat.le_of_ble_eq_true rfl) (Nat.le_of_ble_eq_true rfl) dX0_falls_19 (fun h hs => by rw [← hT]; exact ⟨congrArg (fun z => some (Value.int z)) hv, hs⟩)
  · refine g_iload_n F dX0_falls_8 rfl rfl (np := 9) rfl ?_
    refine g_iconst F (v := (nI 0)) dX0_falls_9 (by decide) (np := 10) rfl ?_
    refine g_bipush F (v := (nI 9)) dX0_falls_10 (by decide) (np := 12) rfl ?_
    refine g_runS F (rest := []) (ct_X0_in x (nI (0)) (nI (9)) ) (lw_S q298 q299 q100 q300) hcS_X0_in ⟨Nat.le_of_ble_eq_true rfl, Nat.le_of_ble_eq_true rfl⟩ rfl rfl (Nat.le_of_ble_eq_true rfl) dX0_falls_12 ⟨Nat.le_of_ble_eq_true rfl, Nat.le_of_ble_eq_true rfl⟩ (np := 15) rfl (k_RI ?_)
    refine g_if_neB F dX0_falls_15 (tp := 20) (by decide) (np := 18) rfl (fun c15 => ?_) (fun c15 => ?_)
    · have k1 := bt9.mp c15
      refine g_iconst F (v := (nI 0)) dX0_falls_20 (by decide) (np := 21) rfl ?_
      refine g_istore_n F (lv' := [some (.ref (Λ.1 0 38)), some (.int o), some (.int x), some (.int (nI 0))]) dX0_falls_21 rfl (by decide) rfl rfl (np := 22) rfl ?_
      have L22 : ∀ (zn : Nat) (k : Nat), (sLeast (fun k => sHigh (mV σ L) (day (σ.1 6) k) o < x) k (100 - k) = sLeast (fun k => sHigh (mV σ L) (day (σ.1 6) k) o < x) 0 100) → (k ≤ 100) → 100 - k < zn → WG zp l ze ({ frames := 204, cells := 0, slots := 0, locals := 4692 } : Room) zs zm za zb zt zc D B 4 (MQ zb (QT D B T) za zs 0 0 (zA B)) (XH D Λ I L σ) 0 0 22 [some (.ref (Λ.1 0 38)), some (.int o), some (.int x), some (.int (nI k))] [] := by
        intro zn
        induction zn with
        | zero => intro k h1 h2 hm; exact absurd hm (Nat.not_lt_zero _)
        | succ zn ih22 =>
          intro k h1 h2 hm
          refine g_iload_n F dX0_falls_22 rfl rfl (np := 23) rfl ?_
          refine g_bipush F (v := (nI 99)) dX0_falls_23 (by decide) (np := 25) rfl ?_
          refine g_icmp_gtN F (by omega) (by decide) dX0_falls_25 (tp := 50) (by decide) (np := 28) rfl (fun c25 => ?_) (fun c25 => ?_)
          · refine g_bipush F (v := (-2)) dX0_falls_50 (by decide) (np := 52) rfl ?_
            have hv : -2 = rFalls (mV σ L) (σ.1 6) (σ.1 0) o x := by unfold rFalls; rw [pif_t ⟨c5, k1⟩, ← h1, show 100 - k = 0 by omega]; rfl
            exact g_iret F hr rfl (Nat.le_of_ble_eq_true rfl) (Nat.le_of_ble_eq_true rfl) dX0_falls_52 (fun h hs => by rw [← hT]; exact ⟨congrArg (fun z => some (Value.int z)) hv, hs⟩)
          · refine g_aload_n F dX0_falls_28 rfl rfl (np := 29) rfl ?_
            refine g_iload_n F dX0_falls_29 rfl rfl (np := 30) rfl ?_
            refine g_aload_n F dX0_falls_30 rfl rfl (np := 31) rfl ?_
            refine g_iload_n F dX0_falls_31 rfl rfl (np := 32) rfl ?_
            refine g_runV F (C := RX0) (ci := 0) (T0 := TX0) (N := 38) (rest := [.int o, .ref (Λ.1 0 38)]) (ct_X0_dayBehind σ k (by first | assumption | omega) (by first | assumption | omega)) (lw_V q869 q871 qs25 q100 q872) hcV_X0_dayBehind ⟨Nat.le_of_ble_eq_true rfl, Nat.le_of_ble_eq_true rfl⟩ rfl (fun h hs => hs.obj) rfl rfl (Nat.le_of_ble_eq_true rfl) dX0_falls_32 ⟨Nat.le_of_ble_eq_true rfl, Nat.le_of_ble_eq_true rfl⟩ (np := 35) rfl (k_RI ?_)
            refine g_runV F (C := RX0) (ci := 0) (T0 := TX0) (N := 38) (rest := []) (ct_X0_highOf σ o (day (σ.1 6) k) (by first | assumption | omega) (by first | assumption | omega) (by first | assumption | omega)) (lw_V q877 q879 qs27 q100 q880) hcV_X0_highOf ⟨Nat.le_of_ble_eq_true rfl, Nat.le_of_ble_eq_true rfl⟩ rfl (fun h hs => hs.obj) rfl rfl (Nat.le_of_ble_eq_true rfl) dX0_falls_35 ⟨Nat.le_of_ble_eq_true rfl, Nat.le_of_ble_eq_true rfl⟩ (np := 38) rfl (k_RI ?_)
            refine g_iload_n F dX0_falls_38 rfl rfl (np := 39) rfl ?_
            refine g_icmp_ge F dX0_falls_39 (tp := 44) (by decide) (np := 42) rfl (fun c39 => ?_) (fun c39 => ?_)
            · refine g_iinc F (v := (nI (k + 1))) (lv' := [some (.ref (Λ.1 0 38)), some (.int o), some (.int x), some (.int (nI (k + 1)))]) dX0_falls_44 rfl (nI_add _ _) (by decide) rfl rfl (np := 47) rfl ?_
              refine g_goto F dX0_falls_47 (np := 22) (by decide) ?_
              exact ih22 (k + 1) (by rw [← h1, show 100 - k = (100 - (k + 1)) + 1 by omega, sLeast_f (K := fun k => sHigh (mV σ L) (day (σ.1 6) k) o < x) (Int32.not_lt.mpr c39)]) (by first | assumption | omega) (by omega)
            · refine g_iload_n F dX0_falls_42 rfl rfl (np := 43) rfl ?_
              have hv : nI (k) = rFalls (mV σ L) (σ.1 6) (σ.1 0) o x := by unfold rFalls; rw [pif_t ⟨c5, k1⟩, ← h1, show 100 - k = (100 - (k + 1)) + 1 by omega, sLeast_t (K := fun k => sHigh (mV σ L) (day (σ.1 6) k) o < x) (Int32.not_le.mp c39)]; rfl
              exact g_iret F hr rfl (Nat.le_of_ble_eq_true rfl) (Nat.le_of_ble_eq_true rfl) dX0_falls_43 (fun h hs => by rw [← hT]; exact ⟨congrArg (fun z => some (Value.int z)) hv, hs⟩)
      exact L22 _ 0 (by rfl) (by omega) (Nat.lt_succ_self _)
    · refine g_iconst F (v := (-1)) dX0_falls_18 (by decide) (np := 19) rfl ?_
      have hv : -1 = rFalls (mV σ L) (σ.1 6) (σ.1 0) o x := by unfold rFalls; first | (rw [pif_f (fun z => c5 z.1)]; done) | (rw [pif_f (fun z => c15 (bt9.mpr z.2))]; done)
      exact g_iret F hr rfl (Nat.le_of_ble_eq_true rfl) (Nat.le_of_ble_eq_true rfl) dX0_falls_19 (fun h hs => by rw [← hT]; exact ⟨congrArg (fun z => some (Value.int z)) hv, hs⟩)
