/-! WALKS (printed by walk.py): kind, kind, kind, kind, kind, kind, kind, kind, isUnder, isUnder, isUnder, isUnder, isUnder, swears, swears, swears, comesDown, comesDown, comesDown, builds, builds, builds, builds, tells, tells, tells -/
set_option maxRecDepth 100000
set_option maxRecDepth 100000 in
theorem ct_X15_kind_0 {l : Launch} {D : va_G} {B : Nat} {Λ : LT} {I : AH} {L : LawT} (σ : MSt) (b : Nat) (a : Nat)  (ha : I a = some (bCell (Λ.1 0 38) 0 b)) : Ct l D ZE B yX15_kind cX15_kind 1 (some .int) 0 0 0 0 [.ref (a)] (XH D Λ I L σ) (RI (nI (0)) (XH D Λ I L σ)) := by
  refine Ct.of (nL := 1) (lv := [some (.ref (a))]) (by decide) (Nat.le_of_ble_eq_true rfl) stZE 0 rfl ?_
  generalize hT : RI (nI (0)) (XH D Λ I L σ) = T
  intro zp ze zs zm zb zt zc F hr hnm
  generalize ([.ref (a)] : List Value).toArray = za at F ⊢
  refine g_iconst F (v := (nI 0)) dX15_kind_0 (by decide) (np := 1) rfl ?_
  have hv : nI (0) = nI (0) := congrArg nI (by rfl)
  exact g_iret F hr rfl (Nat.le_of_ble_eq_true rfl) (Nat.le_of_ble_eq_true rfl) dX15_kind_1 (fun h hs => by rw [← hT]; exact ⟨congrArg (fun z => some (Value.int z)) hv, hs⟩)

set_option maxRecDepth 100000 in
theorem ct_X16_kind_1 {l : Launch} {D : va_G} {B : Nat} {Λ : LT} {I : AH} {L : LawT} (σ : MSt) (b : Nat) (a : Nat)  (ha : I a = some (bCell (Λ.1 0 38) 1 b)) : Ct l D ZE B yX16_kind cX16_kind 1 (some .int) 0 0 0 0 [.ref (a)] (XH D Λ I L σ) (RI (nI (1)) (XH D Λ I L σ)) := by
  refine Ct.of (nL := 1) (lv := [some (.ref (a))]) (by decide) (Nat.le_of_ble_eq_true rfl) stZE 0 rfl ?_
  generalize hT : RI (nI (1)) (XH D Λ I L σ) = T
  intro zp ze zs zm zb zt zc F hr hnm
  generalize ([.ref (a)] : List Value).toArray = za at F ⊢
  refine g_iconst F (v := (nI 1)) dX16_kind_0 (by decide) (np := 1) rfl ?_
  have hv : nI (1) = nI (1) := congrArg nI (by rfl)
  exact g_iret F hr rfl (Nat.le_of_ble_eq_true rfl) (Nat.le_of_ble_eq_true rfl) dX16_kind_1 (fun h hs => by rw [← hT]; exact ⟨congrArg (fun z => some (Value.int z)) hv, hs⟩)

set_option maxRecDepth 100000 in
theorem ct_X17_kind_2 {l : Launch} {D : va_G} {B : Nat} {Λ : LT} {I : AH} {L : LawT} (σ : MSt) (b : Nat) (a : Nat)  (ha : I a = some (bCell (Λ.1 0 38) 2 b)) : Ct l D ZE B yX17_kind cX17_kind 1 (some .int) 0 0 0 0 [.ref (a)] (XH D Λ I L σ) (RI (nI (2)) (XH D Λ I L σ)) := by
  refine Ct.of (nL := 1) (lv := [some (.ref (a))]) (by decide) (Nat.le_of_ble_eq_true rfl) stZE 0 rfl ?_
  generalize hT : RI (nI (2)) (XH D Λ I L σ) = T
  intro zp ze zs zm zb zt zc F hr hnm
  generalize ([.ref (a)] : List Value).toArray = za at F ⊢
  refine g_iconst F (v := (nI 2)) dX17_kind_0 (by decide) (np := 1) rfl ?_
  have hv : nI (2) = nI (2) := congrArg nI (by rfl)
  exact g_iret F hr rfl (Nat.le_of_ble_eq_true rfl) (Nat.le_of_ble_eq_true rfl) dX17_kind_1 (fun h hs => by rw [← hT]; exact ⟨congrArg (fun z => some (Value.int z)) hv, hs⟩)

set_option maxRecDepth 100000 in
theorem ct_X18_kind_3 {l : Launch} {D : va_G} {B : Nat} {Λ : LT} {I : AH} {L : LawT} (σ : MSt) (b : Nat) (a : Nat)  (ha : I a = some (bCell (Λ.1 0 38) 3 b)) : Ct l D ZE B yX18_kind cX18_kind 1 (some .int) 0 0 0 0 [.ref (a)] (XH D Λ I L σ) (RI (nI (3)) (XH D Λ I L σ)) := by
  refine Ct.of (nL := 1) (lv := [some (.ref (a))]) (by decide) (Nat.le_of_ble_eq_true rfl) stZE 0 rfl ?_
  generalize hT : RI (nI (3)) (XH D Λ I L σ) = T
  intro zp ze zs zm zb zt zc F hr hnm
  generalize ([.ref (a)] : List Value).toArray = za at F ⊢
  refine g_iconst F (v := (nI 3)) dX18_kind_0 (by decide) (np := 1) rfl ?_
  have hv : nI (3) = nI (3) := congrArg nI (by rfl)
  exact g_iret F hr rfl (Nat.le_of_ble_eq_true rfl) (Nat.le_of_ble_eq_true rfl) dX18_kind_1 (fun h hs => by rw [← hT]; exact ⟨congrArg (fun z => some (Value.int z)) hv, hs⟩)

set_option maxRecDepth 100000 in
theorem ct_X19_kind_4 {l : Launch} {D : va_G} {B : Nat} {Λ : LT} {I : AH} {L : LawT} (σ : MSt) (b : Nat) (a : Nat)  (ha : I a = some (bCell (Λ.1 0 38) 4 b)) : Ct l D ZE B yX19_kind cX19_kind 1 (some .int) 0 0 0 0 [.ref (a)] (XH D Λ I L σ) (RI (nI (4)) (XH D Λ I L σ)) := by
  refine Ct.of (nL := 1) (lv := [some (.ref (a))]) (by decide) (Nat.le_of_ble_eq_true rfl) stZE 0 rfl ?_
  generalize hT : RI (nI (4)) (XH D Λ I L σ) = T
  intro zp ze zs zm zb zt zc F hr hnm
  generalize ([.ref (a)] : List Value).toArray = za at F ⊢
  refine g_iconst F (v := (nI 4)) dX19_kind_0 (by decide) (np := 1) rfl ?_
  have hv : nI (4) = nI (4) := congrArg nI (by rfl)
  exact g_iret F hr rfl (Nat.le_of_ble_eq_true rfl) (Nat.le_of_ble_eq_true rfl) dX19_kind_1 (fun h hs => by rw [← hT]; exact ⟨congrArg (fun z => some (Value.int z)) hv, hs⟩)

set_option maxRecDepth 100000 in
theorem ct_X20_kind_5 {l : Launch} {D : va_G} {B : Nat} {Λ : LT} {I : AH} {L : LawT} (σ : MSt) (b : Nat) (a : Nat)  (ha : I a = some (bCell (Λ.1 0 38) 5 b)) : Ct l D ZE B yX20_kind cX20_kind 1 (some .int) 0 0 0 0 [.ref (a)] (XH D Λ I L σ) (RI (nI (5)) (XH D Λ I L σ)) := by
  refine Ct.of (nL := 1) (lv := [some (.ref (a))]) (by decide) (Nat.le_of_ble_eq_true rfl) stZE 0 rfl ?_
  generalize hT : RI (nI (5)) (XH D Λ I L σ) = T
  intro zp ze zs zm zb zt zc F hr hnm
  generalize ([.ref (a)] : List Value).toArray = za at F ⊢
  refine g_iconst F (v := (nI 5)) dX20_kind_0 (by decide) (np := 1) rfl ?_
  have hv : nI (5) = nI (5) := congrArg nI (by rfl)
  exact g_iret F hr rfl (Nat.le_of_ble_eq_true rfl) (Nat.le_of_ble_eq_true rfl) dX20_kind_1 (fun h hs => by rw [← hT]; exact ⟨congrArg (fun z => some (Value.int z)) hv, hs⟩)

set_option maxRecDepth 100000 in
theorem ct_X21_kind_6 {l : Launch} {D : va_G} {B : Nat} {Λ : LT} {I : AH} {L : LawT} (σ : MSt) (b : Nat) (a : Nat)  (ha : I a = some (bCell (Λ.1 0 38) 6 b)) : Ct l D ZE B yX21_kind cX21_kind 1 (some .int) 0 0 0 0 [.ref (a)] (XH D Λ I L σ) (RI (nI (6)) (XH D Λ I L σ)) := by
  refine Ct.of (nL := 1) (lv := [some (.ref (a))]) (by decide) (Nat.le_of_ble_eq_true rfl) stZE 0 rfl ?_
  generalize hT : RI (nI (6)) (XH D Λ I L σ) = T
  intro zp ze zs zm zb zt zc F hr hnm
  generalize ([.ref (a)] : List Value).toArray = za at F ⊢
  refine g_bipush F (v := (nI 6)) dX21_kind_0 (by decide) (np := 2) rfl ?_
  have hv : nI (6) = nI (6) := congrArg nI (by rfl)
  exact g_iret F hr rfl (Nat.le_of_ble_eq_true rfl) (Nat.le_of_ble_eq_true rfl) dX21_kind_2 (fun h hs => by rw [← hT]; exact ⟨congrArg (fun z => some (Value.int z)) hv, hs⟩)

set_option maxRecDepth 100000 in
theorem ct_X22_kind_7 {l : Launch} {D : va_G} {B : Nat} {Λ : LT} {I : AH} {L : LawT} (σ : MSt) (b : Nat) (a : Nat)  (ha : I a = some (bCell (Λ.1 0 38) 7 b)) : Ct l D ZE B yX22_kind cX22_kind 1 (some .int) 0 0 0 0 [.ref (a)] (XH D Λ I L σ) (RI (nI (7)) (XH D Λ I L σ)) := by
  refine Ct.of (nL := 1) (lv := [some (.ref (a))]) (by decide) (Nat.le_of_ble_eq_true rfl) stZE 0 rfl ?_
  generalize hT : RI (nI (7)) (XH D Λ I L σ) = T
  intro zp ze zs zm zb zt zc F hr hnm
  generalize ([.ref (a)] : List Value).toArray = za at F ⊢
  refine g_bipush F (v := (nI 7)) dX22_kind_0 (by decide) (np := 2) rfl ?_
  have hv : nI (7) = nI (7) := congrArg nI (by rfl)
  exact g_iret F hr rfl (Nat.le_of_ble_eq_true rfl) (Nat.le_of_ble_eq_true rfl) dX22_kind_2 (fun h hs => by rw [← hT]; exact ⟨congrArg (fun z => some (Value.int z)) hv, hs⟩)

set_option maxRecDepth 100000 in
theorem ct_X15_isUnder_0 {l : Launch} {D : va_G} {B : Nat} {Λ : LT} {I : AH} {L : LawT} (σ : MSt) (b : Nat) (a : Nat) (u : Nat) (hu : u ≤ 7) (ha : I a = some (bCell (Λ.1 0 38) 0 b)) : Ct l D ZE B yX15_isUnder cX15_isUnder 2 (some .boolean) 1 20 0 0 [.ref (a), .int (nI u)] (XH D Λ I L σ) (RI (bI ((u = 0 ∨ u = 0))) (XH D Λ I L σ)) := by
  refine Ct.of (nL := 2) (lv := [some (.ref (a)), some (.int (nI u))]) (by decide) (Nat.le_of_ble_eq_true rfl) stZE 0 rfl ?_
  generalize hT : RI (bI ((u = 0 ∨ u = 0))) (XH D Λ I L σ) = T
  intro zp ze zs zm zb zt zc F hr hnm
  generalize ([.ref (a), .int (nI u)] : List Value).toArray = za at F ⊢
  refine g_iload_n F dX15_isUnder_0 rfl rfl (np := 1) rfl ?_
  refine g_if_eqN F (by omega) dX15_isUnder_1 (tp := 12) (by decide) (np := 4) rfl (fun c1 => ?_) (fun c1 => ?_)
  · refine g_iconst F (v := (nI 1)) dX15_isUnder_12 (by decide) (np := 13) rfl ?_
    refine g_goto F dX15_isUnder_13 (np := 17) (by decide) ?_
    have hv : (nI (1) : Int32) = bI ((u = 0 ∨ u = 0)) := (show (1 : Int32) = _ from (bI_t (by omega)).symm)
    exact g_iret F hr rfl (Nat.le_of_ble_eq_true rfl) (Nat.le_of_ble_eq_true rfl) dX15_isUnder_17 (fun h hs => by rw [← hT]; exact ⟨congrArg (fun z => some (Value.int z)) hv, hs⟩)
  · refine g_iload_n F dX15_isUnder_4 rfl rfl (np := 5) rfl ?_
    refine g_aload_n F dX15_isUnder_5 rfl rfl (np := 6) rfl ?_
    refine g_runO F (C := RX15) (owner := "PromiseRoofs$Storey") (x := ⟨"PromiseRoofs$Storey", "kind", "()I"⟩) (ci := 15) (T0 := TX15) (N := 2) (n := 0) (rest := [.int (nI u)]) (ct_X15_kind_0 σ b a (by exact ha)) q1494 q1497 q1495 q1496 q1495 q129 q1519 q1519 (by decide +kernel) ⟨Nat.le_of_ble_eq_true rfl, Nat.le_of_ble_eq_true rfl⟩ rfl (fun h hs => ⟨_, XH.kn hs ha⟩) rfl rfl (Nat.le_of_ble_eq_true rfl) dX15_isUnder_6 ⟨Nat.le_of_ble_eq_true rfl, Nat.le_of_ble_eq_true rfl⟩ (np := 9) rfl (k_RI ?_)
    refine g_icmp_neN F (by omega) (by decide) dX15_isUnder_9 (tp := 16) (by decide) (np := 12) rfl (fun c9 => ?_) (fun c9 => ?_)
    · refine g_iconst F (v := (nI 0)) dX15_isUnder_16 (by decide) (np := 17) rfl ?_
      have hv : (nI (0) : Int32) = bI ((u = 0 ∨ u = 0)) := (show (0 : Int32) = _ from (bI_f (by omega)).symm)
      exact g_iret F hr rfl (Nat.le_of_ble_eq_true rfl) (Nat.le_of_ble_eq_true rfl) dX15_isUnder_17 (fun h hs => by rw [← hT]; exact ⟨congrArg (fun z => some (Value.int z)) hv, hs⟩)
    · refine g_iconst F (v := (nI 1)) dX15_isUnder_12 (by decide) (np := 13) rfl ?_
      refine g_goto F dX15_isUnder_13 (np := 17) (by decide) ?_
      have hv : (nI (1) : Int32) = bI ((u = 0 ∨ u = 0)) := (show (1 : Int32) = _ from (bI_t (by omega)).symm)
      exact g_iret F hr rfl (Nat.le_of_ble_eq_true rfl) (Nat.le_of_ble_eq_true rfl) dX15_isUnder_17 (fun h hs => by rw [← hT]; exact ⟨congrArg (fun z => some (Value.int z)) hv, hs⟩)

set_option maxRecDepth 100000 in
theorem ct_X15_isUnder_1 {l : Launch} {D : va_G} {B : Nat} {Λ : LT} {I : AH} {L : LawT} (σ : MSt) (b : Nat) (a : Nat) (u : Nat) (hu : u ≤ 7) (ha : I a = some (bCell (Λ.1 0 38) 1 b)) : Ct l D ZE B yX15_isUnder cX15_isUnder 2 (some .boolean) 1 20 0 0 [.ref (a), .int (nI u)] (XH D Λ I L σ) (RI (bI ((u = 0 ∨ u = 1))) (XH D Λ I L σ)) := by
  refine Ct.of (nL := 2) (lv := [some (.ref (a)), some (.int (nI u))]) (by decide) (Nat.le_of_ble_eq_true rfl) stZE 0 rfl ?_
  generalize hT : RI (bI ((u = 0 ∨ u = 1))) (XH D Λ I L σ) = T
  intro zp ze zs zm zb zt zc F hr hnm
  generalize ([.ref (a), .int (nI u)] : List Value).toArray = za at F ⊢
  refine g_iload_n F dX15_isUnder_0 rfl rfl (np := 1) rfl ?_
  refine g_if_eqN F (by omega) dX15_isUnder_1 (tp := 12) (by decide) (np := 4) rfl (fun c1 => ?_) (fun c1 => ?_)
  · refine g_iconst F (v := (nI 1)) dX15_isUnder_12 (by decide) (np := 13) rfl ?_
    refine g_goto F dX15_isUnder_13 (np := 17) (by decide) ?_
    have hv : (nI (1) : Int32) = bI ((u = 0 ∨ u = 1)) := (show (1 : Int32) = _ from (bI_t (by omega)).symm)
    exact g_iret F hr rfl (Nat.le_of_ble_eq_true rfl) (Nat.le_of_ble_eq_true rfl) dX15_isUnder_17 (fun h hs => by rw [← hT]; exact ⟨congrArg (fun z => some (Value.int z)) hv, hs⟩)
  · refine g_iload_n F dX15_isUnder_4 rfl rfl (np := 5) rfl ?_
    refine g_aload_n F dX15_isUnder_5 rfl rfl (np := 6) rfl ?_
    refine g_runO F (C := RX16) (owner := "PromiseRoofs$Storey") (x := ⟨"PromiseRoofs$Storey", "kind", "()I"⟩) (ci := 16) (T0 := TX16) (N := 3) (n := 0) (rest := [.int (nI u)]) (ct_X16_kind_1 σ b a (by exact ha)) q1494 q1497 q1495 q1498 q1499 q130 q1500 q1519 (by decide +kernel) ⟨Nat.le_of_ble_eq_true rfl, Nat.le_of_ble_eq_true rfl⟩ rfl (fun h hs => ⟨_, XH.kn hs ha⟩) rfl rfl (Nat.le_of_ble_eq_true rfl) dX15_isUnder_6 ⟨Nat.le_of_ble_eq_true rfl, Nat.le_of_ble_eq_true rfl⟩ (np := 9) rfl (k_RI ?_)
    refine g_icmp_neN F (by omega) (by decide) dX15_isUnder_9 (tp := 16) (by decide) (np := 12) rfl (fun c9 => ?_) (fun c9 => ?_)
    · refine g_iconst F (v := (nI 0)) dX15_isUnder_16 (by decide) (np := 17) rfl ?_
      have hv : (nI (0) : Int32) = bI ((u = 0 ∨ u = 1)) := (show (0 : Int32) = _ from (bI_f (by omega)).symm)
      exact g_iret F hr rfl (Nat.le_of_ble_eq_true rfl) (Nat.le_of_ble_eq_true rfl) dX15_isUnder_17 (fun h hs => by rw [← hT]; exact ⟨congrArg (fun z => some (Value.int z)) hv, hs⟩)
    · refine g_iconst F (v := (nI 1)) dX15_isUnder_12 (by decide) (np := 13) rfl ?_
      refine g_goto F dX15_isUnder_13 (np := 17) (by decide) ?_
      have hv : (nI (1) : Int32) = bI ((u = 0 ∨ u = 1)) := (show (1 : Int32) = _ from (bI_t (by omega)).symm)
      exact g_iret F hr rfl (Nat.le_of_ble_eq_true rfl) (Nat.le_of_ble_eq_true rfl) dX15_isUnder_17 (fun h hs => by rw [← hT]; exact ⟨congrArg (fun z => some (Value.int z)) hv, hs⟩)

set_option maxRecDepth 100000 in
theorem ct_X15_isUnder_2 {l : Launch} {D : va_G} {B : Nat} {Λ : LT} {I : AH} {L : LawT} (σ : MSt) (b : Nat) (a : Nat) (u : Nat) (hu : u ≤ 7) (ha : I a = some (bCell (Λ.1 0 38) 2 b)) : Ct l D ZE B yX15_isUnder cX15_isUnder 2 (some .boolean) 1 20 0 0 [.ref (a), .int (nI u)] (XH D Λ I L σ) (RI (bI ((u = 0 ∨ u = 2))) (XH D Λ I L σ)) := by
  refine Ct.of (nL := 2) (lv := [some (.ref (a)), some (.int (nI u))]) (by decide) (Nat.le_of_ble_eq_true rfl) stZE 0 rfl ?_
  generalize hT : RI (bI ((u = 0 ∨ u = 2))) (XH D Λ I L σ) = T
  intro zp ze zs zm zb zt zc F hr hnm
  generalize ([.ref (a), .int (nI u)] : List Value).toArray = za at F ⊢
  refine g_iload_n F dX15_isUnder_0 rfl rfl (np := 1) rfl ?_
  refine g_if_eqN F (by omega) dX15_isUnder_1 (tp := 12) (by decide) (np := 4) rfl (fun c1 => ?_) (fun c1 => ?_)
  · refine g_iconst F (v := (nI 1)) dX15_isUnder_12 (by decide) (np := 13) rfl ?_
    refine g_goto F dX15_isUnder_13 (np := 17) (by decide) ?_
    have hv : (nI (1) : Int32) = bI ((u = 0 ∨ u = 2)) := (show (1 : Int32) = _ from (bI_t (by omega)).symm)
    exact g_iret F hr rfl (Nat.le_of_ble_eq_true rfl) (Nat.le_of_ble_eq_true rfl) dX15_isUnder_17 (fun h hs => by rw [← hT]; exact ⟨congrArg (fun z => some (Value.int z)) hv, hs⟩)
  · refine g_iload_n F dX15_isUnder_4 rfl rfl (np := 5) rfl ?_
    refine g_aload_n F dX15_isUnder_5 rfl rfl (np := 6) rfl ?_
    refine g_runO F (C := RX17) (owner := "PromiseRoofs$Storey") (x := ⟨"PromiseRoofs$Storey", "kind", "()I"⟩) (ci := 17) (T0 := TX17) (N := 3) (n := 0) (rest := [.int (nI u)]) (ct_X17_kind_2 σ b a (by exact ha)) q1494 q1497 q1495 q1501 q1502 q131 q1503 q1519 (by decide +kernel) ⟨Nat.le_of_ble_eq_true rfl, Nat.le_of_ble_eq_true rfl⟩ rfl (fun h hs => ⟨_, XH.kn hs ha⟩) rfl rfl (Nat.le_of_ble_eq_true rfl) dX15_isUnder_6 ⟨Nat.le_of_ble_eq_true rfl, Nat.le_of_ble_eq_true rfl⟩ (np := 9) rfl (k_RI ?_)
    refine g_icmp_neN F (by omega) (by decide) dX15_isUnder_9 (tp := 16) (by decide) (np := 12) rfl (fun c9 => ?_) (fun c9 => ?_)
    · refine g_iconst F (v := (nI 0)) dX15_isUnder_16 (by decide) (np := 17) rfl ?_
      have hv : (nI (0) : Int32) = bI ((u = 0 ∨ u = 2)) := (show (0 : Int32) = _ from (bI_f (by omega)).symm)
      exact g_iret F hr rfl (Nat.le_of_ble_eq_true rfl) (Nat.le_of_ble_eq_true rfl) dX15_isUnder_17 (fun h hs => by rw [← hT]; exact ⟨congrArg (fun z => some (Value.int z)) hv, hs⟩)
    · refine g_iconst F (v := (nI 1)) dX15_isUnder_12 (by decide) (np := 13) rfl ?_
      refine g_goto F dX15_isUnder_13 (np := 17) (by decide) ?_
      have hv : (nI (1) : Int32) = bI ((u = 0 ∨ u = 2)) := (show (1 : Int32) = _ from (bI_t (by omega)).symm)
      exact g_iret F hr rfl (Nat.le_of_ble_eq_true rfl) (Nat.le_of_ble_eq_true rfl) dX15_isUnder_17 (fun h hs => by rw [← hT]; exact ⟨congrArg (fun z => some (Value.int z)) hv, hs⟩)

set_option maxRecDepth 100000 in
theorem ct_X15_isUnder_3 {l : Launch} {D : va_G} {B : Nat} {Λ : LT} {I : AH} {L : LawT} (σ : MSt) (b : Nat) (a : Nat) (u : Nat) (hu : u ≤ 7) (ha : I a = some (bCell (Λ.1 0 38) 3 b)) : Ct l D ZE B yX15_isUnder cX15_isUnder 2 (some .boolean) 1 20 0 0 [.ref (a), .int (nI u)] (XH D Λ I L σ) (RI (bI ((u = 0 ∨ u = 3))) (XH D Λ I L σ)) := by
  refine Ct.of (nL := 2) (lv := [some (.ref (a)), some (.int (nI u))]) (by decide) (Nat.le_of_ble_eq_true rfl) stZE 0 rfl ?_
  generalize hT : RI (bI ((u = 0 ∨ u = 3))) (XH D Λ I L σ) = T
  intro zp ze zs zm zb zt zc F hr hnm
  generalize ([.ref (a), .int (nI u)] : List Value).toArray = za at F ⊢
  refine g_iload_n F dX15_isUnder_0 rfl rfl (np := 1) rfl ?_
  refine g_if_eqN F (by omega) dX15_isUnder_1 (tp := 12) (by decide) (np := 4) rfl (fun c1 => ?_) (fun c1 => ?_)
  · refine g_iconst F (v := (nI 1)) dX15_isUnder_12 (by decide) (np := 13) rfl ?_
    refine g_goto F dX15_isUnder_13 (np := 17) (by decide) ?_
    have hv : (nI (1) : Int32) = bI ((u = 0 ∨ u = 3)) := (show (1 : Int32) = _ from (bI_t (by omega)).symm)
    exact g_iret F hr rfl (Nat.le_of_ble_eq_true rfl) (Nat.le_of_ble_eq_true rfl) dX15_isUnder_17 (fun h hs => by rw [← hT]; exact ⟨congrArg (fun z => some (Value.int z)) hv, hs⟩)
  · refine g_iload_n F dX15_isUnder_4 rfl rfl (np := 5) rfl ?_
    refine g_aload_n F dX15_isUnder_5 rfl rfl (np := 6) rfl ?_
    refine g_runO F (C := RX18) (owner := "PromiseRoofs$Storey") (x := ⟨"PromiseRoofs$Storey", "kind", "()I"⟩) (ci := 18) (T0 := TX18) (N := 4) (n := 0) (rest := [.int (nI u)]) (ct_X18_kind_3 σ b a (by exact ha)) q1494 q1497 q1495 q1513 q1514 q132 q1515 q1519 (by decide +kernel) ⟨Nat.le_of_ble_eq_true rfl, Nat.le_of_ble_eq_true rfl⟩ rfl (fun h hs => ⟨_, XH.kn hs ha⟩) rfl rfl (Nat.le_of_ble_eq_true rfl) dX15_isUnder_6 ⟨Nat.le_of_ble_eq_true rfl, Nat.le_of_ble_eq_true rfl⟩ (np := 9) rfl (k_RI ?_)
    refine g_icmp_neN F (by omega) (by decide) dX15_isUnder_9 (tp := 16) (by decide) (np := 12) rfl (fun c9 => ?_) (fun c9 => ?_)
    · refine g_iconst F (v := (nI 0)) dX15_isUnder_16 (by decide) (np := 17) rfl ?_
      have hv : (nI (0) : Int32) = bI ((u = 0 ∨ u = 3)) := (show (0 : Int32) = _ from (bI_f (by omega)).symm)
      exact g_iret F hr rfl (Nat.le_of_ble_eq_true rfl) (Nat.le_of_ble_eq_true rfl) dX15_isUnder_17 (fun h hs => by rw [← hT]; exact ⟨congrArg (fun z => some (Value.int z)) hv, hs⟩)
    · refine g_iconst F (v := (nI 1)) dX15_isUnder_12 (by decide) (np := 13) rfl ?_
      refine g_goto F dX15_isUnder_13 (np := 17) (by decide) ?_
      have hv : (nI (1) : Int32) = bI ((u = 0 ∨ u = 3)) := (show (1 : Int32) = _ from (bI_t (by omega)).symm)
      exact g_iret F hr rfl (Nat.le_of_ble_eq_true rfl) (Nat.le_of_ble_eq_true rfl) dX15_isUnder_17 (fun h hs => by rw [← hT]; exact ⟨congrArg (fun z => some (Value.int z)) hv, hs⟩)

set_option maxRecDepth 100000 in
theorem ct_X15_isUnder_4 {l : Launch} {D : va_G} {B : Nat} {Λ : LT} {I : AH} {L : LawT} (σ : MSt) (b : Nat) (a : Nat) (u : Nat) (hu : u ≤ 7) (ha : I a = some (bCell (Λ.1 0 38) 4 b)) : Ct l D ZE B yX15_isUnder cX15_isUnder 2 (some .boolean) 1 20 0 0 [.ref (a), .int (nI u)] (XH D Λ I L σ) (RI (bI ((u = 0 ∨ u = 4))) (XH D Λ I L σ)) := by
  refine Ct.of (nL := 2) (lv := [some (.ref (a)), some (.int (nI u))]) (by decide) (Nat.le_of_ble_eq_true rfl) stZE 0 rfl ?_
  generalize hT : RI (bI ((u = 0 ∨ u = 4))) (XH D Λ I L σ) = T
  intro zp ze zs zm zb zt zc F hr hnm
  generalize ([.ref (a), .int (nI u)] : List Value).toArray = za at F ⊢
  refine g_iload_n F dX15_isUnder_0 rfl rfl (np := 1) rfl ?_
  refine g_if_eqN F (by omega) dX15_isUnder_1 (tp := 12) (by decide) (np := 4) rfl (fun c1 => ?_) (fun c1 => ?_)
  · refine g_iconst F (v := (nI 1)) dX15_isUnder_12 (by decide) (np := 13) rfl ?_
    refine g_goto F dX15_isUnder_13 (np := 17) (by decide) ?_
    have hv : (nI (1) : Int32) = bI ((u = 0 ∨ u = 4)) := (show (1 : Int32) = _ from (bI_t (by omega)).symm)
    exact g_iret F hr rfl (Nat.le_of_ble_eq_true rfl) (Nat.le_of_ble_eq_true rfl) dX15_isUnder_17 (fun h hs => by rw [← hT]; exact ⟨congrArg (fun z => some (Value.int z)) hv, hs⟩)
  · refine g_iload_n F dX15_isUnder_4 rfl rfl (np := 5) rfl ?_
    refine g_aload_n F dX15_isUnder_5 rfl rfl (np := 6) rfl ?_
    refine g_runO F (C := RX19) (owner := "PromiseRoofs$Storey") (x := ⟨"PromiseRoofs$Storey", "kind", "()I"⟩) (ci := 19) (T0 := TX19) (N := 4) (n := 0) (rest := [.int (nI u)]) (ct_X19_kind_4 σ b a (by exact ha)) q1494 q1497 q1495 q1516 q1517 q133 q1518 q1519 (by decide +kernel) ⟨Nat.le_of_ble_eq_true rfl, Nat.le_of_ble_eq_true rfl⟩ rfl (fun h hs => ⟨_, XH.kn hs ha⟩) rfl rfl (Nat.le_of_ble_eq_true rfl) dX15_isUnder_6 ⟨Nat.le_of_ble_eq_true rfl, Nat.le_of_ble_eq_true rfl⟩ (np := 9) rfl (k_RI ?_)
    refine g_icmp_neN F (by omega) (by decide) dX15_isUnder_9 (tp := 16) (by decide) (np := 12) rfl (fun c9 => ?_) (fun c9 => ?_)
    · refine g_iconst F (v := (nI 0)) dX15_isUnder_16 (by decide) (np := 17) rfl ?_
      have hv : (nI (0) : Int32) = bI ((u = 0 ∨ u = 4)) := (show (0 : Int32) = _ from (bI_f (by omega)).symm)
      exact g_iret F hr rfl (Nat.le_of_ble_eq_true rfl) (Nat.le_of_ble_eq_true rfl) dX15_isUnder_17 (fun h hs => by rw [← hT]; exact ⟨congrArg (fun z => some (Value.int z)) hv, hs⟩)
    · refine g_iconst F (v := (nI 1)) dX15_isUnder_12 (by decide) (np := 13) rfl ?_
      refine g_goto F dX15_isUnder_13 (np := 17) (by decide) ?_
      have hv : (nI (1) : Int32) = bI ((u = 0 ∨ u = 4)) := (show (1 : Int32) = _ from (bI_t (by omega)).symm)
      exact g_iret F hr rfl (Nat.le_of_ble_eq_true rfl) (Nat.le_of_ble_eq_true rfl) dX15_isUnder_17 (fun h hs => by rw [← hT]; exact ⟨congrArg (fun z => some (Value.int z)) hv, hs⟩)

set_option maxRecDepth 100000 in
theorem ct_X15_isUnder_5 {l : Launch} {D : va_G} {B : Nat} {Λ : LT} {I : AH} {L : LawT} (σ : MSt) (b : Nat) (a : Nat) (u : Nat) (hu : u ≤ 7) (ha : I a = some (bCell (Λ.1 0 38) 5 b)) : Ct l D ZE B yX15_isUnder cX15_isUnder 2 (some .boolean) 1 20 0 0 [.ref (a), .int (nI u)] (XH D Λ I L σ) (RI (bI ((u = 0 ∨ u = 5))) (XH D Λ I L σ)) := by
  refine Ct.of (nL := 2) (lv := [some (.ref (a)), some (.int (nI u))]) (by decide) (Nat.le_of_ble_eq_true rfl) stZE 0 rfl ?_
  generalize hT : RI (bI ((u = 0 ∨ u = 5))) (XH D Λ I L σ) = T
  intro zp ze zs zm zb zt zc F hr hnm
  generalize ([.ref (a), .int (nI u)] : List Value).toArray = za at F ⊢
  refine g_iload_n F dX15_isUnder_0 rfl rfl (np := 1) rfl ?_
  refine g_if_eqN F (by omega) dX15_isUnder_1 (tp := 12) (by decide) (np := 4) rfl (fun c1 => ?_) (fun c1 => ?_)
  · refine g_iconst F (v := (nI 1)) dX15_isUnder_12 (by decide) (np := 13) rfl ?_
    refine g_goto F dX15_isUnder_13 (np := 17) (by decide) ?_
    have hv : (nI (1) : Int32) = bI ((u = 0 ∨ u = 5)) := (show (1 : Int32) = _ from (bI_t (by omega)).symm)
    exact g_iret F hr rfl (Nat.le_of_ble_eq_true rfl) (Nat.le_of_ble_eq_true rfl) dX15_isUnder_17 (fun h hs => by rw [← hT]; exact ⟨congrArg (fun z => some (Value.int z)) hv, hs⟩)
  · refine g_iload_n F dX15_isUnder_4 rfl rfl (np := 5) rfl ?_
    refine g_aload_n F dX15_isUnder_5 rfl rfl (np := 6) rfl ?_
    refine g_runO F (C := RX20) (owner := "PromiseRoofs$Storey") (x := ⟨"PromiseRoofs$Storey", "kind", "()I"⟩) (ci := 20) (T0 := TX20) (N := 5) (n := 0) (rest := [.int (nI u)]) (ct_X20_kind_5 σ b a (by exact ha)) q1494 q1497 q1495 q1510 q1511 q134 q1512 q1519 (by decide +kernel) ⟨Nat.le_of_ble_eq_true rfl, Nat.le_of_ble_eq_true rfl⟩ rfl (fun h hs => ⟨_, XH.kn hs ha⟩) rfl rfl (Nat.le_of_ble_eq_true rfl) dX15_isUnder_6 ⟨Nat.le_of_ble_eq_true rfl, Nat.le_of_ble_eq_true rfl⟩ (np := 9) rfl (k_RI ?_)
    refine g_icmp_neN F (by omega) (by decide) dX15_isUnder_9 (tp := 16) (by decide) (np := 12) rfl (fun c9 => ?_) (fun c9 => ?_)
    · refine g_iconst F (v := (nI 0)) dX15_isUnder_16 (by decide) (np := 17) rfl ?_
      have hv : (nI (0) : Int32) = bI ((u = 0 ∨ u = 5)) := (show (0 : Int32) = _ from (bI_f (by omega)).symm)
      exact g_iret F hr rfl (Nat.le_of_ble_eq_true rfl) (Nat.le_of_ble_eq_true rfl) dX15_isUnder_17 (fun h hs => by rw [← hT]; exact ⟨congrArg (fun z => some (Value.int z)) hv, hs⟩)
    · refine g_iconst F (v := (nI 1)) dX15_isUnder_12 (by decide) (np := 13) rfl ?_
      refine g_goto F dX15_isUnder_13 (np := 17) (by decide) ?_
      have hv : (nI (1) : Int32) = bI ((u = 0 ∨ u = 5)) := (show (1 : Int32) = _ from (bI_t (by omega)).symm)
      exact g_iret F hr rfl (Nat.le_of_ble_eq_true rfl) (Nat.le_of_ble_eq_true rfl) dX15_isUnder_17 (fun h hs => by rw [← hT]; exact ⟨congrArg (fun z => some (Value.int z)) hv, hs⟩)

set_option maxRecDepth 100000 in
theorem ct_X15_isUnder_6 {l : Launch} {D : va_G} {B : Nat} {Λ : LT} {I : AH} {L : LawT} (σ : MSt) (b : Nat) (a : Nat) (u : Nat) (hu : u ≤ 7) (ha : I a = some (bCell (Λ.1 0 38) 6 b)) : Ct l D ZE B yX15_isUnder cX15_isUnder 2 (some .boolean) 1 20 0 0 [.ref (a), .int (nI u)] (XH D Λ I L σ) (RI (bI ((u = 0 ∨ u = 6))) (XH D Λ I L σ)) := by
  refine Ct.of (nL := 2) (lv := [some (.ref (a)), some (.int (nI u))]) (by decide) (Nat.le_of_ble_eq_true rfl) stZE 0 rfl ?_
  generalize hT : RI (bI ((u = 0 ∨ u = 6))) (XH D Λ I L σ) = T
  intro zp ze zs zm zb zt zc F hr hnm
  generalize ([.ref (a), .int (nI u)] : List Value).toArray = za at F ⊢
  refine g_iload_n F dX15_isUnder_0 rfl rfl (np := 1) rfl ?_
  refine g_if_eqN F (by omega) dX15_isUnder_1 (tp := 12) (by decide) (np := 4) rfl (fun c1 => ?_) (fun c1 => ?_)
  · refine g_iconst F (v := (nI 1)) dX15_isUnder_12 (by decide) (np := 13) rfl ?_
    refine g_goto F dX15_isUnder_13 (np := 17) (by decide) ?_
    have hv : (nI (1) : Int32) = bI ((u = 0 ∨ u = 6)) := (show (1 : Int32) = _ from (bI_t (by omega)).symm)
    exact g_iret F hr rfl (Nat.le_of_ble_eq_true rfl) (Nat.le_of_ble_eq_true rfl) dX15_isUnder_17 (fun h hs => by rw [← hT]; exact ⟨congrArg (fun z => some (Value.int z)) hv, hs⟩)
  · refine g_iload_n F dX15_isUnder_4 rfl rfl (np := 5) rfl ?_
    refine g_aload_n F dX15_isUnder_5 rfl rfl (np := 6) rfl ?_
    refine g_runO F (C := RX21) (owner := "PromiseRoofs$Storey") (x := ⟨"PromiseRoofs$Storey", "kind", "()I"⟩) (ci := 21) (T0 := TX21) (N := 3) (n := 0) (rest := [.int (nI u)]) (ct_X21_kind_6 σ b a (by exact ha)) q1494 q1497 q1495 q1504 q1505 q135 q1506 q1519 (by decide +kernel) ⟨Nat.le_of_ble_eq_true rfl, Nat.le_of_ble_eq_true rfl⟩ rfl (fun h hs => ⟨_, XH.kn hs ha⟩) rfl rfl (Nat.le_of_ble_eq_true rfl) dX15_isUnder_6 ⟨Nat.le_of_ble_eq_true rfl, Nat.le_of_ble_eq_true rfl⟩ (np := 9) rfl (k_RI ?_)
    refine g_icmp_neN F (by omega) (by decide) dX15_isUnder_9 (tp := 16) (by decide) (np := 12) rfl (fun c9 => ?_) (fun c9 => ?_)
    · refine g_iconst F (v := (nI 0)) dX15_isUnder_16 (by decide) (np := 17) rfl ?_
      have hv : (nI (0) : Int32) = bI ((u = 0 ∨ u = 6)) := (show (0 : Int32) = _ from (bI_f (by omega)).symm)
      exact g_iret F hr rfl (Nat.le_of_ble_eq_true rfl) (Nat.le_of_ble_eq_true rfl) dX15_isUnder_17 (fun h hs => by rw [← hT]; exact ⟨congrArg (fun z => some (Value.int z)) hv, hs⟩)
    · refine g_iconst F (v := (nI 1)) dX15_isUnder_12 (by decide) (np := 13) rfl ?_
      refine g_goto F dX15_isUnder_13 (np := 17) (by decide) ?_
      have hv : (nI (1) : Int32) = bI ((u = 0 ∨ u = 6)) := (show (1 : Int32) = _ from (bI_t (by omega)).symm)
      exact g_iret F hr rfl (Nat.le_of_ble_eq_true rfl) (Nat.le_of_ble_eq_true rfl) dX15_isUnder_17 (fun h hs => by rw [← hT]; exact ⟨congrArg (fun z => some (Value.int z)) hv, hs⟩)

set_option maxRecDepth 100000 in
theorem ct_X15_isUnder_7 {l : Launch} {D : va_G} {B : Nat} {Λ : LT} {I : AH} {L : LawT} (σ : MSt) (b : Nat) (a : Nat) (u : Nat) (hu : u ≤ 7) (ha : I a = some (bCell (Λ.1 0 38) 7 b)) : Ct l D ZE B yX15_isUnder cX15_isUnder 2 (some .boolean) 1 20 0 0 [.ref (a), .int (nI u)] (XH D Λ I L σ) (RI (bI ((u = 0 ∨ u = 7))) (XH D Λ I L σ)) := by
  refine Ct.of (nL := 2) (lv := [some (.ref (a)), some (.int (nI u))]) (by decide) (Nat.le_of_ble_eq_true rfl) stZE 0 rfl ?_
  generalize hT : RI (bI ((u = 0 ∨ u = 7))) (XH D Λ I L σ) = T
  intro zp ze zs zm zb zt zc F hr hnm
  generalize ([.ref (a), .int (nI u)] : List Value).toArray = za at F ⊢
  refine g_iload_n F dX15_isUnder_0 rfl rfl (np := 1) rfl ?_
  refine g_if_eqN F (by omega) dX15_isUnder_1 (tp := 12) (by decide) (np := 4) rfl (fun c1 => ?_) (fun c1 => ?_)
  · refine g_iconst F (v := (nI 1)) dX15_isUnder_12 (by decide) (np := 13) rfl ?_
    refine g_goto F dX15_isUnder_13 (np := 17) (by decide) ?_
    have hv : (nI (1) : Int32) = bI ((u = 0 ∨ u = 7)) := (show (1 : Int32) = _ from (bI_t (by omega)).symm)
    exact g_iret F hr rfl (Nat.le_of_ble_eq_true rfl) (Nat.le_of_ble_eq_true rfl) dX15_isUnder_17 (fun h hs => by rw [← hT]; exact ⟨congrArg (fun z => some (Value.int z)) hv, hs⟩)
  · refine g_iload_n F dX15_isUnder_4 rfl rfl (np := 5) rfl ?_
    refine g_aload_n F dX15_isUnder_5 rfl rfl (np := 6) rfl ?_
    refine g_runO F (C := RX22) (owner := "PromiseRoofs$Storey") (x := ⟨"PromiseRoofs$Storey", "kind", "()I"⟩) (ci := 22) (T0 := TX22) (N := 5) (n := 0) (rest := [.int (nI u)]) (ct_X22_kind_7 σ b a (by exact ha)) q1494 q1497 q1495 q1507 q1508 q136 q1509 q1519 (by decide +kernel) ⟨Nat.le_of_ble_eq_true rfl, Nat.le_of_ble_eq_true rfl⟩ rfl (fun h hs => ⟨_, XH.kn hs ha⟩) rfl rfl (Nat.le_of_ble_eq_true rfl) dX15_isUnder_6 ⟨Nat.le_of_ble_eq_true rfl, Nat.le_of_ble_eq_true rfl⟩ (np := 9) rfl (k_RI ?_)
    refine g_icmp_neN F (by omega) (by decide) dX15_isUnder_9 (tp := 16) (by decide) (np := 12) rfl (fun c9 => ?_) (fun c9 => ?_)
    · refine g_iconst F (v := (nI 0)) dX15_isUnder_16 (by decide) (np := 17) rfl ?_
      have hv : (nI (0) : Int32) = bI ((u = 0 ∨ u = 7)) := (show (0 : Int32) = _ from (bI_f (by omega)).symm)
      exact g_iret F hr rfl (Nat.le_of_ble_eq_true rfl) (Nat.le_of_ble_eq_true rfl) dX15_isUnder_17 (fun h hs => by rw [← hT]; exact ⟨congrArg (fun z => some (Value.int z)) hv, hs⟩)
    · refine g_iconst F (v := (nI 1)) dX15_isUnder_12 (by decide) (np := 13) rfl ?_
      refine g_goto F dX15_isUnder_13 (np := 17) (by decide) ?_
      have hv : (nI (1) : Int32) = bI ((u = 0 ∨ u = 7)) := (show (1 : Int32) = _ from (bI_t (by omega)).symm)
      exact g_iret F hr rfl (Nat.le_of_ble_eq_true rfl) (Nat.le_of_ble_eq_true rfl) dX15_isUnder_17 (fun h hs => by rw [← hT]; exact ⟨congrArg (fun z => some (Value.int z)) hv, hs⟩)

set_option maxRecDepth 100000 in
theorem ct_X16_isUnder_1 {l : Launch} {D : va_G} {B : Nat} {Λ : LT} {I : AH} {L : LawT} (σ : MSt) (b : Nat) (a : Nat) (u : Nat) (hu : u ≤ 7) (ha : I a = some (bCell (Λ.1 0 38) 1 b)) : Ct l D ZE B yX16_isUnder cX16_isUnder 2 (some .boolean) 2 41 0 0 [.ref (a), .int (nI u)] (XH D Λ I L σ) (RI (bI ((u = 1 ∨ u = 0 ∨ u = 1))) (XH D Λ I L σ)) := by
  refine Ct.of (nL := 2) (lv := [some (.ref (a)), some (.int (nI u))]) (by decide) (Nat.le_of_ble_eq_true rfl) stZE 0 rfl ?_
  generalize hT : RI (bI ((u = 1 ∨ u = 0 ∨ u = 1))) (XH D Λ I L σ) = T
  intro zp ze zs zm zb zt zc F hr hnm
  generalize ([.ref (a), .int (nI u)] : List Value).toArray = za at F ⊢
  refine g_iload_n F dX16_isUnder_0 rfl rfl (np := 1) rfl ?_
  refine g_iconst F (v := (nI 1)) dX16_isUnder_1 (by decide) (np := 2) rfl ?_
  refine g_icmp_eqN F (by omega) (by decide) dX16_isUnder_2 (tp := 13) (by decide) (np := 5) rfl (fun c2 => ?_) (fun c2 => ?_)
  · refine g_iconst F (v := (nI 1)) dX16_isUnder_13 (by decide) (np := 14) rfl ?_
    refine g_goto F dX16_isUnder_14 (np := 18) (by decide) ?_
    have hv : (nI (1) : Int32) = bI ((u = 1 ∨ u = 0 ∨ u = 1)) := (show (1 : Int32) = _ from (bI_t (by omega)).symm)
    exact g_iret F hr rfl (Nat.le_of_ble_eq_true rfl) (Nat.le_of_ble_eq_true rfl) dX16_isUnder_18 (fun h hs => by rw [← hT]; exact ⟨congrArg (fun z => some (Value.int z)) hv, hs⟩)
  · refine g_aload_n F dX16_isUnder_5 rfl rfl (np := 6) rfl ?_
    refine g_iload_n F dX16_isUnder_6 rfl rfl (np := 7) rfl ?_
    refine g_runSU F (C := RX16) (owner := "PromiseRoofs$Storey") (ch := []) (x := ⟨"PromiseRoofs$Storey", "isUnder", "(I)Z"⟩) (ci := 16) (T0 := TX16) (N := 3) (n := 1) (rest := []) (ct_X15_isUnder_1 σ b a u (by exact hu) (by exact ha)) q1492 q1488 q1088 q1486 q129 q1493 rfl (by decide) (by decide +kernel) ⟨Nat.le_of_ble_eq_true rfl, Nat.le_of_ble_eq_true rfl⟩ rfl (fun h hs => ⟨_, XH.kn hs ha⟩) rfl rfl (Nat.le_of_ble_eq_true rfl) dX16_isUnder_7 ⟨Nat.le_of_ble_eq_true rfl, Nat.le_of_ble_eq_true rfl⟩ (np := 10) rfl (k_RI ?_)
    refine g_if_eqB F dX16_isUnder_10 (tp := 17) (by decide) (np := 13) rfl (fun c10 => ?_) (fun c10 => ?_)
    · refine g_iconst F (v := (nI 0)) dX16_isUnder_17 (by decide) (np := 18) rfl ?_
      have hv : (nI (0) : Int32) = bI ((u = 1 ∨ u = 0 ∨ u = 1)) := (show (0 : Int32) = _ from (bI_f (by omega)).symm)
      exact g_iret F hr rfl (Nat.le_of_ble_eq_true rfl) (Nat.le_of_ble_eq_true rfl) dX16_isUnder_18 (fun h hs => by rw [← hT]; exact ⟨congrArg (fun z => some (Value.int z)) hv, hs⟩)
    · refine g_iconst F (v := (nI 1)) dX16_isUnder_13 (by decide) (np := 14) rfl ?_
      refine g_goto F dX16_isUnder_14 (np := 18) (by decide) ?_
      have hv : (nI (1) : Int32) = bI ((u = 1 ∨ u = 0 ∨ u = 1)) := (show (1 : Int32) = _ from (bI_t (by omega)).symm)
      exact g_iret F hr rfl (Nat.le_of_ble_eq_true rfl) (Nat.le_of_ble_eq_true rfl) dX16_isUnder_18 (fun h hs => by rw [← hT]; exact ⟨congrArg (fun z => some (Value.int z)) hv, hs⟩)

set_option maxRecDepth 100000 in
theorem ct_X16_isUnder_4 {l : Launch} {D : va_G} {B : Nat} {Λ : LT} {I : AH} {L : LawT} (σ : MSt) (b : Nat) (a : Nat) (u : Nat) (hu : u ≤ 7) (ha : I a = some (bCell (Λ.1 0 38) 4 b)) : Ct l D ZE B yX16_isUnder cX16_isUnder 2 (some .boolean) 2 41 0 0 [.ref (a), .int (nI u)] (XH D Λ I L σ) (RI (bI ((u = 1 ∨ u = 0 ∨ u = 4))) (XH D Λ I L σ)) := by
  refine Ct.of (nL := 2) (lv := [some (.ref (a)), some (.int (nI u))]) (by decide) (Nat.le_of_ble_eq_true rfl) stZE 0 rfl ?_
  generalize hT : RI (bI ((u = 1 ∨ u = 0 ∨ u = 4))) (XH D Λ I L σ) = T
  intro zp ze zs zm zb zt zc F hr hnm
  generalize ([.ref (a), .int (nI u)] : List Value).toArray = za at F ⊢
  refine g_iload_n F dX16_isUnder_0 rfl rfl (np := 1) rfl ?_
  refine g_iconst F (v := (nI 1)) dX16_isUnder_1 (by decide) (np := 2) rfl ?_
  refine g_icmp_eqN F (by omega) (by decide) dX16_isUnder_2 (tp := 13) (by decide) (np := 5) rfl (fun c2 => ?_) (fun c2 => ?_)
  · refine g_iconst F (v := (nI 1)) dX16_isUnder_13 (by decide) (np := 14) rfl ?_
    refine g_goto F dX16_isUnder_14 (np := 18) (by decide) ?_
    have hv : (nI (1) : Int32) = bI ((u = 1 ∨ u = 0 ∨ u = 4)) := (show (1 : Int32) = _ from (bI_t (by omega)).symm)
    exact g_iret F hr rfl (Nat.le_of_ble_eq_true rfl) (Nat.le_of_ble_eq_true rfl) dX16_isUnder_18 (fun h hs => by rw [← hT]; exact ⟨congrArg (fun z => some (Value.int z)) hv, hs⟩)
  · refine g_aload_n F dX16_isUnder_5 rfl rfl (np := 6) rfl ?_
    refine g_iload_n F dX16_isUnder_6 rfl rfl (np := 7) rfl ?_
    refine g_runSU F (C := RX19) (owner := "PromiseRoofs$Storey") (ch := []) (x := ⟨"PromiseRoofs$Storey", "isUnder", "(I)Z"⟩) (ci := 19) (T0 := TX19) (N := 4) (n := 1) (rest := []) (ct_X15_isUnder_4 σ b a u (by exact hu) (by exact ha)) q1492 q1488 q1088 q1486 q129 q1493 rfl (by decide) (by decide +kernel) ⟨Nat.le_of_ble_eq_true rfl, Nat.le_of_ble_eq_true rfl⟩ rfl (fun h hs => ⟨_, XH.kn hs ha⟩) rfl rfl (Nat.le_of_ble_eq_true rfl) dX16_isUnder_7 ⟨Nat.le_of_ble_eq_true rfl, Nat.le_of_ble_eq_true rfl⟩ (np := 10) rfl (k_RI ?_)
    refine g_if_eqB F dX16_isUnder_10 (tp := 17) (by decide) (np := 13) rfl (fun c10 => ?_) (fun c10 => ?_)
    · refine g_iconst F (v := (nI 0)) dX16_isUnder_17 (by decide) (np := 18) rfl ?_
      have hv : (nI (0) : Int32) = bI ((u = 1 ∨ u = 0 ∨ u = 4)) := (show (0 : Int32) = _ from (bI_f (by omega)).symm)
      exact g_iret F hr rfl (Nat.le_of_ble_eq_true rfl) (Nat.le_of_ble_eq_true rfl) dX16_isUnder_18 (fun h hs => by rw [← hT]; exact ⟨congrArg (fun z => some (Value.int z)) hv, hs⟩)
    · refine g_iconst F (v := (nI 1)) dX16_isUnder_13 (by decide) (np := 14) rfl ?_
      refine g_goto F dX16_isUnder_14 (np := 18) (by decide) ?_
      have hv : (nI (1) : Int32) = bI ((u = 1 ∨ u = 0 ∨ u = 4)) := (show (1 : Int32) = _ from (bI_t (by omega)).symm)
      exact g_iret F hr rfl (Nat.le_of_ble_eq_true rfl) (Nat.le_of_ble_eq_true rfl) dX16_isUnder_18 (fun h hs => by rw [← hT]; exact ⟨congrArg (fun z => some (Value.int z)) hv, hs⟩)

set_option maxRecDepth 100000 in
theorem ct_X16_isUnder_7 {l : Launch} {D : va_G} {B : Nat} {Λ : LT} {I : AH} {L : LawT} (σ : MSt) (b : Nat) (a : Nat) (u : Nat) (hu : u ≤ 7) (ha : I a = some (bCell (Λ.1 0 38) 7 b)) : Ct l D ZE B yX16_isUnder cX16_isUnder 2 (some .boolean) 2 41 0 0 [.ref (a), .int (nI u)] (XH D Λ I L σ) (RI (bI ((u = 1 ∨ u = 0 ∨ u = 7))) (XH D Λ I L σ)) := by
  refine Ct.of (nL := 2) (lv := [some (.ref (a)), some (.int (nI u))]) (by decide) (Nat.le_of_ble_eq_true rfl) stZE 0 rfl ?_
  generalize hT : RI (bI ((u = 1 ∨ u = 0 ∨ u = 7))) (XH D Λ I L σ) = T
  intro zp ze zs zm zb zt zc F hr hnm
  generalize ([.ref (a), .int (nI u)] : List Value).toArray = za at F ⊢
  refine g_iload_n F dX16_isUnder_0 rfl rfl (np := 1) rfl ?_
  refine g_iconst F (v := (nI 1)) dX16_isUnder_1 (by decide) (np := 2) rfl ?_
  refine g_icmp_eqN F (by omega) (by decide) dX16_isUnder_2 (tp := 13) (by decide) (np := 5) rfl (fun c2 => ?_) (fun c2 => ?_)
  · refine g_iconst F (v := (nI 1)) dX16_isUnder_13 (by decide) (np := 14) rfl ?_
    refine g_goto F dX16_isUnder_14 (np := 18) (by decide) ?_
    have hv : (nI (1) : Int32) = bI ((u = 1 ∨ u = 0 ∨ u = 7)) := (show (1 : Int32) = _ from (bI_t (by omega)).symm)
    exact g_iret F hr rfl (Nat.le_of_ble_eq_true rfl) (Nat.le_of_ble_eq_true rfl) dX16_isUnder_18 (fun h hs => by rw [← hT]; exact ⟨congrArg (fun z => some (Value.int z)) hv, hs⟩)
  · refine g_aload_n F dX16_isUnder_5 rfl rfl (np := 6) rfl ?_
    refine g_iload_n F dX16_isUnder_6 rfl rfl (np := 7) rfl ?_
    refine g_runSU F (C := RX22) (owner := "PromiseRoofs$Storey") (ch := []) (x := ⟨"PromiseRoofs$Storey", "isUnder", "(I)Z"⟩) (ci := 22) (T0 := TX22) (N := 5) (n := 1) (rest := []) (ct_X15_isUnder_7 σ b a u (by exact hu) (by exact ha)) q1492 q1488 q1088 q1486 q129 q1493 rfl (by decide) (by decide +kernel) ⟨Nat.le_of_ble_eq_true rfl, Nat.le_of_ble_eq_true rfl⟩ rfl (fun h hs => ⟨_, XH.kn hs ha⟩) rfl rfl (Nat.le_of_ble_eq_true rfl) dX16_isUnder_7 ⟨Nat.le_of_ble_eq_true rfl, Nat.le_of_ble_eq_true rfl⟩ (np := 10) rfl (k_RI ?_)
    refine g_if_eqB F dX16_isUnder_10 (tp := 17) (by decide) (np := 13) rfl (fun c10 => ?_) (fun c10 => ?_)
    · refine g_iconst F (v := (nI 0)) dX16_isUnder_17 (by decide) (np := 18) rfl ?_
      have hv : (nI (0) : Int32) = bI ((u = 1 ∨ u = 0 ∨ u = 7)) := (show (0 : Int32) = _ from (bI_f (by omega)).symm)
      exact g_iret F hr rfl (Nat.le_of_ble_eq_true rfl) (Nat.le_of_ble_eq_true rfl) dX16_isUnder_18 (fun h hs => by rw [← hT]; exact ⟨congrArg (fun z => some (Value.int z)) hv, hs⟩)
    · refine g_iconst F (v := (nI 1)) dX16_isUnder_13 (by decide) (np := 14) rfl ?_
      refine g_goto F dX16_isUnder_14 (np := 18) (by decide) ?_
      have hv : (nI (1) : Int32) = bI ((u = 1 ∨ u = 0 ∨ u = 7)) := (show (1 : Int32) = _ from (bI_t (by omega)).symm)
      exact g_iret F hr rfl (Nat.le_of_ble_eq_true rfl) (Nat.le_of_ble_eq_true rfl) dX16_isUnder_18 (fun h hs => by rw [← hT]; exact ⟨congrArg (fun z => some (Value.int z)) hv, hs⟩)

set_option maxRecDepth 100000 in
theorem ct_X17_isUnder_2 {l : Launch} {D : va_G} {B : Nat} {Λ : LT} {I : AH} {L : LawT} (σ : MSt) (b : Nat) (a : Nat) (u : Nat) (hu : u ≤ 7) (ha : I a = some (bCell (Λ.1 0 38) 2 b)) : Ct l D ZE B yX17_isUnder cX17_isUnder 2 (some .boolean) 2 41 0 0 [.ref (a), .int (nI u)] (XH D Λ I L σ) (RI (bI ((u = 2 ∨ u = 0 ∨ u = 2))) (XH D Λ I L σ)) := by
  refine Ct.of (nL := 2) (lv := [some (.ref (a)), some (.int (nI u))]) (by decide) (Nat.le_of_ble_eq_true rfl) stZE 0 rfl ?_
  generalize hT : RI (bI ((u = 2 ∨ u = 0 ∨ u = 2))) (XH D Λ I L σ) = T
  intro zp ze zs zm zb zt zc F hr hnm
  generalize ([.ref (a), .int (nI u)] : List Value).toArray = za at F ⊢
  refine g_iload_n F dX17_isUnder_0 rfl rfl (np := 1) rfl ?_
  refine g_iconst F (v := (nI 2)) dX17_isUnder_1 (by decide) (np := 2) rfl ?_
  refine g_icmp_eqN F (by omega) (by decide) dX17_isUnder_2 (tp := 13) (by decide) (np := 5) rfl (fun c2 => ?_) (fun c2 => ?_)
  · refine g_iconst F (v := (nI 1)) dX17_isUnder_13 (by decide) (np := 14) rfl ?_
    refine g_goto F dX17_isUnder_14 (np := 18) (by decide) ?_
    have hv : (nI (1) : Int32) = bI ((u = 2 ∨ u = 0 ∨ u = 2)) := (show (1 : Int32) = _ from (bI_t (by omega)).symm)
    exact g_iret F hr rfl (Nat.le_of_ble_eq_true rfl) (Nat.le_of_ble_eq_true rfl) dX17_isUnder_18 (fun h hs => by rw [← hT]; exact ⟨congrArg (fun z => some (Value.int z)) hv, hs⟩)
  · refine g_aload_n F dX17_isUnder_5 rfl rfl (np := 6) rfl ?_
    refine g_iload_n F dX17_isUnder_6 rfl rfl (np := 7) rfl ?_
    refine g_runSU F (C := RX17) (owner := "PromiseRoofs$Storey") (ch := []) (x := ⟨"PromiseRoofs$Storey", "isUnder", "(I)Z"⟩) (ci := 17) (T0 := TX17) (N := 3) (n := 1) (rest := []) (ct_X15_isUnder_2 σ b a u (by exact hu) (by exact ha)) q1523 q1488 q1100 q1486 q129 q1493 rfl (by decide) (by decide +kernel) ⟨Nat.le_of_ble_eq_true rfl, Nat.le_of_ble_eq_true rfl⟩ rfl (fun h hs => ⟨_, XH.kn hs ha⟩) rfl rfl (Nat.le_of_ble_eq_true rfl) dX17_isUnder_7 ⟨Nat.le_of_ble_eq_true rfl, Nat.le_of_ble_eq_true rfl⟩ (np := 10) rfl (k_RI ?_)
    refine g_if_eqB F dX17_isUnder_10 (tp := 17) (by decide) (np := 13) rfl (fun c10 => ?_) (fun c10 => ?_)
    · refine g_iconst F (v := (nI 0)) dX17_isUnder_17 (by decide) (np := 18) rfl ?_
      have hv : (nI (0) : Int32) = bI ((u = 2 ∨ u = 0 ∨ u = 2)) := (show (0 : Int32) = _ from (bI_f (by omega)).symm)
      exact g_iret F hr rfl (Nat.le_of_ble_eq_true rfl) (Nat.le_of_ble_eq_true rfl) dX17_isUnder_18 (fun h hs => by rw [← hT]; exact ⟨congrArg (fun z => some (Value.int z)) hv, hs⟩)
    · refine g_iconst F (v := (nI 1)) dX17_isUnder_13 (by decide) (np := 14) rfl ?_
      refine g_goto F dX17_isUnder_14 (np := 18) (by decide) ?_
      have hv : (nI (1) : Int32) = bI ((u = 2 ∨ u = 0 ∨ u = 2)) := (show (1 : Int32) = _ from (bI_t (by omega)).symm)
      exact g_iret F hr rfl (Nat.le_of_ble_eq_true rfl) (Nat.le_of_ble_eq_true rfl) dX17_isUnder_18 (fun h hs => by rw [← hT]; exact ⟨congrArg (fun z => some (Value.int z)) hv, hs⟩)

set_option maxRecDepth 100000 in
theorem ct_X17_isUnder_3 {l : Launch} {D : va_G} {B : Nat} {Λ : LT} {I : AH} {L : LawT} (σ : MSt) (b : Nat) (a : Nat) (u : Nat) (hu : u ≤ 7) (ha : I a = some (bCell (Λ.1 0 38) 3 b)) : Ct l D ZE B yX17_isUnder cX17_isUnder 2 (some .boolean) 2 41 0 0 [.ref (a), .int (nI u)] (XH D Λ I L σ) (RI (bI ((u = 2 ∨ u = 0 ∨ u = 3))) (XH D Λ I L σ)) := by
  refine Ct.of (nL := 2) (lv := [some (.ref (a)), some (.int (nI u))]) (by decide) (Nat.le_of_ble_eq_true rfl) stZE 0 rfl ?_
  generalize hT : RI (bI ((u = 2 ∨ u = 0 ∨ u = 3))) (XH D Λ I L σ) = T
  intro zp ze zs zm zb zt zc F hr hnm
  generalize ([.ref (a), .int (nI u)] : List Value).toArray = za at F ⊢
  refine g_iload_n F dX17_isUnder_0 rfl rfl (np := 1) rfl ?_
  refine g_iconst F (v := (nI 2)) dX17_isUnder_1 (by decide) (np := 2) rfl ?_
  refine g_icmp_eqN F (by omega) (by decide) dX17_isUnder_2 (tp := 13) (by decide) (np := 5) rfl (fun c2 => ?_) (fun c2 => ?_)
  · refine g_iconst F (v := (nI 1)) dX17_isUnder_13 (by decide) (np := 14) rfl ?_
    refine g_goto F dX17_isUnder_14 (np := 18) (by decide) ?_
    have hv : (nI (1) : Int32) = bI ((u = 2 ∨ u = 0 ∨ u = 3)) := (show (1 : Int32) = _ from (bI_t (by omega)).symm)
    exact g_iret F hr rfl (Nat.le_of_ble_eq_true rfl) (Nat.le_of_ble_eq_true rfl) dX17_isUnder_18 (fun h hs => by rw [← hT]; exact ⟨congrArg (fun z => some (Value.int z)) hv, hs⟩)
  · refine g_aload_n F dX17_isUnder_5 rfl rfl (np := 6) rfl ?_
    refine g_iload_n F dX17_isUnder_6 rfl rfl (np := 7) rfl ?_
    refine g_runSU F (C := RX18) (owner := "PromiseRoofs$Storey") (ch := []) (x := ⟨"PromiseRoofs$Storey", "isUnder", "(I)Z"⟩) (ci := 18) (T0 := TX18) (N := 4) (n := 1) (rest := []) (ct_X15_isUnder_3 σ b a u (by exact hu) (by exact ha)) q1523 q1488 q1100 q1486 q129 q1493 rfl (by decide) (by decide +kernel) ⟨Nat.le_of_ble_eq_true rfl, Nat.le_of_ble_eq_true rfl⟩ rfl (fun h hs => ⟨_, XH.kn hs ha⟩) rfl rfl (Nat.le_of_ble_eq_true rfl) dX17_isUnder_7 ⟨Nat.le_of_ble_eq_true rfl, Nat.le_of_ble_eq_true rfl⟩ (np := 10) rfl (k_RI ?_)
    refine g_if_eqB F dX17_isUnder_10 (tp := 17) (by decide) (np := 13) rfl (fun c10 => ?_) (fun c10 => ?_)
    · refine g_iconst F (v := (nI 0)) dX17_isUnder_17 (by decide) (np := 18) rfl ?_
      have hv : (nI (0) : Int32) = bI ((u = 2 ∨ u = 0 ∨ u = 3)) := (show (0 : Int32) = _ from (bI_f (by omega)).symm)
      exact g_iret F hr rfl (Nat.le_of_ble_eq_true rfl) (Nat.le_of_ble_eq_true rfl) dX17_isUnder_18 (fun h hs => by rw [← hT]; exact ⟨congrArg (fun z => some (Value.int z)) hv, hs⟩)
    · refine g_iconst F (v := (nI 1)) dX17_isUnder_13 (by decide) (np := 14) rfl ?_
      refine g_goto F dX17_isUnder_14 (np := 18) (by decide) ?_
      have hv : (nI (1) : Int32) = bI ((u = 2 ∨ u = 0 ∨ u = 3)) := (show (1 : Int32) = _ from (bI_t (by omega)).symm)
      exact g_iret F hr rfl (Nat.le_of_ble_eq_true rfl) (Nat.le_of_ble_eq_true rfl) dX17_isUnder_18 (fun h hs => by rw [← hT]; exact ⟨congrArg (fun z => some (Value.int z)) hv, hs⟩)

set_option maxRecDepth 100000 in
theorem ct_X17_isUnder_5 {l : Launch} {D : va_G} {B : Nat} {Λ : LT} {I : AH} {L : LawT} (σ : MSt) (b : Nat) (a : Nat) (u : Nat) (hu : u ≤ 7) (ha : I a = some (bCell (Λ.1 0 38) 5 b)) : Ct l D ZE B yX17_isUnder cX17_isUnder 2 (some .boolean) 2 41 0 0 [.ref (a), .int (nI u)] (XH D Λ I L σ) (RI (bI ((u = 2 ∨ u = 0 ∨ u = 5))) (XH D Λ I L σ)) := by
  refine Ct.of (nL := 2) (lv := [some (.ref (a)), some (.int (nI u))]) (by decide) (Nat.le_of_ble_eq_true rfl) stZE 0 rfl ?_
  generalize hT : RI (bI ((u = 2 ∨ u = 0 ∨ u = 5))) (XH D Λ I L σ) = T
  intro zp ze zs zm zb zt zc F hr hnm
  generalize ([.ref (a), .int (nI u)] : List Value).toArray = za at F ⊢
  refine g_iload_n F dX17_isUnder_0 rfl rfl (np := 1) rfl ?_
  refine g_iconst F (v := (nI 2)) dX17_isUnder_1 (by decide) (np := 2) rfl ?_
  refine g_icmp_eqN F (by omega) (by decide) dX17_isUnder_2 (tp := 13) (by decide) (np := 5) rfl (fun c2 => ?_) (fun c2 => ?_)
  · refine g_iconst F (v := (nI 1)) dX17_isUnder_13 (by decide) (np := 14) rfl ?_
    refine g_goto F dX17_isUnder_14 (np := 18) (by decide) ?_
    have hv : (nI (1) : Int32) = bI ((u = 2 ∨ u = 0 ∨ u = 5)) := (show (1 : Int32) = _ from (bI_t (by omega)).symm)
    exact g_iret F hr rfl (Nat.le_of_ble_eq_true rfl) (Nat.le_of_ble_eq_true rfl) dX17_isUnder_18 (fun h hs => by rw [← hT]; exact ⟨congrArg (fun z => some (Value.int z)) hv, hs⟩)
  · refine g_aload_n F dX17_isUnder_5 rfl rfl (np := 6) rfl ?_
    refine g_iload_n F dX17_isUnder_6 rfl rfl (np := 7) rfl ?_
    refine g_runSU F (C := RX20) (owner := "PromiseRoofs$Storey") (ch := []) (x := ⟨"PromiseRoofs$Storey", "isUnder", "(I)Z"⟩) (ci := 20) (T0 := TX20) (N := 5) (n := 1) (rest := []) (ct_X15_isUnder_5 σ b a u (by exact hu) (by exact ha)) q1523 q1488 q1100 q1486 q129 q1493 rfl (by decide) (by decide +kernel) ⟨Nat.le_of_ble_eq_true rfl, Nat.le_of_ble_eq_true rfl⟩ rfl (fun h hs => ⟨_, XH.kn hs ha⟩) rfl rfl (Nat.le_of_ble_eq_true rfl) dX17_isUnder_7 ⟨Nat.le_of_ble_eq_true rfl, Nat.le_of_ble_eq_true rfl⟩ (np := 10) rfl (k_RI ?_)
    refine g_if_eqB F dX17_isUnder_10 (tp := 17) (by decide) (np := 13) rfl (fun c10 => ?_) (fun c10 => ?_)
    · refine g_iconst F (v := (nI 0)) dX17_isUnder_17 (by decide) (np := 18) rfl ?_
      have hv : (nI (0) : Int32) = bI ((u = 2 ∨ u = 0 ∨ u = 5)) := (show (0 : Int32) = _ from (bI_f (by omega)).symm)
      exact g_iret F hr rfl (Nat.le_of_ble_eq_true rfl) (Nat.le_of_ble_eq_true rfl) dX17_isUnder_18 (fun h hs => by rw [← hT]; exact ⟨congrArg (fun z => some (Value.int z)) hv, hs⟩)
    · refine g_iconst F (v := (nI 1)) dX17_isUnder_13 (by decide) (np := 14) rfl ?_
      refine g_goto F dX17_isUnder_14 (np := 18) (by decide) ?_
      have hv : (nI (1) : Int32) = bI ((u = 2 ∨ u = 0 ∨ u = 5)) := (show (1 : Int32) = _ from (bI_t (by omega)).symm)
      exact g_iret F hr rfl (Nat.le_of_ble_eq_true rfl) (Nat.le_of_ble_eq_true rfl) dX17_isUnder_18 (fun h hs => by rw [← hT]; exact ⟨congrArg (fun z => some (Value.int z)) hv, hs⟩)

set_option maxRecDepth 100000 in
theorem ct_X18_isUnder_3 {l : Launch} {D : va_G} {B : Nat} {Λ : LT} {I : AH} {L : LawT} (σ : MSt) (b : Nat) (a : Nat) (u : Nat) (hu : u ≤ 7) (ha : I a = some (bCell (Λ.1 0 38) 3 b)) : Ct l D ZE B yX18_isUnder cX18_isUnder 2 (some .boolean) 3 62 0 0 [.ref (a), .int (nI u)] (XH D Λ I L σ) (RI (bI ((u = 3 ∨ u = 2 ∨ u = 0 ∨ u = 3))) (XH D Λ I L σ)) := by
  refine Ct.of (nL := 2) (lv := [some (.ref (a)), some (.int (nI u))]) (by decide) (Nat.le_of_ble_eq_true rfl) stZE 0 rfl ?_
  generalize hT : RI (bI ((u = 3 ∨ u = 2 ∨ u = 0 ∨ u = 3))) (XH D Λ I L σ) = T
  intro zp ze zs zm zb zt zc F hr hnm
  generalize ([.ref (a), .int (nI u)] : List Value).toArray = za at F ⊢
  refine g_iload_n F dX18_isUnder_0 rfl rfl (np := 1) rfl ?_
  refine g_iconst F (v := (nI 3)) dX18_isUnder_1 (by decide) (np := 2) rfl ?_
  refine g_icmp_eqN F (by omega) (by decide) dX18_isUnder_2 (tp := 13) (by decide) (np := 5) rfl (fun c2 => ?_) (fun c2 => ?_)
  · refine g_iconst F (v := (nI 1)) dX18_isUnder_13 (by decide) (np := 14) rfl ?_
    refine g_goto F dX18_isUnder_14 (np := 18) (by decide) ?_
    have hv : (nI (1) : Int32) = bI ((u = 3 ∨ u = 2 ∨ u = 0 ∨ u = 3)) := (show (1 : Int32) = _ from (bI_t (by omega)).symm)
    exact g_iret F hr rfl (Nat.le_of_ble_eq_true rfl) (Nat.le_of_ble_eq_true rfl) dX18_isUnder_18 (fun h hs => by rw [← hT]; exact ⟨congrArg (fun z => some (Value.int z)) hv, hs⟩)
  · refine g_aload_n F dX18_isUnder_5 rfl rfl (np := 6) rfl ?_
    refine g_iload_n F dX18_isUnder_6 rfl rfl (np := 7) rfl ?_
    refine g_runSU F (C := RX18) (owner := "PromiseRoofs$Cellar") (ch := []) (x := ⟨"PromiseRoofs$Cellar", "isUnder", "(I)Z"⟩) (ci := 18) (T0 := TX18) (N := 4) (n := 1) (rest := []) (ct_X17_isUnder_3 σ b a u (by exact hu) (by exact ha)) q1532 q2068 q1113 q1521 q131 q1522 rfl (by decide) (by decide +kernel) ⟨Nat.le_of_ble_eq_true rfl, Nat.le_of_ble_eq_true rfl⟩ rfl (fun h hs => ⟨_, XH.kn hs ha⟩) rfl rfl (Nat.le_of_ble_eq_true rfl) dX18_isUnder_7 ⟨Nat.le_of_ble_eq_true rfl, Nat.le_of_ble_eq_true rfl⟩ (np := 10) rfl (k_RI ?_)
    refine g_if_eqB F dX18_isUnder_10 (tp := 17) (by decide) (np := 13) rfl (fun c10 => ?_) (fun c10 => ?_)
    · refine g_iconst F (v := (nI 0)) dX18_isUnder_17 (by decide) (np := 18) rfl ?_
      have hv : (nI (0) : Int32) = bI ((u = 3 ∨ u = 2 ∨ u = 0 ∨ u = 3)) := (show (0 : Int32) = _ from (bI_f (by omega)).symm)
      exact g_iret F hr rfl (Nat.le_of_ble_eq_true rfl) (Nat.le_of_ble_eq_true rfl) dX18_isUnder_18 (fun h hs => by rw [← hT]; exact ⟨congrArg (fun z => some (Value.int z)) hv, hs⟩)
    · refine g_iconst F (v := (nI 1)) dX18_isUnder_13 (by decide) (np := 14) rfl ?_
      refine g_goto F dX18_isUnder_14 (np := 18) (by decide) ?_
      have hv : (nI (1) : Int32) = bI ((u = 3 ∨ u = 2 ∨ u = 0 ∨ u = 3)) := (show (1 : Int32) = _ from (bI_t (by omega)).symm)
      exact g_iret F hr rfl (Nat.le_of_ble_eq_true rfl) (Nat.le_of_ble_eq_true rfl) dX18_isUnder_18 (fun h hs => by rw [← hT]; exact ⟨congrArg (fun z => some (Value.int z)) hv, hs⟩)

set_option maxRecDepth 100000 in
theorem ct_X18_isUnder_5 {l : Launch} {D : va_G} {B : Nat} {Λ : LT} {I : AH} {L : LawT} (σ : MSt) (b : Nat) (a : Nat) (u : Nat) (hu : u ≤ 7) (ha : I a = some (bCell (Λ.1 0 38) 5 b)) : Ct l D ZE B yX18_isUnder cX18_isUnder 2 (some .boolean) 3 62 0 0 [.ref (a), .int (nI u)] (XH D Λ I L σ) (RI (bI ((u = 3 ∨ u = 2 ∨ u = 0 ∨ u = 5))) (XH D Λ I L σ)) := by
  refine Ct.of (nL := 2) (lv := [some (.ref (a)), some (.int (nI u))]) (by decide) (Nat.le_of_ble_eq_true rfl) stZE 0 rfl ?_
  generalize hT : RI (bI ((u = 3 ∨ u = 2 ∨ u = 0 ∨ u = 5))) (XH D Λ I L σ) = T
  intro zp ze zs zm zb zt zc F hr hnm
  generalize ([.ref (a), .int (nI u)] : List Value).toArray = za at F ⊢
  refine g_iload_n F dX18_isUnder_0 rfl rfl (np := 1) rfl ?_
  refine g_iconst F (v := (nI 3)) dX18_isUnder_1 (by decide) (np := 2) rfl ?_
  refine g_icmp_eqN F (by omega) (by decide) dX18_isUnder_2 (tp := 13) (by decide) (np := 5) rfl (fun c2 => ?_) (fun c2 => ?_)
  · refine g_iconst F (v := (nI 1)) dX18_isUnder_13 (by decide) (np := 14) rfl ?_
    refine g_goto F dX18_isUnder_14 (np := 18) (by decide) ?_
    have hv : (nI (1) : Int32) = bI ((u = 3 ∨ u = 2 ∨ u = 0 ∨ u = 5)) := (show (1 : Int32) = _ from (bI_t (by omega)).symm)
    exact g_iret F hr rfl (Nat.le_of_ble_eq_true rfl) (Nat.le_of_ble_eq_true rfl) dX18_isUnder_18 (fun h hs => by rw [← hT]; exact ⟨congrArg (fun z => some (Value.int z)) hv, hs⟩)
  · refine g_aload_n F dX18_isUnder_5 rfl rfl (np := 6) rfl ?_
    refine g_iload_n F dX18_isUnder_6 rfl rfl (np := 7) rfl ?_
    refine g_runSU F (C := RX20) (owner := "PromiseRoofs$Cellar") (ch := []) (x := ⟨"PromiseRoofs$Cellar", "isUnder", "(I)Z"⟩) (ci := 20) (T0 := TX20) (N := 5) (n := 1) (rest := []) (ct_X17_isUnder_5 σ b a u (by exact hu) (by exact ha)) q1532 q2068 q1113 q1521 q131 q1522 rfl (by decide) (by decide +kernel) ⟨Nat.le_of_ble_eq_true rfl, Nat.le_of_ble_eq_true rfl⟩ rfl (fun h hs => ⟨_, XH.kn hs ha⟩) rfl rfl (Nat.le_of_ble_eq_true rfl) dX18_isUnder_7 ⟨Nat.le_of_ble_eq_true rfl, Nat.le_of_ble_eq_true rfl⟩ (np := 10) rfl (k_RI ?_)
    refine g_if_eqB F dX18_isUnder_10 (tp := 17) (by decide) (np := 13) rfl (fun c10 => ?_) (fun c10 => ?_)
    · refine g_iconst F (v := (nI 0)) dX18_isUnder_17 (by decide) (np := 18) rfl ?_
      have hv : (nI (0) : Int32) = bI ((u = 3 ∨ u = 2 ∨ u = 0 ∨ u = 5)) := (show (0 : Int32) = _ from (bI_f (by omega)).symm)
      exact g_iret F hr rfl (Nat.le_of_ble_eq_true rfl) (Nat.le_of_ble_eq_true rfl) dX18_isUnder_18 (fun h hs => by rw [← hT]; exact ⟨congrArg (fun z => some (Value.int z)) hv, hs⟩)
    · refine g_iconst F (v := (nI 1)) dX18_isUnder_13 (by decide) (np := 14) rfl ?_
      refine g_goto F dX18_isUnder_14 (np := 18) (by decide) ?_
      have hv : (nI (1) : Int32) = bI ((u = 3 ∨ u = 2 ∨ u = 0 ∨ u = 5)) := (show (1 : Int32) = _ from (bI_t (by omega)).symm)
      exact g_iret F hr rfl (Nat.le_of_ble_eq_true rfl) (Nat.le_of_ble_eq_true rfl) dX18_isUnder_18 (fun h hs => by rw [← hT]; exact ⟨congrArg (fun z => some (Value.int z)) hv, hs⟩)

set_option maxRecDepth 100000 in
theorem ct_X19_isUnder_4 {l : Launch} {D : va_G} {B : Nat} {Λ : LT} {I : AH} {L : LawT} (σ : MSt) (b : Nat) (a : Nat) (u : Nat) (hu : u ≤ 7) (ha : I a = some (bCell (Λ.1 0 38) 4 b)) : Ct l D ZE B yX19_isUnder cX19_isUnder 2 (some .boolean) 3 62 0 0 [.ref (a), .int (nI u)] (XH D Λ I L σ) (RI (bI ((u = 4 ∨ u = 1 ∨ u = 0 ∨ u = 4))) (XH D Λ I L σ)) := by
  refine Ct.of (nL := 2) (lv := [some (.ref (a)), some (.int (nI u))]) (by decide) (Nat.le_of_ble_eq_true rfl) stZE 0 rfl ?_
  generalize hT : RI (bI ((u = 4 ∨ u = 1 ∨ u = 0 ∨ u = 4))) (XH D Λ I L σ) = T
  intro zp ze zs zm zb zt zc F hr hnm
  generalize ([.ref (a), .int (nI u)] : List Value).toArray = za at F ⊢
  refine g_iload_n F dX19_isUnder_0 rfl rfl (np := 1) rfl ?_
  refine g_iconst F (v := (nI 4)) dX19_isUnder_1 (by decide) (np := 2) rfl ?_
  refine g_icmp_eqN F (by omega) (by decide) dX19_isUnder_2 (tp := 13) (by decide) (np := 5) rfl (fun c2 => ?_) (fun c2 => ?_)
  · refine g_iconst F (v := (nI 1)) dX19_isUnder_13 (by decide) (np := 14) rfl ?_
    refine g_goto F dX19_isUnder_14 (np := 18) (by decide) ?_
    have hv : (nI (1) : Int32) = bI ((u = 4 ∨ u = 1 ∨ u = 0 ∨ u = 4)) := (show (1 : Int32) = _ from (bI_t (by omega)).symm)
    exact g_iret F hr rfl (Nat.le_of_ble_eq_true rfl) (Nat.le_of_ble_eq_true rfl) dX19_isUnder_18 (fun h hs => by rw [← hT]; exact ⟨congrArg (fun z => some (Value.int z)) hv, hs⟩)
  · refine g_aload_n F dX19_isUnder_5 rfl rfl (np := 6) rfl ?_
    refine g_iload_n F dX19_isUnder_6 rfl rfl (np := 7) rfl ?_
    refine g_runSU F (C := RX19) (owner := "PromiseRoofs$Attic") (ch := []) (x := ⟨"PromiseRoofs$Attic", "isUnder", "(I)Z"⟩) (ci := 19) (T0 := TX19) (N := 4) (n := 1) (rest := []) (ct_X16_isUnder_4 σ b a u (by exact hu) (by exact ha)) q1528 q2067 q1126 q1490 q130 q1491 rfl (by decide) (by decide +kernel) ⟨Nat.le_of_ble_eq_true rfl, Nat.le_of_ble_eq_true rfl⟩ rfl (fun h hs => ⟨_, XH.kn hs ha⟩) rfl rfl (Nat.le_of_ble_eq_true rfl) dX19_isUnder_7 ⟨Nat.le_of_ble_eq_true rfl, Nat.le_of_ble_eq_true rfl⟩ (np := 10) rfl (k_RI ?_)
    refine g_if_eqB F dX19_isUnder_10 (tp := 17) (by decide) (np := 13) rfl (fun c10 => ?_) (fun c10 => ?_)
    · refine g_iconst F (v := (nI 0)) dX19_isUnder_17 (by decide) (np := 18) rfl ?_
      have hv : (nI (0) : Int32) = bI ((u = 4 ∨ u = 1 ∨ u = 0 ∨ u = 4)) := (show (0 : Int32) = _ from (bI_f (by omega)).symm)
      exact g_iret F hr rfl (Nat.le_of_ble_eq_true rfl) (Nat.le_of_ble_eq_true rfl) dX19_isUnder_18 (fun h hs => by rw [← hT]; exact ⟨congrArg (fun z => some (Value.int z)) hv, hs⟩)
    · refine g_iconst F (v := (nI 1)) dX19_isUnder_13 (by decide) (np := 14) rfl ?_
      refine g_goto F dX19_isUnder_14 (np := 18) (by decide) ?_
      have hv : (nI (1) : Int32) = bI ((u = 4 ∨ u = 1 ∨ u = 0 ∨ u = 4)) := (show (1 : Int32) = _ from (bI_t (by omega)).symm)
      exact g_iret F hr rfl (Nat.le_of_ble_eq_true rfl) (Nat.le_of_ble_eq_true rfl) dX19_isUnder_18 (fun h hs => by rw [← hT]; exact ⟨congrArg (fun z => some (Value.int z)) hv, hs⟩)

set_option maxRecDepth 100000 in
theorem ct_X19_isUnder_7 {l : Launch} {D : va_G} {B : Nat} {Λ : LT} {I : AH} {L : LawT} (σ : MSt) (b : Nat) (a : Nat) (u : Nat) (hu : u ≤ 7) (ha : I a = some (bCell (Λ.1 0 38) 7 b)) : Ct l D ZE B yX19_isUnder cX19_isUnder 2 (some .boolean) 3 62 0 0 [.ref (a), .int (nI u)] (XH D Λ I L σ) (RI (bI ((u = 4 ∨ u = 1 ∨ u = 0 ∨ u = 7))) (XH D Λ I L σ)) := by
  refine Ct.of (nL := 2) (lv := [some (.ref (a)), some (.int (nI u))]) (by decide) (Nat.le_of_ble_eq_true rfl) stZE 0 rfl ?_
  generalize hT : RI (bI ((u = 4 ∨ u = 1 ∨ u = 0 ∨ u = 7))) (XH D Λ I L σ) = T
  intro zp ze zs zm zb zt zc F hr hnm
  generalize ([.ref (a), .int (nI u)] : List Value).toArray = za at F ⊢
  refine g_iload_n F dX19_isUnder_0 rfl rfl (np := 1) rfl ?_
  refine g_iconst F (v := (nI 4)) dX19_isUnder_1 (by decide) (np := 2) rfl ?_
  refine g_icmp_eqN F (by omega) (by decide) dX19_isUnder_2 (tp := 13) (by decide) (np := 5) rfl (fun c2 => ?_) (fun c2 => ?_)
  · refine g_iconst F (v := (nI 1)) dX19_isUnder_13 (by decide) (np := 14) rfl ?_
    refine g_goto F dX19_isUnder_14 (np := 18) (by decide) ?_
    have hv : (nI (1) : Int32) = bI ((u = 4 ∨ u = 1 ∨ u = 0 ∨ u = 7)) := (show (1 : Int32) = _ from (bI_t (by omega)).symm)
    exact g_iret F hr rfl (Nat.le_of_ble_eq_true rfl) (Nat.le_of_ble_eq_true rfl) dX19_isUnder_18 (fun h hs => by rw [← hT]; exact ⟨congrArg (fun z => some (Value.int z)) hv, hs⟩)
  · refine g_aload_n F dX19_isUnder_5 rfl rfl (np := 6) rfl ?_
    refine g_iload_n F dX19_isUnder_6 rfl rfl (np := 7) rfl ?_
    refine g_runSU F (C := RX22) (owner := "PromiseRoofs$Attic") (ch := []) (x := ⟨"PromiseRoofs$Attic", "isUnder", "(I)Z"⟩) (ci := 22) (T0 := TX22) (N := 5) (n := 1) (rest := []) (ct_X16_isUnder_7 σ b a u (by exact hu) (by exact ha)) q1528 q2067 q1126 q1490 q130 q1491 rfl (by decide) (by decide +kernel) ⟨Nat.le_of_ble_eq_true rfl, Nat.le_of_ble_eq_true rfl⟩ rfl (fun h hs => ⟨_, XH.kn hs ha⟩) rfl rfl (Nat.le_of_ble_eq_true rfl) dX19_isUnder_7 ⟨Nat.le_of_ble_eq_true rfl, Nat.le_of_ble_eq_true rfl⟩ (np := 10) rfl (k_RI ?_)
    refine g_if_eqB F dX19_isUnder_10 (tp := 17) (by decide) (np := 13) rfl (fun c10 => ?_) (fun c10 => ?_)
    · refine g_iconst F (v := (nI 0)) dX19_isUnder_17 (by decide) (np := 18) rfl ?_
      have hv : (nI (0) : Int32) = bI ((u = 4 ∨ u = 1 ∨ u = 0 ∨ u = 7)) := (show (0 : Int32) = _ from (bI_f (by omega)).symm)
      exact g_iret F hr rfl (Nat.le_of_ble_eq_true rfl) (Nat.le_of_ble_eq_true rfl) dX19_isUnder_18 (fun h hs => by rw [← hT]; exact ⟨congrArg (fun z => some (Value.int z)) hv, hs⟩)
    · refine g_iconst F (v := (nI 1)) dX19_isUnder_13 (by decide) (np := 14) rfl ?_
      refine g_goto F dX19_isUnder_14 (np := 18) (by decide) ?_
      have hv : (nI (1) : Int32) = bI ((u = 4 ∨ u = 1 ∨ u = 0 ∨ u = 7)) := (show (1 : Int32) = _ from (bI_t (by omega)).symm)
      exact g_iret F hr rfl (Nat.le_of_ble_eq_true rfl) (Nat.le_of_ble_eq_true rfl) dX19_isUnder_18 (fun h hs => by rw [← hT]; exact ⟨congrArg (fun z => some (Value.int z)) hv, hs⟩)

set_option maxRecDepth 100000 in
theorem ct_X15_swears_0 {l : Launch} {D : va_G} {B : Nat} {Λ : LT} {I : AH} {L : LawT} (σ : MSt) (b : Nat) (a : Nat) (x : Int32) (htr : σ.1 36 ≤ 1000) (ha : I a = some (bCell (Λ.1 0 38) 0 b)) : Ct l D ZE B yX15_swears cX15_swears 2 (some .int) 1 21 0 0 [.ref (a), .int x] (XH D Λ I L σ) (RI (x + nI b) (XH D Λ I L (logS σ [1]))) := by
  refine Ct.of (nL := 2) (lv := [some (.ref (a)), some (.int x)]) (by decide) (Nat.le_of_ble_eq_true rfl) stZE 0 rfl ?_
  generalize hT : RI (x + nI b) (XH D Λ I L (logS σ [1])) = T
  intro zp ze zs zm zb zt zc F hr hnm
  generalize ([.ref (a), .int x] : List Value).toArray = za at F ⊢
  refine g_aload_n F dX15_swears_0 rfl rfl (np := 1) rfl ?_
  refine g_getL F in_X15 (ci := 15) rfl 1 (by decide) rfl (Or.inl q1081) (v := .ref (Λ.1 0 38)) (fun h hs => ⟨_, XH.kn hs ha, rfl⟩) dX15_swears_1 (np := 4) rfl ?_
  refine g_iconst F (v := (nI 1)) dX15_swears_4 (by decide) (np := 5) rfl ?_
  refine g_runVN F (C := RX0) (ci := 0) (T0 := TX0) (N := 38) (rest := []) (ct_X0_ran σ 1 (by first | assumption | omega)) ze1197 q1192 qs52 q100 q1193 hcS_X0_ran ⟨Nat.le_of_ble_eq_true rfl, Nat.le_of_ble_eq_true rfl⟩ rfl (fun h hs => hs.obj) rfl rfl (Nat.le_of_ble_eq_true rfl) dX15_swears_5 ⟨Nat.le_of_ble_eq_true rfl, Nat.le_of_ble_eq_true rfl⟩ (np := 8) rfl (k_RV ?_)
  refine g_iload_n F dX15_swears_8 rfl rfl (np := 9) rfl ?_
  refine g_aload_n F dX15_swears_9 rfl rfl (np := 10) rfl ?_
  refine g_getL F in_X15 (ci := 15) rfl 0 (by decide) rfl (Or.inl q1080) (v := .int (nI b)) (fun h hs => ⟨_, XH.kn hs ha, rfl⟩) dX15_swears_10 (np := 13) rfl ?_
  refine g_iadd F dX15_swears_13 (np := 14) rfl ?_
  have hv : x + (nI (b)) = x + nI b := by rfl
  exact g_iret F hr rfl (Nat.le_of_ble_eq_true rfl) (Nat.le_of_ble_eq_true rfl) dX15_swears_14 (fun h hs => by rw [← hT]; exact ⟨congrArg (fun z => some (Value.int z)) hv, hs⟩)

set_option maxRecDepth 100000 in
theorem ct_X15_swears_1 {l : Launch} {D : va_G} {B : Nat} {Λ : LT} {I : AH} {L : LawT} (σ : MSt) (b : Nat) (a : Nat) (x : Int32) (htr : σ.1 36 ≤ 1000) (ha : I a = some (bCell (Λ.1 0 38) 1 b)) : Ct l D ZE B yX15_swears cX15_swears 2 (some .int) 1 21 0 0 [.ref (a), .int x] (XH D Λ I L σ) (RI (x + nI b) (XH D Λ I L (logS σ [1]))) := by
  refine Ct.of (nL := 2) (lv := [some (.ref (a)), some (.int x)]) (by decide) (Nat.le_of_ble_eq_true rfl) stZE 0 rfl ?_
  generalize hT : RI (x + nI b) (XH D Λ I L (logS σ [1])) = T
  intro zp ze zs zm zb zt zc F hr hnm
  generalize ([.ref (a), .int x] : List Value).toArray = za at F ⊢
  refine g_aload_n F dX15_swears_0 rfl rfl (np := 1) rfl ?_
  refine g_get F in_X16 (ref := RX15) (ci := 16) rfl 1 (by decide) q1081 (fun x hx => hx) (v := .ref (Λ.1 0 38)) (fun h hs => ⟨_, XH.kn hs ha, rfl⟩) dX15_swears_1 (np := 4) rfl ?_
  refine g_iconst F (v := (nI 1)) dX15_swears_4 (by decide) (np := 5) rfl ?_
  refine g_runVN F (C := RX0) (ci := 0) (T0 := TX0) (N := 38) (rest := []) (ct_X0_ran σ 1 (by first | assumption | omega)) ze1197 q1192 qs52 q100 q1193 hcS_X0_ran ⟨Nat.le_of_ble_eq_true rfl, Nat.le_of_ble_eq_true rfl⟩ rfl (fun h hs => hs.obj) rfl rfl (Nat.le_of_ble_eq_true rfl) dX15_swears_5 ⟨Nat.le_of_ble_eq_true rfl, Nat.le_of_ble_eq_true rfl⟩ (np := 8) rfl (k_RV ?_)
  refine g_iload_n F dX15_swears_8 rfl rfl (np := 9) rfl ?_
  refine g_aload_n F dX15_swears_9 rfl rfl (np := 10) rfl ?_
  refine g_get F in_X16 (ref := RX15) (ci := 16) rfl 0 (by decide) q1080 (fun x hx => hx) (v := .int (nI b)) (fun h hs => ⟨_, XH.kn hs ha, rfl⟩) dX15_swears_10 (np := 13) rfl ?_
  refine g_iadd F dX15_swears_13 (np := 14) rfl ?_
  have hv : x + (nI (b)) = x + nI b := by rfl
  exact g_iret F hr rfl (Nat.le_of_ble_eq_true rfl) (Nat.le_of_ble_eq_true rfl) dX15_swears_14 (fun h hs => by rw [← hT]; exact ⟨congrArg (fun z => some (Value.int z)) hv, hs⟩)

set_option maxRecDepth 100000 in
theorem ct_X15_swears_2 {l : Launch} {D : va_G} {B : Nat} {Λ : LT} {I : AH} {L : LawT} (σ : MSt) (b : Nat) (a : Nat) (x : Int32) (htr : σ.1 36 ≤ 1000) (ha : I a = some (bCell (Λ.1 0 38) 2 b)) : Ct l D ZE B yX15_swears cX15_swears 2 (some .int) 1 21 0 0 [.ref (a), .int x] (XH D Λ I L σ) (RI (x + nI b) (XH D Λ I L (logS σ [1]))) := by
  refine Ct.of (nL := 2) (lv := [some (.ref (a)), some (.int x)]) (by decide) (Nat.le_of_ble_eq_true rfl) stZE 0 rfl ?_
  generalize hT : RI (x + nI b) (XH D Λ I L (logS σ [1])) = T
  intro zp ze zs zm zb zt zc F hr hnm
  generalize ([.ref (a), .int x] : List Value).toArray = za at F ⊢
  refine g_aload_n F dX15_swears_0 rfl rfl (np := 1) rfl ?_
  refine g_get F in_X17 (ref := RX15) (ci := 17) rfl 1 (by decide) q1081 (fun x hx => hx) (v := .ref (Λ.1 0 38)) (fun h hs => ⟨_, XH.kn hs ha, rfl⟩) dX15_swears_1 (np := 4) rfl ?_
  refine g_iconst F (v := (nI 1)) dX15_swears_4 (by decide) (np := 5) rfl ?_
  refine g_runVN F (C := RX0) (ci := 0) (T0 := TX0) (N := 38) (rest := []) (ct_X0_ran σ 1 (by first | assumption | omega)) ze1197 q1192 qs52 q100 q1193 hcS_X0_ran ⟨Nat.le_of_ble_eq_true rfl, Nat.le_of_ble_eq_true rfl⟩ rfl (fun h hs => hs.obj) rfl rfl (Nat.le_of_ble_eq_true rfl) dX15_swears_5 ⟨Nat.le_of_ble_eq_true rfl, Nat.le_of_ble_eq_true rfl⟩ (np := 8) rfl (k_RV ?_)
  refine g_iload_n F dX15_swears_8 rfl rfl (np := 9) rfl ?_
  refine g_aload_n F dX15_swears_9 rfl rfl (np := 10) rfl ?_
  refine g_get F in_X17 (ref := RX15) (ci := 17) rfl 0 (by decide) q1080 (fun x hx => hx) (v := .int (nI b)) (fun h hs => ⟨_, XH.kn hs ha, rfl⟩) dX15_swears_10 (np := 13) rfl ?_
  refine g_iadd F dX15_swears_13 (np := 14) rfl ?_
  have hv : x + (nI (b)) = x + nI b := by rfl
  exact g_iret F hr rfl (Nat.le_of_ble_eq_true rfl) (Nat.le_of_ble_eq_true rfl) dX15_swears_14 (fun h hs => by rw [← hT]; exact ⟨congrArg (fun z => some (Value.int z)) hv, hs⟩)

set_option maxRecDepth 100000 in
theorem ct_X15_swears_3 {l : Launch} {D : va_G} {B : Nat} {Λ : LT} {I : AH} {L : LawT} (σ : MSt) (b : Nat) (a : Nat) (x : Int32) (htr : σ.1 36 ≤ 1000) (ha : I a = some (bCell (Λ.1 0 38) 3 b)) : Ct l D ZE B yX15_swears cX15_swears 2 (some .int) 1 21 0 0 [.ref (a), .int x] (XH D Λ I L σ) (RI (x + nI b) (XH D Λ I L (logS σ [1]))) := by
  refine Ct.of (nL := 2) (lv := [some (.ref (a)), some (.int x)]) (by decide) (Nat.le_of_ble_eq_true rfl) stZE 0 rfl ?_
  generalize hT : RI (x + nI b) (XH D Λ I L (logS σ [1])) = T
  intro zp ze zs zm zb zt zc F hr hnm
  generalize ([.ref (a), .int x] : List Value).toArray = za at F ⊢
  refine g_aload_n F dX15_swears_0 rfl rfl (np := 1) rfl ?_
  refine g_get F in_X18 (ref := RX15) (ci := 18) rfl 1 (by decide) q1081 (fun x hx => hx) (v := .ref (Λ.1 0 38)) (fun h hs => ⟨_, XH.kn hs ha, rfl⟩) dX15_swears_1 (np := 4) rfl ?_
  refine g_iconst F (v := (nI 1)) dX15_swears_4 (by decide) (np := 5) rfl ?_
  refine g_runVN F (C := RX0) (ci := 0) (T0 := TX0) (N := 38) (rest := []) (ct_X0_ran σ 1 (by first | assumption | omega)) ze1197 q1192 qs52 q100 q1193 hcS_X0_ran ⟨Nat.le_of_ble_eq_true rfl, Nat.le_of_ble_eq_true rfl⟩ rfl (fun h hs => hs.obj) rfl rfl (Nat.le_of_ble_eq_true rfl) dX15_swears_5 ⟨Nat.le_of_ble_eq_true rfl, Nat.le_of_ble_eq_true rfl⟩ (np := 8) rfl (k_RV ?_)
  refine g_iload_n F dX15_swears_8 rfl rfl (np := 9) rfl ?_
  refine g_aload_n F dX15_swears_9 rfl rfl (np := 10) rfl ?_
  refine g_get F in_X18 (ref := RX15) (ci := 18) rfl 0 (by decide) q1080 (fun x hx => hx) (v := .int (nI b)) (fun h hs => ⟨_, XH.kn hs ha, rfl⟩) dX15_swears_10 (np := 13) rfl ?_
  refine g_iadd F dX15_swears_13 (np := 14) rfl ?_
  have hv : x + (nI (b)) = x + nI b := by rfl
  exact g_iret F hr rfl (Nat.le_of_ble_eq_true rfl) (Nat.le_of_ble_eq_true rfl) dX15_swears_14 (fun h hs => by rw [← hT]; exact ⟨congrArg (fun z => some (Value.int z)) hv, hs⟩)

set_option maxRecDepth 100000 in
theorem ct_X15_swears_4 {l : Launch} {D : va_G} {B : Nat} {Λ : LT} {I : AH} {L : LawT} (σ : MSt) (b : Nat) (a : Nat) (x : Int32) (htr : σ.1 36 ≤ 1000) (ha : I a = some (bCell (Λ.1 0 38) 4 b)) : Ct l D ZE B yX15_swears cX15_swears 2 (some .int) 1 21 0 0 [.ref (a), .int x] (XH D Λ I L σ) (RI (x + nI b) (XH D Λ I L (logS σ [1]))) := by
  refine Ct.of (nL := 2) (lv := [some (.ref (a)), some (.int x)]) (by decide) (Nat.le_of_ble_eq_true rfl) stZE 0 rfl ?_
  generalize hT : RI (x + nI b) (XH D Λ I L (logS σ [1])) = T
  intro zp ze zs zm zb zt zc F hr hnm
  generalize ([.ref (a), .int x] : List Value).toArray = za at F ⊢
  refine g_aload_n F dX15_swears_0 rfl rfl (np := 1) rfl ?_
  refine g_get F in_X19 (ref := RX15) (ci := 19) rfl 1 (by decide) q1081 (fun x hx => hx) (v := .ref (Λ.1 0 38)) (fun h hs => ⟨_, XH.kn hs ha, rfl⟩) dX15_swears_1 (np := 4) rfl ?_
  refine g_iconst F (v := (nI 1)) dX15_swears_4 (by decide) (np := 5) rfl ?_
  refine g_runVN F (C := RX0) (ci := 0) (T0 := TX0) (N := 38) (rest := []) (ct_X0_ran σ 1 (by first | assumption | omega)) ze1197 q1192 qs52 q100 q1193 hcS_X0_ran ⟨Nat.le_of_ble_eq_true rfl, Nat.le_of_ble_eq_true rfl⟩ rfl (fun h hs => hs.obj) rfl rfl (Nat.le_of_ble_eq_true rfl) dX15_swears_5 ⟨Nat.le_of_ble_eq_true rfl, Nat.le_of_ble_eq_true rfl⟩ (np := 8) rfl (k_RV ?_)
  refine g_iload_n F dX15_swears_8 rfl rfl (np := 9) rfl ?_
  refine g_aload_n F dX15_swears_9 rfl rfl (np := 10) rfl ?_
  refine g_get F in_X19 (ref := RX15) (ci := 19) rfl 0 (by decide) q1080 (fun x hx => hx) (v := .int (nI b)) (fun h hs => ⟨_, XH.kn hs ha, rfl⟩) dX15_swears_10 (np := 13) rfl ?_
  refine g_iadd F dX15_swears_13 (np := 14) rfl ?_
  have hv : x + (nI (b)) = x + nI b := by rfl
  exact g_iret F hr rfl (Nat.le_of_ble_eq_true rfl) (Nat.le_of_ble_eq_true rfl) dX15_swears_14 (fun h hs => by rw [← hT]; exact ⟨congrArg (fun z => some (Value.int z)) hv, hs⟩)

set_option maxRecDepth 100000 in
theorem ct_X15_swears_5 {l : Launch} {D : va_G} {B : Nat} {Λ : LT} {I : AH} {L : LawT} (σ : MSt) (b : Nat) (a : Nat) (x : Int32) (htr : σ.1 36 ≤ 1000) (ha : I a = some (bCell (Λ.1 0 38) 5 b)) : Ct l D ZE B yX15_swears cX15_swears 2 (some .int) 1 21 0 0 [.ref (a), .int x] (XH D Λ I L σ) (RI (x + nI b) (XH D Λ I L (logS σ [1]))) := by
  refine Ct.of (nL := 2) (lv := [some (.ref (a)), some (.int x)]) (by decide) (Nat.le_of_ble_eq_true rfl) stZE 0 rfl ?_
  generalize hT : RI (x + nI b) (XH D Λ I L (logS σ [1])) = T
  intro zp ze zs zm zb zt zc F hr hnm
  generalize ([.ref (a), .int x] : List Value).toArray = za at F ⊢
  refine g_aload_n F dX15_swears_0 rfl rfl (np := 1) rfl ?_
  refine g_get F in_X20 (ref := RX15) (ci := 20) rfl 1 (by decide) q1081 (fun x hx => hx) (v := .ref (Λ.1 0 38)) (fun h hs => ⟨_, XH.kn hs ha, rfl⟩) dX15_swears_1 (np := 4) rfl ?_
  refine g_iconst F (v := (nI 1)) dX15_swears_4 (by decide) (np := 5) rfl ?_
  refine g_runVN F (C := RX0) (ci := 0) (T0 := TX0) (N := 38) (rest := []) (ct_X0_ran σ 1 (by first | assumption | omega)) ze1197 q1192 qs52 q100 q1193 hcS_X0_ran ⟨Nat.le_of_ble_eq_true rfl, Nat.le_of_ble_eq_true rfl⟩ rfl (fun h hs => hs.obj) rfl rfl (Nat.le_of_ble_eq_true rfl) dX15_swears_5 ⟨Nat.le_of_ble_eq_true rfl, Nat.le_of_ble_eq_true rfl⟩ (np := 8) rfl (k_RV ?_)
  refine g_iload_n F dX15_swears_8 rfl rfl (np := 9) rfl ?_
  refine g_aload_n F dX15_swears_9 rfl rfl (np := 10) rfl ?_
  refine g_get F in_X20 (ref := RX15) (ci := 20) rfl 0 (by decide) q1080 (fun x hx => hx) (v := .int (nI b)) (fun h hs => ⟨_, XH.kn hs ha, rfl⟩) dX15_swears_10 (np := 13) rfl ?_
  refine g_iadd F dX15_swears_13 (np := 14) rfl ?_
  have hv : x + (nI (b)) = x + nI b := by rfl
  exact g_iret F hr rfl (Nat.le_of_ble_eq_true rfl) (Nat.le_of_ble_eq_true rfl) dX15_swears_14 (fun h hs => by rw [← hT]; exact ⟨congrArg (fun z => some (Value.int z)) hv, hs⟩)

set_option maxRecDepth 100000 in
theorem ct_X15_swears_6 {l : Launch} {D : va_G} {B : Nat} {Λ : LT} {I : AH} {L : LawT} (σ : MSt) (b : Nat) (a : Nat) (x : Int32) (htr : σ.1 36 ≤ 1000) (ha : I a = some (bCell (Λ.1 0 38) 6 b)) : Ct l D ZE B yX15_swears cX15_swears 2 (some .int) 1 21 0 0 [.ref (a), .int x] (XH D Λ I L σ) (RI (x + nI b) (XH D Λ I L (logS σ [1]))) := by
  refine Ct.of (nL := 2) (lv := [some (.ref (a)), some (.int x)]) (by decide) (Nat.le_of_ble_eq_true rfl) stZE 0 rfl ?_
  generalize hT : RI (x + nI b) (XH D Λ I L (logS σ [1])) = T
  intro zp ze zs zm zb zt zc F hr hnm
  generalize ([.ref (a), .int x] : List Value).toArray = za at F ⊢
  refine g_aload_n F dX15_swears_0 rfl rfl (np := 1) rfl ?_
  refine g_get F in_X21 (ref := RX15) (ci := 21) rfl 1 (by decide) q1081 (fun x hx => hx) (v := .ref (Λ.1 0 38)) (fun h hs => ⟨_, XH.kn hs ha, rfl⟩) dX15_swears_1 (np := 4) rfl ?_
  refine g_iconst F (v := (nI 1)) dX15_swears_4 (by decide) (np := 5) rfl ?_
  refine g_runVN F (C := RX0) (ci := 0) (T0 := TX0) (N := 38) (rest := []) (ct_X0_ran σ 1 (by first | assumption | omega)) ze1197 q1192 qs52 q100 q1193 hcS_X0_ran ⟨Nat.le_of_ble_eq_true rfl, Nat.le_of_ble_eq_true rfl⟩ rfl (fun h hs => hs.obj) rfl rfl (Nat.le_of_ble_eq_true rfl) dX15_swears_5 ⟨Nat.le_of_ble_eq_true rfl, Nat.le_of_ble_eq_true rfl⟩ (np := 8) rfl (k_RV ?_)
  refine g_iload_n F dX15_swears_8 rfl rfl (np := 9) rfl ?_
  refine g_aload_n F dX15_swears_9 rfl rfl (np := 10) rfl ?_
  refine g_get F in_X21 (ref := RX15) (ci := 21) rfl 0 (by decide) q1080 (fun x hx => hx) (v := .int (nI b)) (fun h hs => ⟨_, XH.kn hs ha, rfl⟩) dX15_swears_10 (np := 13) rfl ?_
  refine g_iadd F dX15_swears_13 (np := 14) rfl ?_
  have hv : x + (nI (b)) = x + nI b := by rfl
  exact g_iret F hr rfl (Nat.le_of_ble_eq_true rfl) (Nat.le_of_ble_eq_true rfl) dX15_swears_14 (fun h hs => by rw [← hT]; exact ⟨congrArg (fun z => some (Value.int z)) hv, hs⟩)

set_option maxRecDepth 100000 in
theorem ct_X15_swears_7 {l : Launch} {D : va_G} {B : Nat} {Λ : LT} {I : AH} {L : LawT} (σ : MSt) (b : Nat) (a : Nat) (x : Int32) (htr : σ.1 36 ≤ 1000) (ha : I a = some (bCell (Λ.1 0 38) 7 b)) : Ct l D ZE B yX15_swears cX15_swears 2 (some .int) 1 21 0 0 [.ref (a), .int x] (XH D Λ I L σ) (RI (x + nI b) (XH D Λ I L (logS σ [1]))) := by
  refine Ct.of (nL := 2) (lv := [some (.ref (a)), some (.int x)]) (by decide) (Nat.le_of_ble_eq_true rfl) stZE 0 rfl ?_
  generalize hT : RI (x + nI b) (XH D Λ I L (logS σ [1])) = T
  intro zp ze zs zm zb zt zc F hr hnm
  generalize ([.ref (a), .int x] : List Value).toArray = za at F ⊢
  refine g_aload_n F dX15_swears_0 rfl rfl (np := 1) rfl ?_
  refine g_get F in_X22 (ref := RX15) (ci := 22) rfl 1 (by decide) q1081 (fun x hx => hx) (v := .ref (Λ.1 0 38)) (fun h hs => ⟨_, XH.kn hs ha, rfl⟩) dX15_swears_1 (np := 4) rfl ?_
  refine g_iconst F (v := (nI 1)) dX15_swears_4 (by decide) (np := 5) rfl ?_
  refine g_runVN F (C := RX0) (ci := 0) (T0 := TX0) (N := 38) (rest := []) (ct_X0_ran σ 1 (by first | assumption | omega)) ze1197 q1192 qs52 q100 q1193 hcS_X0_ran ⟨Nat.le_of_ble_eq_true rfl, Nat.le_of_ble_eq_true rfl⟩ rfl (fun h hs => hs.obj) rfl rfl (Nat.le_of_ble_eq_true rfl) dX15_swears_5 ⟨Nat.le_of_ble_eq_true rfl, Nat.le_of_ble_eq_true rfl⟩ (np := 8) rfl (k_RV ?_)
  refine g_iload_n F dX15_swears_8 rfl rfl (np := 9) rfl ?_
  refine g_aload_n F dX15_swears_9 rfl rfl (np := 10) rfl ?_
  refine g_get F in_X22 (ref := RX15) (ci := 22) rfl 0 (by decide) q1080 (fun x hx => hx) (v := .int (nI b)) (fun h hs => ⟨_, XH.kn hs ha, rfl⟩) dX15_swears_10 (np := 13) rfl ?_
  refine g_iadd F dX15_swears_13 (np := 14) rfl ?_
  have hv : x + (nI (b)) = x + nI b := by rfl
  exact g_iret F hr rfl (Nat.le_of_ble_eq_true rfl) (Nat.le_of_ble_eq_true rfl) dX15_swears_14 (fun h hs => by rw [← hT]; exact ⟨congrArg (fun z => some (Value.int z)) hv, hs⟩)

set_option maxRecDepth 100000 in
theorem ct_X16_swears_1 {l : Launch} {D : va_G} {B : Nat} {Λ : LT} {I : AH} {L : LawT} (σ : MSt) (b : Nat) (a : Nat) (x : Int32) (htr : σ.1 36 ≤ 990) (ha : I a = some (bCell (Λ.1 0 38) 1 b)) : Ct l D ZE B yX16_swears cX16_swears 2 (some .int) 2 42 0 0 [.ref (a), .int x] (XH D Λ I L σ) (RI (x + nI b + nI 3) (XH D Λ I L (logS σ [20, 1]))) := by
  refine Ct.of (nL := 2) (lv := [some (.ref (a)), some (.int x)]) (by decide) (Nat.le_of_ble_eq_true rfl) stZE 0 rfl ?_
  generalize hT : RI (x + nI b + nI 3) (XH D Λ I L (logS σ [20, 1])) = T
  intro zp ze zs zm zb zt zc F hr hnm
  generalize ([.ref (a), .int x] : List Value).toArray = za at F ⊢
  refine g_aload_n F dX16_swears_0 rfl rfl (np := 1) rfl ?_
  refine g_getL F in_X16 (ci := 16) rfl 2 (by decide) rfl (Or.inl q1079) (v := .ref (Λ.1 0 38)) (fun h hs => ⟨_, XH.kn hs ha, rfl⟩) dX16_swears_1 (np := 4) rfl ?_
  refine g_bipush F (v := (nI 20)) dX16_swears_4 (by decide) (np := 6) rfl ?_
  refine g_runVN F (C := RX0) (ci := 0) (T0 := TX0) (N := 38) (rest := []) (ct_X0_ran σ 20 (by first | assumption | omega)) ze1190 q1192 qs52 q100 q1193 hcS_X0_ran ⟨Nat.le_of_ble_eq_true rfl, Nat.le_of_ble_eq_true rfl⟩ rfl (fun h hs => hs.obj) rfl rfl (Nat.le_of_ble_eq_true rfl) dX16_swears_6 ⟨Nat.le_of_ble_eq_true rfl, Nat.le_of_ble_eq_true rfl⟩ (np := 9) rfl (k_RV ?_)
  refine g_aload_n F dX16_swears_9 rfl rfl (np := 10) rfl ?_
  refine g_iload_n F dX16_swears_10 rfl rfl (np := 11) rfl ?_
  refine g_runSU F (C := RX16) (owner := "PromiseRoofs$Storey") (ch := []) (x := ⟨"PromiseRoofs$Storey", "swears", "(I)I"⟩) (ci := 16) (T0 := TX16) (N := 3) (n := 1) (rest := []) (ct_X15_swears_1 (logS σ [20]) b a x (by show σ.1 36 + 1 ≤ _; omega) (by exact ha)) q1194 q2048 q1088 q1195 q129 q1196 rfl (by decide) (by decide +kernel) ⟨Nat.le_of_ble_eq_true rfl, Nat.le_of_ble_eq_true rfl⟩ rfl (fun h hs => ⟨_, XH.kn hs ha⟩) rfl rfl (Nat.le_of_ble_eq_true rfl) dX16_swears_11 ⟨Nat.le_of_ble_eq_true rfl, Nat.le_of_ble_eq_true rfl⟩ (np := 14) rfl (k_RI ?_)
  refine WG.weak (S' := XH D Λ I L (logS σ ([20] ++ [1]))) (fun h hs => by rw [← logS_app]; exact hs) ?_
  refine g_iconst F (v := (nI 3)) dX16_swears_14 (by decide) (np := 15) rfl ?_
  refine g_iadd F dX16_swears_15 (np := 16) rfl ?_
  have hσ : (logS σ ([20] ++ [1])) = (logS σ [20, 1]) := by rfl
  have hv : (x + nI b) + (nI (3)) = x + nI b + nI 3 := by rfl
  exact g_iret F hr rfl (Nat.le_of_ble_eq_true rfl) (Nat.le_of_ble_eq_true rfl) dX16_swears_16 (fun h hs => by rw [← hT]; exact ⟨congrArg (fun z => some (Value.int z)) hv, (hσ ▸ hs)⟩)

set_option maxRecDepth 100000 in
theorem ct_X16_swears_4 {l : Launch} {D : va_G} {B : Nat} {Λ : LT} {I : AH} {L : LawT} (σ : MSt) (b : Nat) (a : Nat) (x : Int32) (htr : σ.1 36 ≤ 990) (ha : I a = some (bCell (Λ.1 0 38) 4 b)) : Ct l D ZE B yX16_swears cX16_swears 2 (some .int) 2 42 0 0 [.ref (a), .int x] (XH D Λ I L σ) (RI (x + nI b + nI 3) (XH D Λ I L (logS σ [20, 1]))) := by
  refine Ct.of (nL := 2) (lv := [some (.ref (a)), some (.int x)]) (by decide) (Nat.le_of_ble_eq_true rfl) stZE 0 rfl ?_
  generalize hT : RI (x + nI b + nI 3) (XH D Λ I L (logS σ [20, 1])) = T
  intro zp ze zs zm zb zt zc F hr hnm
  generalize ([.ref (a), .int x] : List Value).toArray = za at F ⊢
  refine g_aload_n F dX16_swears_0 rfl rfl (np := 1) rfl ?_
  refine g_get F in_X19 (ref := RX16) (ci := 19) rfl 2 (by decide) q1079 (fun x hx => hx) (v := .ref (Λ.1 0 38)) (fun h hs => ⟨_, XH.kn hs ha, rfl⟩) dX16_swears_1 (np := 4) rfl ?_
  refine g_bipush F (v := (nI 20)) dX16_swears_4 (by decide) (np := 6) rfl ?_
  refine g_runVN F (C := RX0) (ci := 0) (T0 := TX0) (N := 38) (rest := []) (ct_X0_ran σ 20 (by first | assumption | omega)) ze1190 q1192 qs52 q100 q1193 hcS_X0_ran ⟨Nat.le_of_ble_eq_true rfl, Nat.le_of_ble_eq_true rfl⟩ rfl (fun h hs => hs.obj) rfl rfl (Nat.le_of_ble_eq_true rfl) dX16_swears_6 ⟨Nat.le_of_ble_eq_true rfl, Nat.le_of_ble_eq_true rfl⟩ (np := 9) rfl (k_RV ?_)
  refine g_aload_n F dX16_swears_9 rfl rfl (np := 10) rfl ?_
  refine g_iload_n F dX16_swears_10 rfl rfl (np := 11) rfl ?_
  refine g_runSU F (C := RX19) (owner := "PromiseRoofs$Storey") (ch := []) (x := ⟨"PromiseRoofs$Storey", "swears", "(I)I"⟩) (ci := 19) (T0 := TX19) (N := 4) (n := 1) (rest := []) (ct_X15_swears_4 (logS σ [20]) b a x (by show σ.1 36 + 1 ≤ _; omega) (by exact ha)) q1194 q2048 q1088 q1195 q129 q1196 rfl (by decide) (by decide +kernel) ⟨Nat.le_of_ble_eq_true rfl, Nat.le_of_ble_eq_true rfl⟩ rfl (fun h hs => ⟨_, XH.kn hs ha⟩) rfl rfl (Nat.le_of_ble_eq_true rfl) dX16_swears_11 ⟨Nat.le_of_ble_eq_true rfl, Nat.le_of_ble_eq_true rfl⟩ (np := 14) rfl (k_RI ?_)
  refine WG.weak (S' := XH D Λ I L (logS σ ([20] ++ [1]))) (fun h hs => by rw [← logS_app]; exact hs) ?_
  refine g_iconst F (v := (nI 3)) dX16_swears_14 (by decide) (np := 15) rfl ?_
  refine g_iadd F dX16_swears_15 (np := 16) rfl ?_
  have hσ : (logS σ ([20] ++ [1])) = (logS σ [20, 1]) := by rfl
  have hv : (x + nI b) + (nI (3)) = x + nI b + nI 3 := by rfl
  exact g_iret F hr rfl (Nat.le_of_ble_eq_true rfl) (Nat.le_of_ble_eq_true rfl) dX16_swears_16 (fun h hs => by rw [← hT]; exact ⟨congrArg (fun z => some (Value.int z)) hv, (hσ ▸ hs)⟩)

set_option maxRecDepth 100000 in
theorem ct_X16_swears_7 {l : Launch} {D : va_G} {B : Nat} {Λ : LT} {I : AH} {L : LawT} (σ : MSt) (b : Nat) (a : Nat) (x : Int32) (htr : σ.1 36 ≤ 990) (ha : I a = some (bCell (Λ.1 0 38) 7 b)) : Ct l D ZE B yX16_swears cX16_swears 2 (some .int) 2 42 0 0 [.ref (a), .int x] (XH D Λ I L σ) (RI (x + nI b + nI 3) (XH D Λ I L (logS σ [20, 1]))) := by
  refine Ct.of (nL := 2) (lv := [some (.ref (a)), some (.int x)]) (by decide) (Nat.le_of_ble_eq_true rfl) stZE 0 rfl ?_
  generalize hT : RI (x + nI b + nI 3) (XH D Λ I L (logS σ [20, 1])) = T
  intro zp ze zs zm zb zt zc F hr hnm
  generalize ([.ref (a), .int x] : List Value).toArray = za at F ⊢
  refine g_aload_n F dX16_swears_0 rfl rfl (np := 1) rfl ?_
  refine g_get F in_X22 (ref := RX16) (ci := 22) rfl 2 (by decide) q1079 (fun x hx => hx) (v := .ref (Λ.1 0 38)) (fun h hs => ⟨_, XH.kn hs ha, rfl⟩) dX16_swears_1 (np := 4) rfl ?_
  refine g_bipush F (v := (nI 20)) dX16_swears_4 (by decide) (np := 6) rfl ?_
  refine g_runVN F (C := RX0) (ci := 0) (T0 := TX0) (N := 38) (rest := []) (ct_X0_ran σ 20 (by first | assumption | omega)) ze1190 q1192 qs52 q100 q1193 hcS_X0_ran ⟨Nat.le_of_ble_eq_true rfl, Nat.le_of_ble_eq_true rfl⟩ rfl (fun h hs => hs.obj) rfl rfl (Nat.le_of_ble_eq_true rfl) dX16_swears_6 ⟨Nat.le_of_ble_eq_true rfl, Nat.le_of_ble_eq_true rfl⟩ (np := 9) rfl (k_RV ?_)
  refine g_aload_n F dX16_swears_9 rfl rfl (np := 10) rfl ?_
  refine g_iload_n F dX16_swears_10 rfl rfl (np := 11) rfl ?_
  refine g_runSU F (C := RX22) (owner := "PromiseRoofs$Storey") (ch := []) (x := ⟨"PromiseRoofs$Storey", "swears", "(I)I"⟩) (ci := 22) (T0 := TX22) (N := 5) (n := 1) (rest := []) (ct_X15_swears_7 (logS σ [20]) b a x (by show σ.1 36 + 1 ≤ _; omega) (by exact ha)) q1194 q2048 q1088 q1195 q129 q1196 rfl (by decide) (by decide +kernel) ⟨Nat.le_of_ble_eq_true rfl, Nat.le_of_ble_eq_true rfl⟩ rfl (fun h hs => ⟨_, XH.kn hs ha⟩) rfl rfl (Nat.le_of_ble_eq_true rfl) dX16_swears_11 ⟨Nat.le_of_ble_eq_true rfl, Nat.le_of_ble_eq_true rfl⟩ (np := 14) rfl (k_RI ?_)
  refine WG.weak (S' := XH D Λ I L (logS σ ([20] ++ [1]))) (fun h hs => by rw [← logS_app]; exact hs) ?_
  refine g_iconst F (v := (nI 3)) dX16_swears_14 (by decide) (np := 15) rfl ?_
  refine g_iadd F dX16_swears_15 (np := 16) rfl ?_
  have hσ : (logS σ ([20] ++ [1])) = (logS σ [20, 1]) := by rfl
  have hv : (x + nI b) + (nI (3)) = x + nI b + nI 3 := by rfl
  exact g_iret F hr rfl (Nat.le_of_ble_eq_true rfl) (Nat.le_of_ble_eq_true rfl) dX16_swears_16 (fun h hs => by rw [← hT]; exact ⟨congrArg (fun z => some (Value.int z)) hv, (hσ ▸ hs)⟩)

set_option maxRecDepth 100000 in
theorem ct_X21_swears_6 {l : Launch} {D : va_G} {B : Nat} {Λ : LT} {I : AH} {L : LawT} (σ : MSt) (b : Nat) (a : Nat) (x : Int32) (htr : σ.1 36 ≤ 990) (ha : I a = some (bCell (Λ.1 0 38) 6 b)) : Ct l D ZE B yX21_swears cX21_swears 2 (some .int) 2 42 0 0 [.ref (a), .int x] (XH D Λ I L σ) (RI ((x + nI b) * nI 2) (XH D Λ I L (logS σ [70, 1]))) := by
  refine Ct.of (nL := 2) (lv := [some (.ref (a)), some (.int x)]) (by decide) (Nat.le_of_ble_eq_true rfl) stZE 0 rfl ?_
  generalize hT : RI ((x + nI b) * nI 2) (XH D Λ I L (logS σ [70, 1])) = T
  intro zp ze zs zm zb zt zc F hr hnm
  generalize ([.ref (a), .int x] : List Value).toArray = za at F ⊢
  refine g_aload_n F dX21_swears_0 rfl rfl (np := 1) rfl ?_
  refine g_getL F in_X21 (ci := 21) rfl 2 (by decide) rfl (Or.inl q1147) (v := .ref (Λ.1 0 38)) (fun h hs => ⟨_, XH.kn hs ha, rfl⟩) dX21_swears_1 (np := 4) rfl ?_
  refine g_bipush F (v := (nI 70)) dX21_swears_4 (by decide) (np := 6) rfl ?_
  refine g_runVN F (C := RX0) (ci := 0) (T0 := TX0) (N := 38) (rest := []) (ct_X0_ran σ 70 (by first | assumption | omega)) ze1208 q1192 qs52 q100 q1193 hcS_X0_ran ⟨Nat.le_of_ble_eq_true rfl, Nat.le_of_ble_eq_true rfl⟩ rfl (fun h hs => hs.obj) rfl rfl (Nat.le_of_ble_eq_true rfl) dX21_swears_6 ⟨Nat.le_of_ble_eq_true rfl, Nat.le_of_ble_eq_true rfl⟩ (np := 9) rfl (k_RV ?_)
  refine g_aload_n F dX21_swears_9 rfl rfl (np := 10) rfl ?_
  refine g_iload_n F dX21_swears_10 rfl rfl (np := 11) rfl ?_
  refine g_runSU F (C := RX21) (owner := "PromiseRoofs$Storey") (ch := []) (x := ⟨"PromiseRoofs$Storey", "swears", "(I)I"⟩) (ci := 21) (T0 := TX21) (N := 3) (n := 1) (rest := []) (ct_X15_swears_6 (logS σ [70]) b a x (by show σ.1 36 + 1 ≤ _; omega) (by exact ha)) q1209 q2048 q1152 q1195 q129 q1196 rfl (by decide) (by decide +kernel) ⟨Nat.le_of_ble_eq_true rfl, Nat.le_of_ble_eq_true rfl⟩ rfl (fun h hs => ⟨_, XH.kn hs ha⟩) rfl rfl (Nat.le_of_ble_eq_true rfl) dX21_swears_11 ⟨Nat.le_of_ble_eq_true rfl, Nat.le_of_ble_eq_true rfl⟩ (np := 14) rfl (k_RI ?_)
  refine WG.weak (S' := XH D Λ I L (logS σ ([70] ++ [1]))) (fun h hs => by rw [← logS_app]; exact hs) ?_
  refine g_iconst F (v := (nI 2)) dX21_swears_14 (by decide) (np := 15) rfl ?_
  refine g_imul F dX21_swears_15 (np := 16) rfl ?_
  have hσ : (logS σ ([70] ++ [1])) = (logS σ [70, 1]) := by rfl
  have hv : (x + nI b) * (nI (2)) = (x + nI b) * nI 2 := by rfl
  exact g_iret F hr rfl (Nat.le_of_ble_eq_true rfl) (Nat.le_of_ble_eq_true rfl) dX21_swears_16 (fun h hs => by rw [← hT]; exact ⟨congrArg (fun z => some (Value.int z)) hv, (hσ ▸ hs)⟩)

set_option maxRecDepth 100000 in
theorem ct_X15_comesDown_0 {l : Launch} {D : va_G} {B : Nat} {Λ : LT} {I : AH} {L : LawT} (σ : MSt) (b : Nat) (a : Nat) (x : Int32) (htr : σ.1 36 ≤ 1000) (ha : I a = some (bCell (Λ.1 0 38) 0 b)) : Ct l D ZE B yX15_comesDown cX15_comesDown 2 (some .int) 1 21 0 0 [.ref (a), .int x] (XH D Λ I L σ) (RI (x ^^^ nI b) (XH D Λ I L (logS σ [11]))) := by
  refine Ct.of (nL := 2) (lv := [some (.ref (a)), some (.int x)]) (by decide) (Nat.le_of_ble_eq_true rfl) stZE 0 rfl ?_
  generalize hT : RI (x ^^^ nI b) (XH D Λ I L (logS σ [11])) = T
  intro zp ze zs zm zb zt zc F hr hnm
  generalize ([.ref (a), .int x] : List Value).toArray = za at F ⊢
  refine g_aload_n F dX15_comesDown_0 rfl rfl (np := 1) rfl ?_
  refine g_getL F in_X15 (ci := 15) rfl 1 (by decide) rfl (Or.inl q1081) (v := .ref (Λ.1 0 38)) (fun h hs => ⟨_, XH.kn hs ha, rfl⟩) dX15_comesDown_1 (np := 4) rfl ?_
  refine g_bipush F (v := (nI 11)) dX15_comesDown_4 (by decide) (np := 6) rfl ?_
  refine g_runVN F (C := RX0) (ci := 0) (T0 := TX0) (N := 38) (rest := []) (ct_X0_ran σ 11 (by first | assumption | omega)) ze1197 q1192 qs52 q100 q1193 hcS_X0_ran ⟨Nat.le_of_ble_eq_true rfl, Nat.le_of_ble_eq_true rfl⟩ rfl (fun h hs => hs.obj) rfl rfl (Nat.le_of_ble_eq_true rfl) dX15_comesDown_6 ⟨Nat.le_of_ble_eq_true rfl, Nat.le_of_ble_eq_true rfl⟩ (np := 9) rfl (k_RV ?_)
  refine g_iload_n F dX15_comesDown_9 rfl rfl (np := 10) rfl ?_
  refine g_aload_n F dX15_comesDown_10 rfl rfl (np := 11) rfl ?_
  refine g_getL F in_X15 (ci := 15) rfl 0 (by decide) rfl (Or.inl q1080) (v := .int (nI b)) (fun h hs => ⟨_, XH.kn hs ha, rfl⟩) dX15_comesDown_11 (np := 14) rfl ?_
  refine g_ixor F dX15_comesDown_14 (np := 15) rfl ?_
  have hv : x ^^^ (nI (b)) = x ^^^ nI b := by rfl
  exact g_iret F hr rfl (Nat.le_of_ble_eq_true rfl) (Nat.le_of_ble_eq_true rfl) dX15_comesDown_15 (fun h hs => by rw [← hT]; exact ⟨congrArg (fun z => some (Value.int z)) hv, hs⟩)

set_option maxRecDepth 100000 in
theorem ct_X15_comesDown_1 {l : Launch} {D : va_G} {B : Nat} {Λ : LT} {I : AH} {L : LawT} (σ : MSt) (b : Nat) (a : Nat) (x : Int32) (htr : σ.1 36 ≤ 1000) (ha : I a = some (bCell (Λ.1 0 38) 1 b)) : Ct l D ZE B yX15_comesDown cX15_comesDown 2 (some .int) 1 21 0 0 [.ref (a), .int x] (XH D Λ I L σ) (RI (x ^^^ nI b) (XH D Λ I L (logS σ [11]))) := by
  refine Ct.of (nL := 2) (lv := [some (.ref (a)), some (.int x)]) (by decide) (Nat.le_of_ble_eq_true rfl) stZE 0 rfl ?_
  generalize hT : RI (x ^^^ nI b) (XH D Λ I L (logS σ [11])) = T
  intro zp ze zs zm zb zt zc F hr hnm
  generalize ([.ref (a), .int x] : List Value).toArray = za at F ⊢
  refine g_aload_n F dX15_comesDown_0 rfl rfl (np := 1) rfl ?_
  refine g_get F in_X16 (ref := RX15) (ci := 16) rfl 1 (by decide) q1081 (fun x hx => hx) (v := .ref (Λ.1 0 38)) (fun h hs => ⟨_, XH.kn hs ha, rfl⟩) dX15_comesDown_1 (np := 4) rfl ?_
  refine g_bipush F (v := (nI 11)) dX15_comesDown_4 (by decide) (np := 6) rfl ?_
  refine g_runVN F (C := RX0) (ci := 0) (T0 := TX0) (N := 38) (rest := []) (ct_X0_ran σ 11 (by first | assumption | omega)) ze1197 q1192 qs52 q100 q1193 hcS_X0_ran ⟨Nat.le_of_ble_eq_true rfl, Nat.le_of_ble_eq_true rfl⟩ rfl (fun h hs => hs.obj) rfl rfl (Nat.le_of_ble_eq_true rfl) dX15_comesDown_6 ⟨Nat.le_of_ble_eq_true rfl, Nat.le_of_ble_eq_true rfl⟩ (np := 9) rfl (k_RV ?_)
  refine g_iload_n F dX15_comesDown_9 rfl rfl (np := 10) rfl ?_
  refine g_aload_n F dX15_comesDown_10 rfl rfl (np := 11) rfl ?_
  refine g_get F in_X16 (ref := RX15) (ci := 16) rfl 0 (by decide) q1080 (fun x hx => hx) (v := .int (nI b)) (fun h hs => ⟨_, XH.kn hs ha, rfl⟩) dX15_comesDown_11 (np := 14) rfl ?_
  refine g_ixor F dX15_comesDown_14 (np := 15) rfl ?_
  have hv : x ^^^ (nI (b)) = x ^^^ nI b := by rfl
  exact g_iret F hr rfl (Nat.le_of_ble_eq_true rfl) (Nat.le_of_ble_eq_true rfl) dX15_comesDown_15 (fun h hs => by rw [← hT]; exact ⟨congrArg (fun z => some (Value.int z)) hv, hs⟩)

set_option maxRecDepth 100000 in
theorem ct_X15_comesDown_2 {l : Launch} {D : va_G} {B : Nat} {Λ : LT} {I : AH} {L : LawT} (σ : MSt) (b : Nat) (a : Nat) (x : Int32) (htr : σ.1 36 ≤ 1000) (ha : I a = some (bCell (Λ.1 0 38) 2 b)) : Ct l D ZE B yX15_comesDown cX15_comesDown 2 (some .int) 1 21 0 0 [.ref (a), .int x] (XH D Λ I L σ) (RI (x ^^^ nI b) (XH D Λ I L (logS σ [11]))) := by
  refine Ct.of (nL := 2) (lv := [some (.ref (a)), some (.int x)]) (by decide) (Nat.le_of_ble_eq_true rfl) stZE 0 rfl ?_
  generalize hT : RI (x ^^^ nI b) (XH D Λ I L (logS σ [11])) = T
  intro zp ze zs zm zb zt zc F hr hnm
  generalize ([.ref (a), .int x] : List Value).toArray = za at F ⊢
  refine g_aload_n F dX15_comesDown_0 rfl rfl (np := 1) rfl ?_
  refine g_get F in_X17 (ref := RX15) (ci := 17) rfl 1 (by decide) q1081 (fun x hx => hx) (v := .ref (Λ.1 0 38)) (fun h hs => ⟨_, XH.kn hs ha, rfl⟩) dX15_comesDown_1 (np := 4) rfl ?_
  refine g_bipush F (v := (nI 11)) dX15_comesDown_4 (by decide) (np := 6) rfl ?_
  refine g_runVN F (C := RX0) (ci := 0) (T0 := TX0) (N := 38) (rest := []) (ct_X0_ran σ 11 (by first | assumption | omega)) ze1197 q1192 qs52 q100 q1193 hcS_X0_ran ⟨Nat.le_of_ble_eq_true rfl, Nat.le_of_ble_eq_true rfl⟩ rfl (fun h hs => hs.obj) rfl rfl (Nat.le_of_ble_eq_true rfl) dX15_comesDown_6 ⟨Nat.le_of_ble_eq_true rfl, Nat.le_of_ble_eq_true rfl⟩ (np := 9) rfl (k_RV ?_)
  refine g_iload_n F dX15_comesDown_9 rfl rfl (np := 10) rfl ?_
  refine g_aload_n F dX15_comesDown_10 rfl rfl (np := 11) rfl ?_
  refine g_get F in_X17 (ref := RX15) (ci := 17) rfl 0 (by decide) q1080 (fun x hx => hx) (v := .int (nI b)) (fun h hs => ⟨_, XH.kn hs ha, rfl⟩) dX15_comesDown_11 (np := 14) rfl ?_
  refine g_ixor F dX15_comesDown_14 (np := 15) rfl ?_
  have hv : x ^^^ (nI (b)) = x ^^^ nI b := by rfl
  exact g_iret F hr rfl (Nat.le_of_ble_eq_true rfl) (Nat.le_of_ble_eq_true rfl) dX15_comesDown_15 (fun h hs => by rw [← hT]; exact ⟨congrArg (fun z => some (Value.int z)) hv, hs⟩)

set_option maxRecDepth 100000 in
theorem ct_X15_comesDown_3 {l : Launch} {D : va_G} {B : Nat} {Λ : LT} {I : AH} {L : LawT} (σ : MSt) (b : Nat) (a : Nat) (x : Int32) (htr : σ.1 36 ≤ 1000) (ha : I a = some (bCell (Λ.1 0 38) 3 b)) : Ct l D ZE B yX15_comesDown cX15_comesDown 2 (some .int) 1 21 0 0 [.ref (a), .int x] (XH D Λ I L σ) (RI (x ^^^ nI b) (XH D Λ I L (logS σ [11]))) := by
  refine Ct.of (nL := 2) (lv := [some (.ref (a)), some (.int x)]) (by decide) (Nat.le_of_ble_eq_true rfl) stZE 0 rfl ?_
  generalize hT : RI (x ^^^ nI b) (XH D Λ I L (logS σ [11])) = T
  intro zp ze zs zm zb zt zc F hr hnm
  generalize ([.ref (a), .int x] : List Value).toArray = za at F ⊢
  refine g_aload_n F dX15_comesDown_0 rfl rfl (np := 1) rfl ?_
  refine g_get F in_X18 (ref := RX15) (ci := 18) rfl 1 (by decide) q1081 (fun x hx => hx) (v := .ref (Λ.1 0 38)) (fun h hs => ⟨_, XH.kn hs ha, rfl⟩) dX15_comesDown_1 (np := 4) rfl ?_
  refine g_bipush F (v := (nI 11)) dX15_comesDown_4 (by decide) (np := 6) rfl ?_
  refine g_runVN F (C := RX0) (ci := 0) (T0 := TX0) (N := 38) (rest := []) (ct_X0_ran σ 11 (by first | assumption | omega)) ze1197 q1192 qs52 q100 q1193 hcS_X0_ran ⟨Nat.le_of_ble_eq_true rfl, Nat.le_of_ble_eq_true rfl⟩ rfl (fun h hs => hs.obj) rfl rfl (Nat.le_of_ble_eq_true rfl) dX15_comesDown_6 ⟨Nat.le_of_ble_eq_true rfl, Nat.le_of_ble_eq_true rfl⟩ (np := 9) rfl (k_RV ?_)
  refine g_iload_n F dX15_comesDown_9 rfl rfl (np := 10) rfl ?_
  refine g_aload_n F dX15_comesDown_10 rfl rfl (np := 11) rfl ?_
  refine g_get F in_X18 (ref := RX15) (ci := 18) rfl 0 (by decide) q1080 (fun x hx => hx) (v := .int (nI b)) (fun h hs => ⟨_, XH.kn hs ha, rfl⟩) dX15_comesDown_11 (np := 14) rfl ?_
  refine g_ixor F dX15_comesDown_14 (np := 15) rfl ?_
  have hv : x ^^^ (nI (b)) = x ^^^ nI b := by rfl
  exact g_iret F hr rfl (Nat.le_of_ble_eq_true rfl) (Nat.le_of_ble_eq_true rfl) dX15_comesDown_15 (fun h hs => by rw [← hT]; exact ⟨congrArg (fun z => some (Value.int z)) hv, hs⟩)

set_option maxRecDepth 100000 in
theorem ct_X15_comesDown_4 {l : Launch} {D : va_G} {B : Nat} {Λ : LT} {I : AH} {L : LawT} (σ : MSt) (b : Nat) (a : Nat) (x : Int32) (htr : σ.1 36 ≤ 1000) (ha : I a = some (bCell (Λ.1 0 38) 4 b)) : Ct l D ZE B yX15_comesDown cX15_comesDown 2 (some .int) 1 21 0 0 [.ref (a), .int x] (XH D Λ I L σ) (RI (x ^^^ nI b) (XH D Λ I L (logS σ [11]))) := by
  refine Ct.of (nL := 2) (lv := [some (.ref (a)), some (.int x)]) (by decide) (Nat.le_of_ble_eq_true rfl) stZE 0 rfl ?_
  generalize hT : RI (x ^^^ nI b) (XH D Λ I L (logS σ [11])) = T
  intro zp ze zs zm zb zt zc F hr hnm
  generalize ([.ref (a), .int x] : List Value).toArray = za at F ⊢
  refine g_aload_n F dX15_comesDown_0 rfl rfl (np := 1) rfl ?_
  refine g_get F in_X19 (ref := RX15) (ci := 19) rfl 1 (by decide) q1081 (fun x hx => hx) (v := .ref (Λ.1 0 38)) (fun h hs => ⟨_, XH.kn hs ha, rfl⟩) dX15_comesDown_1 (np := 4) rfl ?_
  refine g_bipush F (v := (nI 11)) dX15_comesDown_4 (by decide) (np := 6) rfl ?_
  refine g_runVN F (C := RX0) (ci := 0) (T0 := TX0) (N := 38) (rest := []) (ct_X0_ran σ 11 (by first | assumption | omega)) ze1197 q1192 qs52 q100 q1193 hcS_X0_ran ⟨Nat.le_of_ble_eq_true rfl, Nat.le_of_ble_eq_true rfl⟩ rfl (fun h hs => hs.obj) rfl rfl (Nat.le_of_ble_eq_true rfl) dX15_comesDown_6 ⟨Nat.le_of_ble_eq_true rfl, Nat.le_of_ble_eq_true rfl⟩ (np := 9) rfl (k_RV ?_)
  refine g_iload_n F dX15_comesDown_9 rfl rfl (np := 10) rfl ?_
  refine g_aload_n F dX15_comesDown_10 rfl rfl (np := 11) rfl ?_
  refine g_get F in_X19 (ref := RX15) (ci := 19) rfl 0 (by decide) q1080 (fun x hx => hx) (v := .int (nI b)) (fun h hs => ⟨_, XH.kn hs ha, rfl⟩) dX15_comesDown_11 (np := 14) rfl ?_
  refine g_ixor F dX15_comesDown_14 (np := 15) rfl ?_
  have hv : x ^^^ (nI (b)) = x ^^^ nI b := by rfl
  exact g_iret F hr rfl (Nat.le_of_ble_eq_true rfl) (Nat.le_of_ble_eq_true rfl) dX15_comesDown_15 (fun h hs => by rw [← hT]; exact ⟨congrArg (fun z => some (Value.int z)) hv, hs⟩)

set_option maxRecDepth 100000 in
theorem ct_X15_comesDown_5 {l : Launch} {D : va_G} {B : Nat} {Λ : LT} {I : AH} {L : LawT} (σ : MSt) (b : Nat) (a : Nat) (x : Int32) (htr : σ.1 36 ≤ 1000) (ha : I a = some (bCell (Λ.1 0 38) 5 b)) : Ct l D ZE B yX15_comesDown cX15_comesDown 2 (some .int) 1 21 0 0 [.ref (a), .int x] (XH D Λ I L σ) (RI (x ^^^ nI b) (XH D Λ I L (logS σ [11]))) := by
  refine Ct.of (nL := 2) (lv := [some (.ref (a)), some (.int x)]) (by decide) (Nat.le_of_ble_eq_true rfl) stZE 0 rfl ?_
  generalize hT : RI (x ^^^ nI b) (XH D Λ I L (logS σ [11])) = T
  intro zp ze zs zm zb zt zc F hr hnm
  generalize ([.ref (a), .int x] : List Value).toArray = za at F ⊢
  refine g_aload_n F dX15_comesDown_0 rfl rfl (np := 1) rfl ?_
  refine g_get F in_X20 (ref := RX15) (ci := 20) rfl 1 (by decide) q1081 (fun x hx => hx) (v := .ref (Λ.1 0 38)) (fun h hs => ⟨_, XH.kn hs ha, rfl⟩) dX15_comesDown_1 (np := 4) rfl ?_
  refine g_bipush F (v := (nI 11)) dX15_comesDown_4 (by decide) (np := 6) rfl ?_
  refine g_runVN F (C := RX0) (ci := 0) (T0 := TX0) (N := 38) (rest := []) (ct_X0_ran σ 11 (by first | assumption | omega)) ze1197 q1192 qs52 q100 q1193 hcS_X0_ran ⟨Nat.le_of_ble_eq_true rfl, Nat.le_of_ble_eq_true rfl⟩ rfl (fun h hs => hs.obj) rfl rfl (Nat.le_of_ble_eq_true rfl) dX15_comesDown_6 ⟨Nat.le_of_ble_eq_true rfl, Nat.le_of_ble_eq_true rfl⟩ (np := 9) rfl (k_RV ?_)
  refine g_iload_n F dX15_comesDown_9 rfl rfl (np := 10) rfl ?_
  refine g_aload_n F dX15_comesDown_10 rfl rfl (np := 11) rfl ?_
  refine g_get F in_X20 (ref := RX15) (ci := 20) rfl 0 (by decide) q1080 (fun x hx => hx) (v := .int (nI b)) (fun h hs => ⟨_, XH.kn hs ha, rfl⟩) dX15_comesDown_11 (np := 14) rfl ?_
  refine g_ixor F dX15_comesDown_14 (np := 15) rfl ?_
  have hv : x ^^^ (nI (b)) = x ^^^ nI b := by rfl
  exact g_iret F hr rfl (Nat.le_of_ble_eq_true rfl) (Nat.le_of_ble_eq_true rfl) dX15_comesDown_15 (fun h hs => by rw [← hT]; exact ⟨congrArg (fun z => some (Value.int z)) hv, hs⟩)

set_option maxRecDepth 100000 in
theorem ct_X15_comesDown_6 {l : Launch} {D : va_G} {B : Nat} {Λ : LT} {I : AH} {L : LawT} (σ : MSt) (b : Nat) (a : Nat) (x : Int32) (htr : σ.1 36 ≤ 1000) (ha : I a = some (bCell (Λ.1 0 38) 6 b)) : Ct l D ZE B yX15_comesDown cX15_comesDown 2 (some .int) 1 21 0 0 [.ref (a), .int x] (XH D Λ I L σ) (RI (x ^^^ nI b) (XH D Λ I L (logS σ [11]))) := by
  refine Ct.of (nL := 2) (lv := [some (.ref (a)), some (.int x)]) (by decide) (Nat.le_of_ble_eq_true rfl) stZE 0 rfl ?_
  generalize hT : RI (x ^^^ nI b) (XH D Λ I L (logS σ [11])) = T
  intro zp ze zs zm zb zt zc F hr hnm
  generalize ([.ref (a), .int x] : List Value).toArray = za at F ⊢
  refine g_aload_n F dX15_comesDown_0 rfl rfl (np := 1) rfl ?_
  refine g_get F in_X21 (ref := RX15) (ci := 21) rfl 1 (by decide) q1081 (fun x hx => hx) (v := .ref (Λ.1 0 38)) (fun h hs => ⟨_, XH.kn hs ha, rfl⟩) dX15_comesDown_1 (np := 4) rfl ?_
  refine g_bipush F (v := (nI 11)) dX15_comesDown_4 (by decide) (np := 6) rfl ?_
  refine g_runVN F (C := RX0) (ci := 0) (T0 := TX0) (N := 38) (rest := []) (ct_X0_ran σ 11 (by first | assumption | omega)) ze1197 q1192 qs52 q100 q1193 hcS_X0_ran ⟨Nat.le_of_ble_eq_true rfl, Nat.le_of_ble_eq_true rfl⟩ rfl (fun h hs => hs.obj) rfl rfl (Nat.le_of_ble_eq_true rfl) dX15_comesDown_6 ⟨Nat.le_of_ble_eq_true rfl, Nat.le_of_ble_eq_true rfl⟩ (np := 9) rfl (k_RV ?_)
  refine g_iload_n F dX15_comesDown_9 rfl rfl (np := 10) rfl ?_
  refine g_aload_n F dX15_comesDown_10 rfl rfl (np := 11) rfl ?_
  refine g_get F in_X21 (ref := RX15) (ci := 21) rfl 0 (by decide) q1080 (fun x hx => hx) (v := .int (nI b)) (fun h hs => ⟨_, XH.kn hs ha, rfl⟩) dX15_comesDown_11 (np := 14) rfl ?_
  refine g_ixor F dX15_comesDown_14 (np := 15) rfl ?_
  have hv : x ^^^ (nI (b)) = x ^^^ nI b := by rfl
  exact g_iret F hr rfl (Nat.le_of_ble_eq_true rfl) (Nat.le_of_ble_eq_true rfl) dX15_comesDown_15 (fun h hs => by rw [← hT]; exact ⟨congrArg (fun z => some (Value.int z)) hv, hs⟩)

set_option maxRecDepth 100000 in
theorem ct_X15_comesDown_7 {l : Launch} {D : va_G} {B : Nat} {Λ : LT} {I : AH} {L : LawT} (σ : MSt) (b : Nat) (a : Nat) (x : Int32) (htr : σ.1 36 ≤ 1000) (ha : I a = some (bCell (Λ.1 0 38) 7 b)) : Ct l D ZE B yX15_comesDown cX15_comesDown 2 (some .int) 1 21 0 0 [.ref (a), .int x] (XH D Λ I L σ) (RI (x ^^^ nI b) (XH D Λ I L (logS σ [11]))) := by
  refine Ct.of (nL := 2) (lv := [some (.ref (a)), some (.int x)]) (by decide) (Nat.le_of_ble_eq_true rfl) stZE 0 rfl ?_
  generalize hT : RI (x ^^^ nI b) (XH D Λ I L (logS σ [11])) = T
  intro zp ze zs zm zb zt zc F hr hnm
  generalize ([.ref (a), .int x] : List Value).toArray = za at F ⊢
  refine g_aload_n F dX15_comesDown_0 rfl rfl (np := 1) rfl ?_
  refine g_get F in_X22 (ref := RX15) (ci := 22) rfl 1 (by decide) q1081 (fun x hx => hx) (v := .ref (Λ.1 0 38)) (fun h hs => ⟨_, XH.kn hs ha, rfl⟩) dX15_comesDown_1 (np := 4) rfl ?_
  refine g_bipush F (v := (nI 11)) dX15_comesDown_4 (by decide) (np := 6) rfl ?_
  refine g_runVN F (C := RX0) (ci := 0) (T0 := TX0) (N := 38) (rest := []) (ct_X0_ran σ 11 (by first | assumption | omega)) ze1197 q1192 qs52 q100 q1193 hcS_X0_ran ⟨Nat.le_of_ble_eq_true rfl, Nat.le_of_ble_eq_true rfl⟩ rfl (fun h hs => hs.obj) rfl rfl (Nat.le_of_ble_eq_true rfl) dX15_comesDown_6 ⟨Nat.le_of_ble_eq_true rfl, Nat.le_of_ble_eq_true rfl⟩ (np := 9) rfl (k_RV ?_)
  refine g_iload_n F dX15_comesDown_9 rfl rfl (np := 10) rfl ?_
  refine g_aload_n F dX15_comesDown_10 rfl rfl (np := 11) rfl ?_
  refine g_get F in_X22 (ref := RX15) (ci := 22) rfl 0 (by decide) q1080 (fun x hx => hx) (v := .int (nI b)) (fun h hs => ⟨_, XH.kn hs ha, rfl⟩) dX15_comesDown_11 (np := 14) rfl ?_
  refine g_ixor F dX15_comesDown_14 (np := 15) rfl ?_
  have hv : x ^^^ (nI (b)) = x ^^^ nI b := by rfl
  exact g_iret F hr rfl (Nat.le_of_ble_eq_true rfl) (Nat.le_of_ble_eq_true rfl) dX15_comesDown_15 (fun h hs => by rw [← hT]; exact ⟨congrArg (fun z => some (Value.int z)) hv, hs⟩)

set_option maxRecDepth 100000 in
theorem ct_X18_comesDown_3 {l : Launch} {D : va_G} {B : Nat} {Λ : LT} {I : AH} {L : LawT} (σ : MSt) (b : Nat) (a : Nat) (x : Int32) (htr : σ.1 36 ≤ 990) (ha : I a = some (bCell (Λ.1 0 38) 3 b)) : Ct l D ZE B yX18_comesDown cX18_comesDown 2 (some .int) 2 42 0 0 [.ref (a), .int x] (XH D Λ I L σ) (RI ((x ^^^ nI b) * nI 3) (XH D Λ I L (logS σ [40, 11]))) := by
  refine Ct.of (nL := 2) (lv := [some (.ref (a)), some (.int x)]) (by decide) (Nat.le_of_ble_eq_true rfl) stZE 0 rfl ?_
  generalize hT : RI ((x ^^^ nI b) * nI 3) (XH D Λ I L (logS σ [40, 11])) = T
  intro zp ze zs zm zb zt zc F hr hnm
  generalize ([.ref (a), .int x] : List Value).toArray = za at F ⊢
  refine g_aload_n F dX18_comesDown_0 rfl rfl (np := 1) rfl ?_
  refine g_getL F in_X18 (ci := 18) rfl 3 (by decide) rfl (Or.inl q1107) (v := .ref (Λ.1 0 38)) (fun h hs => ⟨_, XH.kn hs ha, rfl⟩) dX18_comesDown_1 (np := 4) rfl ?_
  refine g_bipush F (v := (nI 40)) dX18_comesDown_4 (by decide) (np := 6) rfl ?_
  refine g_runVN F (C := RX0) (ci := 0) (T0 := TX0) (N := 38) (rest := []) (ct_X0_ran σ 40 (by first | assumption | omega)) ze1275 q1192 qs52 q100 q1193 hcS_X0_ran ⟨Nat.le_of_ble_eq_true rfl, Nat.le_of_ble_eq_true rfl⟩ rfl (fun h hs => hs.obj) rfl rfl (Nat.le_of_ble_eq_true rfl) dX18_comesDown_6 ⟨Nat.le_of_ble_eq_true rfl, Nat.le_of_ble_eq_true rfl⟩ (np := 9) rfl (k_RV ?_)
  refine g_aload_n F dX18_comesDown_9 rfl rfl (np := 10) rfl ?_
  refine g_iload_n F dX18_comesDown_10 rfl rfl (np := 11) rfl ?_
  refine g_runSU F (C := RX18) (owner := "PromiseRoofs$Storey") (ch := ["PromiseRoofs$Storey"]) (x := ⟨"PromiseRoofs$Cellar", "comesDown", "(I)I"⟩) (ci := 18) (T0 := TX18) (N := 4) (n := 1) (rest := []) (ct_X15_comesDown_3 (logS σ [40]) b a x (by show σ.1 36 + 1 ≤ _; omega) (by exact ha)) q1282 q1283 q1113 q1265 q129 q1266 ⟨q1100, rfl⟩ (by decide) (by decide +kernel) ⟨Nat.le_of_ble_eq_true rfl, Nat.le_of_ble_eq_true rfl⟩ rfl (fun h hs => ⟨_, XH.kn hs ha⟩) rfl rfl (Nat.le_of_ble_eq_true rfl) dX18_comesDown_11 ⟨Nat.le_of_ble_eq_true rfl, Nat.le_of_ble_eq_true rfl⟩ (np := 14) rfl (k_RI ?_)
  refine WG.weak (S' := XH D Λ I L (logS σ ([40] ++ [11]))) (fun h hs => by rw [← logS_app]; exact hs) ?_
  refine g_iconst F (v := (nI 3)) dX18_comesDown_14 (by decide) (np := 15) rfl ?_
  refine g_imul F dX18_comesDown_15 (np := 16) rfl ?_
  have hσ : (logS σ ([40] ++ [11])) = (logS σ [40, 11]) := by rfl
  have hv : (x ^^^ nI b) * (nI (3)) = (x ^^^ nI b) * nI 3 := by rfl
  exact g_iret F hr rfl (Nat.le_of_ble_eq_true rfl) (Nat.le_of_ble_eq_true rfl) dX18_comesDown_16 (fun h hs => by rw [← hT]; exact ⟨congrArg (fun z => some (Value.int z)) hv, (hσ ▸ hs)⟩)

set_option maxRecDepth 100000 in
theorem ct_X18_comesDown_5 {l : Launch} {D : va_G} {B : Nat} {Λ : LT} {I : AH} {L : LawT} (σ : MSt) (b : Nat) (a : Nat) (x : Int32) (htr : σ.1 36 ≤ 990) (ha : I a = some (bCell (Λ.1 0 38) 5 b)) : Ct l D ZE B yX18_comesDown cX18_comesDown 2 (some .int) 2 42 0 0 [.ref (a), .int x] (XH D Λ I L σ) (RI ((x ^^^ nI b) * nI 3) (XH D Λ I L (logS σ [40, 11]))) := by
  refine Ct.of (nL := 2) (lv := [some (.ref (a)), some (.int x)]) (by decide) (Nat.le_of_ble_eq_true rfl) stZE 0 rfl ?_
  generalize hT : RI ((x ^^^ nI b) * nI 3) (XH D Λ I L (logS σ [40, 11])) = T
  intro zp ze zs zm zb zt zc F hr hnm
  generalize ([.ref (a), .int x] : List Value).toArray = za at F ⊢
  refine g_aload_n F dX18_comesDown_0 rfl rfl (np := 1) rfl ?_
  refine g_get F in_X20 (ref := RX18) (ci := 20) rfl 3 (by decide) q1107 (fun x hx => hx) (v := .ref (Λ.1 0 38)) (fun h hs => ⟨_, XH.kn hs ha, rfl⟩) dX18_comesDown_1 (np := 4) rfl ?_
  refine g_bipush F (v := (nI 40)) dX18_comesDown_4 (by decide) (np := 6) rfl ?_
  refine g_runVN F (C := RX0) (ci := 0) (T0 := TX0) (N := 38) (rest := []) (ct_X0_ran σ 40 (by first | assumption | omega)) ze1275 q1192 qs52 q100 q1193 hcS_X0_ran ⟨Nat.le_of_ble_eq_true rfl, Nat.le_of_ble_eq_true rfl⟩ rfl (fun h hs => hs.obj) rfl rfl (Nat.le_of_ble_eq_true rfl) dX18_comesDown_6 ⟨Nat.le_of_ble_eq_true rfl, Nat.le_of_ble_eq_true rfl⟩ (np := 9) rfl (k_RV ?_)
  refine g_aload_n F dX18_comesDown_9 rfl rfl (np := 10) rfl ?_
  refine g_iload_n F dX18_comesDown_10 rfl rfl (np := 11) rfl ?_
  refine g_runSU F (C := RX20) (owner := "PromiseRoofs$Storey") (ch := ["PromiseRoofs$Storey"]) (x := ⟨"PromiseRoofs$Cellar", "comesDown", "(I)I"⟩) (ci := 20) (T0 := TX20) (N := 5) (n := 1) (rest := []) (ct_X15_comesDown_5 (logS σ [40]) b a x (by show σ.1 36 + 1 ≤ _; omega) (by exact ha)) q1282 q1283 q1113 q1265 q129 q1266 ⟨q1100, rfl⟩ (by decide) (by decide +kernel) ⟨Nat.le_of_ble_eq_true rfl, Nat.le_of_ble_eq_true rfl⟩ rfl (fun h hs => ⟨_, XH.kn hs ha⟩) rfl rfl (Nat.le_of_ble_eq_true rfl) dX18_comesDown_11 ⟨Nat.le_of_ble_eq_true rfl, Nat.le_of_ble_eq_true rfl⟩ (np := 14) rfl (k_RI ?_)
  refine WG.weak (S' := XH D Λ I L (logS σ ([40] ++ [11]))) (fun h hs => by rw [← logS_app]; exact hs) ?_
  refine g_iconst F (v := (nI 3)) dX18_comesDown_14 (by decide) (np := 15) rfl ?_
  refine g_imul F dX18_comesDown_15 (np := 16) rfl ?_
  have hσ : (logS σ ([40] ++ [11])) = (logS σ [40, 11]) := by rfl
  have hv : (x ^^^ nI b) * (nI (3)) = (x ^^^ nI b) * nI 3 := by rfl
  exact g_iret F hr rfl (Nat.le_of_ble_eq_true rfl) (Nat.le_of_ble_eq_true rfl) dX18_comesDown_16 (fun h hs => by rw [← hT]; exact ⟨congrArg (fun z => some (Value.int z)) hv, (hσ ▸ hs)⟩)

set_option maxRecDepth 100000 in
theorem ct_X19_comesDown_4 {l : Launch} {D : va_G} {B : Nat} {Λ : LT} {I : AH} {L : LawT} (σ : MSt) (b : Nat) (a : Nat) (x : Int32) (htr : σ.1 36 ≤ 980) (ha : I a = some (bCell (Λ.1 0 38) 4 b)) : Ct l D ZE B yX19_comesDown cX19_comesDown 3 (some .int) 3 63 0 0 [.ref (a), .int x] (XH D Λ I L σ) (RI ((x ^^^ nI b) - (nI 2 + nI b + nI 3)) (XH D Λ I L (logS σ [50, 11, 20, 1]))) := by
  refine Ct.of (nL := 3) (lv := [some (.ref (a)), some (.int x), none]) (by decide) (Nat.le_of_ble_eq_true rfl) stZE 1 rfl ?_
  generalize hT : RI ((x ^^^ nI b) - (nI 2 + nI b + nI 3)) (XH D Λ I L (logS σ [50, 11, 20, 1])) = T
  intro zp ze zs zm zb zt zc F hr hnm
  generalize ([.ref (a), .int x] : List Value).toArray = za at F ⊢
  refine g_aload_n F dX19_comesDown_0 rfl rfl (np := 1) rfl ?_
  refine g_getL F in_X19 (ci := 19) rfl 3 (by decide) rfl (Or.inl q1120) (v := .ref (Λ.1 0 38)) (fun h hs => ⟨_, XH.kn hs ha, rfl⟩) dX19_comesDown_1 (np := 4) rfl ?_
  refine g_bipush F (v := (nI 50)) dX19_comesDown_4 (by decide) (np := 6) rfl ?_
  refine g_runVN F (C := RX0) (ci := 0) (T0 := TX0) (N := 38) (rest := []) (ct_X0_ran σ 50 (by first | assumption | omega)) ze1261 q1192 qs52 q100 q1193 hcS_X0_ran ⟨Nat.le_of_ble_eq_true rfl, Nat.le_of_ble_eq_true rfl⟩ rfl (fun h hs => hs.obj) rfl rfl (Nat.le_of_ble_eq_true rfl) dX19_comesDown_6 ⟨Nat.le_of_ble_eq_true rfl, Nat.le_of_ble_eq_true rfl⟩ (np := 9) rfl (k_RV ?_)
  refine g_aload_n F dX19_comesDown_9 rfl rfl (np := 10) rfl ?_
  refine g_iload_n F dX19_comesDown_10 rfl rfl (np := 11) rfl ?_
  refine g_runSU F (C := RX19) (owner := "PromiseRoofs$Storey") (ch := ["PromiseRoofs$Storey"]) (x := ⟨"PromiseRoofs$Attic", "comesDown", "(I)I"⟩) (ci := 19) (T0 := TX19) (N := 4) (n := 1) (rest := []) (ct_X15_comesDown_4 (logS σ [50]) b a x (by show σ.1 36 + 1 ≤ _; omega) (by exact ha)) q1262 q1263 q1126 q1265 q129 q1266 ⟨q1088, rfl⟩ (by decide) (by decide +kernel) ⟨Nat.le_of_ble_eq_true rfl, Nat.le_of_ble_eq_true rfl⟩ rfl (fun h hs => ⟨_, XH.kn hs ha⟩) rfl rfl (Nat.le_of_ble_eq_true rfl) dX19_comesDown_11 ⟨Nat.le_of_ble_eq_true rfl, Nat.le_of_ble_eq_true rfl⟩ (np := 14) rfl (k_RI ?_)
  refine WG.weak (S' := XH D Λ I L (logS σ ([50] ++ [11]))) (fun h hs => by rw [← logS_app]; exact hs) ?_
  refine g_istore_n F (lv' := [some (.ref (a)), some (.int x), some (.int (x ^^^ nI b))]) dX19_comesDown_14 rfl (by decide) rfl rfl (np := 15) rfl ?_
  refine g_iload_n F dX19_comesDown_15 rfl rfl (np := 16) rfl ?_
  refine g_aload_n F dX19_comesDown_16 rfl rfl (np := 17) rfl ?_
  refine g_iconst F (v := (nI 2)) dX19_comesDown_17 (by decide) (np := 18) rfl ?_
  refine g_runO F (C := RX19) (owner := "PromiseRoofs$Attic") (x := ⟨"PromiseRoofs$Widow", "swears", "(I)I"⟩) (ci := 19) (T0 := TX19) (N := 4) (n := 1) (rest := [.int (x ^^^ nI b)]) (ct_X16_swears_4 (logS σ ([50] ++ [11])) b a (nI (2)) (by show σ.1 36 + 2 ≤ _; omega) (by exact ha)) q1267 q1268 q1187 q1271 q1187 q130 q1189 q1189 (by decide +kernel) ⟨Nat.le_of_ble_eq_true rfl, Nat.le_of_ble_eq_true rfl⟩ rfl (fun h hs => ⟨_, XH.kn hs ha⟩) rfl rfl (Nat.le_of_ble_eq_true rfl) dX19_comesDown_18 ⟨Nat.le_of_ble_eq_true rfl, Nat.le_of_ble_eq_true rfl⟩ (np := 21) rfl (k_RI ?_)
  refine WG.weak (S' := XH D Λ I L (logS σ (([50] ++ [11]) ++ [20, 1]))) (fun h hs => by rw [← logS_app]; exact hs) ?_
  refine g_isub F dX19_comesDown_21 (np := 22) rfl ?_
  have hσ : (logS σ (([50] ++ [11]) ++ [20, 1])) = (logS σ [50, 11, 20, 1]) := by rfl
  have hv : (x ^^^ nI b) - ((nI (2)) + nI b + nI 3) = (x ^^^ nI b) - (nI 2 + nI b + nI 3) := by rfl
  exact g_iret F hr rfl (Nat.le_of_ble_eq_true rfl) (Nat.le_of_ble_eq_true rfl) dX19_comesDown_22 (fun h hs => by rw [← hT]; exact ⟨congrArg (fun z => some (Value.int z)) hv, (hσ ▸ hs)⟩)

set_option maxRecDepth 100000 in
theorem ct_X19_comesDown_7 {l : Launch} {D : va_G} {B : Nat} {Λ : LT} {I : AH} {L : LawT} (σ : MSt) (b : Nat) (a : Nat) (x : Int32) (htr : σ.1 36 ≤ 980) (ha : I a = some (bCell (Λ.1 0 38) 7 b)) : Ct l D ZE B yX19_comesDown cX19_comesDown 3 (some .int) 3 63 0 0 [.ref (a), .int x] (XH D Λ I L σ) (RI ((x ^^^ nI b) - (nI 2 + nI b + nI 3)) (XH D Λ I L (logS σ [50, 11, 20, 1]))) := by
  refine Ct.of (nL := 3) (lv := [some (.ref (a)), some (.int x), none]) (by decide) (Nat.le_of_ble_eq_true rfl) stZE 1 rfl ?_
  generalize hT : RI ((x ^^^ nI b) - (nI 2 + nI b + nI 3)) (XH D Λ I L (logS σ [50, 11, 20, 1])) = T
  intro zp ze zs zm zb zt zc F hr hnm
  generalize ([.ref (a), .int x] : List Value).toArray = za at F ⊢
  refine g_aload_n F dX19_comesDown_0 rfl rfl (np := 1) rfl ?_
  refine g_get F in_X22 (ref := RX19) (ci := 22) rfl 3 (by decide) q1120 (fun x hx => hx) (v := .ref (Λ.1 0 38)) (fun h hs => ⟨_, XH.kn hs ha, rfl⟩) dX19_comesDown_1 (np := 4) rfl ?_
  refine g_bipush F (v := (nI 50)) dX19_comesDown_4 (by decide) (np := 6) rfl ?_
  refine g_runVN F (C := RX0) (ci := 0) (T0 := TX0) (N := 38) (rest := []) (ct_X0_ran σ 50 (by first | assumption | omega)) ze1261 q1192 qs52 q100 q1193 hcS_X0_ran ⟨Nat.le_of_ble_eq_true rfl, Nat.le_of_ble_eq_true rfl⟩ rfl (fun h hs => hs.obj) rfl rfl (Nat.le_of_ble_eq_true rfl) dX19_comesDown_6 ⟨Nat.le_of_ble_eq_true rfl, Nat.le_of_ble_eq_true rfl⟩ (np := 9) rfl (k_RV ?_)
  refine g_aload_n F dX19_comesDown_9 rfl rfl (np := 10) rfl ?_
  refine g_iload_n F dX19_comesDown_10 rfl rfl (np := 11) rfl ?_
  refine g_runSU F (C := RX22) (owner := "PromiseRoofs$Storey") (ch := ["PromiseRoofs$Storey"]) (x := ⟨"PromiseRoofs$Attic", "comesDown", "(I)I"⟩) (ci := 22) (T0 := TX22) (N := 5) (n := 1) (rest := []) (ct_X15_comesDown_7 (logS σ [50]) b a x (by show σ.1 36 + 1 ≤ _; omega) (by exact ha)) q1262 q1263 q1126 q1265 q129 q1266 ⟨q1088, rfl⟩ (by decide) (by decide +kernel) ⟨Nat.le_of_ble_eq_true rfl, Nat.le_of_ble_eq_true rfl⟩ rfl (fun h hs => ⟨_, XH.kn hs ha⟩) rfl rfl (Nat.le_of_ble_eq_true rfl) dX19_comesDown_11 ⟨Nat.le_of_ble_eq_true rfl, Nat.le_of_ble_eq_true rfl⟩ (np := 14) rfl (k_RI ?_)
  refine WG.weak (S' := XH D Λ I L (logS σ ([50] ++ [11]))) (fun h hs => by rw [← logS_app]; exact hs) ?_
  refine g_istore_n F (lv' := [some (.ref (a)), some (.int x), some (.int (x ^^^ nI b))]) dX19_comesDown_14 rfl (by decide) rfl rfl (np := 15) rfl ?_
  refine g_iload_n F dX19_comesDown_15 rfl rfl (np := 16) rfl ?_
  refine g_aload_n F dX19_comesDown_16 rfl rfl (np := 17) rfl ?_
  refine g_iconst F (v := (nI 2)) dX19_comesDown_17 (by decide) (np := 18) rfl ?_
  refine g_runO F (C := RX22) (owner := "PromiseRoofs$Attic") (x := ⟨"PromiseRoofs$Widow", "swears", "(I)I"⟩) (ci := 22) (T0 := TX22) (N := 5) (n := 1) (rest := [.int (x ^^^ nI b)]) (ct_X16_swears_7 (logS σ ([50] ++ [11])) b a (nI (2)) (by show σ.1 36 + 2 ≤ _; omega) (by exact ha)) q1267 q1268 q1187 q1270 q1187 q130 q1189 q1189 (by decide +kernel) ⟨Nat.le_of_ble_eq_true rfl, Nat.le_of_ble_eq_true rfl⟩ rfl (fun h hs => ⟨_, XH.kn hs ha⟩) rfl rfl (Nat.le_of_ble_eq_true rfl) dX19_comesDown_18 ⟨Nat.le_of_ble_eq_true rfl, Nat.le_of_ble_eq_true rfl⟩ (np := 21) rfl (k_RI ?_)
  refine WG.weak (S' := XH D Λ I L (logS σ (([50] ++ [11]) ++ [20, 1]))) (fun h hs => by rw [← logS_app]; exact hs) ?_
  refine g_isub F dX19_comesDown_21 (np := 22) rfl ?_
  have hσ : (logS σ (([50] ++ [11]) ++ [20, 1])) = (logS σ [50, 11, 20, 1]) := by rfl
  have hv : (x ^^^ nI b) - ((nI (2)) + nI b + nI 3) = (x ^^^ nI b) - (nI 2 + nI b + nI 3) := by rfl
  exact g_iret F hr rfl (Nat.le_of_ble_eq_true rfl) (Nat.le_of_ble_eq_true rfl) dX19_comesDown_22 (fun h hs => by rw [← hT]; exact ⟨congrArg (fun z => some (Value.int z)) hv, (hσ ▸ hs)⟩)

set_option maxRecDepth 100000 in
theorem ct_X15_builds_0 {l : Launch} {D : va_G} {B : Nat} {Λ : LT} {I : AH} {L : LawT} (σ : MSt) (b : Nat) (a : Nat) (x : Int32) (htr : σ.1 36 ≤ 980) (ha : I a = some (bCell (Λ.1 0 38) 0 b)) : Ct l D ZE B yX15_builds cX15_builds 2 (some .int) 2 42 0 0 [.ref (a), .int x] (XH D Λ I L σ) (RI ((x + nI b) * nI 2) (XH D Λ I L (logS σ [10, 1]))) := by
  refine Ct.of (nL := 2) (lv := [some (.ref (a)), some (.int x)]) (by decide) (Nat.le_of_ble_eq_true rfl) stZE 0 rfl ?_
  generalize hT : RI ((x + nI b) * nI 2) (XH D Λ I L (logS σ [10, 1])) = T
  intro zp ze zs zm zb zt zc F hr hnm
  generalize ([.ref (a), .int x] : List Value).toArray = za at F ⊢
  refine g_aload_n F dX15_builds_0 rfl rfl (np := 1) rfl ?_
  refine g_getL F in_X15 (ci := 15) rfl 1 (by decide) rfl (Or.inl q1081) (v := .ref (Λ.1 0 38)) (fun h hs => ⟨_, XH.kn hs ha, rfl⟩) dX15_builds_1 (np := 4) rfl ?_
  refine g_bipush F (v := (nI 10)) dX15_builds_4 (by decide) (np := 6) rfl ?_
  refine g_runVN F (C := RX0) (ci := 0) (T0 := TX0) (N := 38) (rest := []) (ct_X0_ran σ 10 (by first | assumption | omega)) ze1197 q1192 qs52 q100 q1193 hcS_X0_ran ⟨Nat.le_of_ble_eq_true rfl, Nat.le_of_ble_eq_true rfl⟩ rfl (fun h hs => hs.obj) rfl rfl (Nat.le_of_ble_eq_true rfl) dX15_builds_6 ⟨Nat.le_of_ble_eq_true rfl, Nat.le_of_ble_eq_true rfl⟩ (np := 9) rfl (k_RV ?_)
  refine g_aload_n F dX15_builds_9 rfl rfl (np := 10) rfl ?_
  refine g_iload_n F dX15_builds_10 rfl rfl (np := 11) rfl ?_
  refine g_runO F (C := RX15) (owner := "PromiseRoofs$Storey") (x := ⟨"PromiseRoofs$Storey", "swears", "(I)I"⟩) (ci := 15) (T0 := TX15) (N := 2) (n := 1) (rest := []) (ct_X15_swears_0 (logS σ [10]) b a x (by show σ.1 36 + 1 ≤ _; omega) (by exact ha)) q1246 q2048 q1195 q2054 q1195 q129 q1196 q1196 (by decide +kernel) ⟨Nat.le_of_ble_eq_true rfl, Nat.le_of_ble_eq_true rfl⟩ rfl (fun h hs => ⟨_, XH.kn hs ha⟩) rfl rfl (Nat.le_of_ble_eq_true rfl) dX15_builds_11 ⟨Nat.le_of_ble_eq_true rfl, Nat.le_of_ble_eq_true rfl⟩ (np := 14) rfl (k_RI ?_)
  refine WG.weak (S' := XH D Λ I L (logS σ ([10] ++ [1]))) (fun h hs => by rw [← logS_app]; exact hs) ?_
  refine g_iconst F (v := (nI 2)) dX15_builds_14 (by decide) (np := 15) rfl ?_
  refine g_imul F dX15_builds_15 (np := 16) rfl ?_
  have hσ : (logS σ ([10] ++ [1])) = (logS σ [10, 1]) := by rfl
  have hv : (x + nI b) * (nI (2)) = (x + nI b) * nI 2 := by rfl
  exact g_iret F hr rfl (Nat.le_of_ble_eq_true rfl) (Nat.le_of_ble_eq_true rfl) dX15_builds_16 (fun h hs => by rw [← hT]; exact ⟨congrArg (fun z => some (Value.int z)) hv, (hσ ▸ hs)⟩)

set_option maxRecDepth 100000 in
theorem ct_X15_builds_1 {l : Launch} {D : va_G} {B : Nat} {Λ : LT} {I : AH} {L : LawT} (σ : MSt) (b : Nat) (a : Nat) (x : Int32) (htr : σ.1 36 ≤ 980) (ha : I a = some (bCell (Λ.1 0 38) 1 b)) : Ct l D ZE B yX15_builds cX15_builds 2 (some .int) 3 63 0 0 [.ref (a), .int x] (XH D Λ I L σ) (RI ((x + nI b + nI 3) * nI 2) (XH D Λ I L (logS σ [10, 20, 1]))) := by
  refine Ct.of (nL := 2) (lv := [some (.ref (a)), some (.int x)]) (by decide) (Nat.le_of_ble_eq_true rfl) stZE 0 rfl ?_
  generalize hT : RI ((x + nI b + nI 3) * nI 2) (XH D Λ I L (logS σ [10, 20, 1])) = T
  intro zp ze zs zm zb zt zc F hr hnm
  generalize ([.ref (a), .int x] : List Value).toArray = za at F ⊢
  refine g_aload_n F dX15_builds_0 rfl rfl (np := 1) rfl ?_
  refine g_get F in_X16 (ref := RX15) (ci := 16) rfl 1 (by decide) q1081 (fun x hx => hx) (v := .ref (Λ.1 0 38)) (fun h hs => ⟨_, XH.kn hs ha, rfl⟩) dX15_builds_1 (np := 4) rfl ?_
  refine g_bipush F (v := (nI 10)) dX15_builds_4 (by decide) (np := 6) rfl ?_
  refine g_runVN F (C := RX0) (ci := 0) (T0 := TX0) (N := 38) (rest := []) (ct_X0_ran σ 10 (by first | assumption | omega)) ze1197 q1192 qs52 q100 q1193 hcS_X0_ran ⟨Nat.le_of_ble_eq_true rfl, Nat.le_of_ble_eq_true rfl⟩ rfl (fun h hs => hs.obj) rfl rfl (Nat.le_of_ble_eq_true rfl) dX15_builds_6 ⟨Nat.le_of_ble_eq_true rfl, Nat.le_of_ble_eq_true rfl⟩ (np := 9) rfl (k_RV ?_)
  refine g_aload_n F dX15_builds_9 rfl rfl (np := 10) rfl ?_
  refine g_iload_n F dX15_builds_10 rfl rfl (np := 11) rfl ?_
  refine g_runO F (C := RX16) (owner := "PromiseRoofs$Storey") (x := ⟨"PromiseRoofs$Storey", "swears", "(I)I"⟩) (ci := 16) (T0 := TX16) (N := 3) (n := 1) (rest := []) (ct_X16_swears_1 (logS σ [10]) b a x (by show σ.1 36 + 1 ≤ _; omega) (by exact ha)) q1246 q2048 q1195 q2049 q1187 q130 q1189 q1196 (by decide +kernel) ⟨Nat.le_of_ble_eq_true rfl, Nat.le_of_ble_eq_true rfl⟩ rfl (fun h hs => ⟨_, XH.kn hs ha⟩) rfl rfl (Nat.le_of_ble_eq_true rfl) dX15_builds_11 ⟨Nat.le_of_ble_eq_true rfl, Nat.le_of_ble_eq_true rfl⟩ (np := 14) rfl (k_RI ?_)
  refine WG.weak (S' := XH D Λ I L (logS σ ([10] ++ [20, 1]))) (fun h hs => by rw [← logS_app]; exact hs) ?_
  refine g_iconst F (v := (nI 2)) dX15_builds_14 (by decide) (np := 15) rfl ?_
  refine g_imul F dX15_builds_15 (np := 16) rfl ?_
  have hσ : (logS σ ([10] ++ [20, 1])) = (logS σ [10, 20, 1]) := by rfl
  have hv : (x + nI b + nI 3) * (nI (2)) = (x + nI b + nI 3) * nI 2 := by rfl
  exact g_iret F hr rfl (Nat.le_of_ble_eq_true rfl) (Nat.le_of_ble_eq_true rfl) dX15_builds_16 (fun h hs => by rw [← hT]; exact ⟨congrArg (fun z => some (Value.int z)) hv, (hσ ▸ hs)⟩)

set_option maxRecDepth 100000 in
theorem ct_X15_builds_2 {l : Launch} {D : va_G} {B : Nat} {Λ : LT} {I : AH} {L : LawT} (σ : MSt) (b : Nat) (a : Nat) (x : Int32) (htr : σ.1 36 ≤ 980) (ha : I a = some (bCell (Λ.1 0 38) 2 b)) : Ct l D ZE B yX15_builds cX15_builds 2 (some .int) 2 42 0 0 [.ref (a), .int x] (XH D Λ I L σ) (RI ((x + nI b) * nI 2) (XH D Λ I L (logS σ [10, 1]))) := by
  refine Ct.of (nL := 2) (lv := [some (.ref (a)), some (.int x)]) (by decide) (Nat.le_of_ble_eq_true rfl) stZE 0 rfl ?_
  generalize hT : RI ((x + nI b) * nI 2) (XH D Λ I L (logS σ [10, 1])) = T
  intro zp ze zs zm zb zt zc F hr hnm
  generalize ([.ref (a), .int x] : List Value).toArray = za at F ⊢
  refine g_aload_n F dX15_builds_0 rfl rfl (np := 1) rfl ?_
  refine g_get F in_X17 (ref := RX15) (ci := 17) rfl 1 (by decide) q1081 (fun x hx => hx) (v := .ref (Λ.1 0 38)) (fun h hs => ⟨_, XH.kn hs ha, rfl⟩) dX15_builds_1 (np := 4) rfl ?_
  refine g_bipush F (v := (nI 10)) dX15_builds_4 (by decide) (np := 6) rfl ?_
  refine g_runVN F (C := RX0) (ci := 0) (T0 := TX0) (N := 38) (rest := []) (ct_X0_ran σ 10 (by first | assumption | omega)) ze1197 q1192 qs52 q100 q1193 hcS_X0_ran ⟨Nat.le_of_ble_eq_true rfl, Nat.le_of_ble_eq_true rfl⟩ rfl (fun h hs => hs.obj) rfl rfl (Nat.le_of_ble_eq_true rfl) dX15_builds_6 ⟨Nat.le_of_ble_eq_true rfl, Nat.le_of_ble_eq_true rfl⟩ (np := 9) rfl (k_RV ?_)
  refine g_aload_n F dX15_builds_9 rfl rfl (np := 10) rfl ?_
  refine g_iload_n F dX15_builds_10 rfl rfl (np := 11) rfl ?_
  refine g_runO F (C := RX17) (owner := "PromiseRoofs$Storey") (x := ⟨"PromiseRoofs$Storey", "swears", "(I)I"⟩) (ci := 17) (T0 := TX17) (N := 3) (n := 1) (rest := []) (ct_X15_swears_2 (logS σ [10]) b a x (by show σ.1 36 + 1 ≤ _; omega) (by exact ha)) q1246 q2048 q1195 q2050 q1195 q129 q1196 q1196 (by decide +kernel) ⟨Nat.le_of_ble_eq_true rfl, Nat.le_of_ble_eq_true rfl⟩ rfl (fun h hs => ⟨_, XH.kn hs ha⟩) rfl rfl (Nat.le_of_ble_eq_true rfl) dX15_builds_11 ⟨Nat.le_of_ble_eq_true rfl, Nat.le_of_ble_eq_true rfl⟩ (np := 14) rfl (k_RI ?_)
  refine WG.weak (S' := XH D Λ I L (logS σ ([10] ++ [1]))) (fun h hs => by rw [← logS_app]; exact hs) ?_
  refine g_iconst F (v := (nI 2)) dX15_builds_14 (by decide) (np := 15) rfl ?_
  refine g_imul F dX15_builds_15 (np := 16) rfl ?_
  have hσ : (logS σ ([10] ++ [1])) = (logS σ [10, 1]) := by rfl
  have hv : (x + nI b) * (nI (2)) = (x + nI b) * nI 2 := by rfl
  exact g_iret F hr rfl (Nat.le_of_ble_eq_true rfl) (Nat.le_of_ble_eq_true rfl) dX15_builds_16 (fun h hs => by rw [← hT]; exact ⟨congrArg (fun z => some (Value.int z)) hv, (hσ ▸ hs)⟩)

set_option maxRecDepth 100000 in
theorem ct_X15_builds_3 {l : Launch} {D : va_G} {B : Nat} {Λ : LT} {I : AH} {L : LawT} (σ : MSt) (b : Nat) (a : Nat) (x : Int32) (htr : σ.1 36 ≤ 980) (ha : I a = some (bCell (Λ.1 0 38) 3 b)) : Ct l D ZE B yX15_builds cX15_builds 2 (some .int) 2 42 0 0 [.ref (a), .int x] (XH D Λ I L σ) (RI ((x + nI b) * nI 2) (XH D Λ I L (logS σ [10, 1]))) := by
  refine Ct.of (nL := 2) (lv := [some (.ref (a)), some (.int x)]) (by decide) (Nat.le_of_ble_eq_true rfl) stZE 0 rfl ?_
  generalize hT : RI ((x + nI b) * nI 2) (XH D Λ I L (logS σ [10, 1])) = T
  intro zp ze zs zm zb zt zc F hr hnm
  generalize ([.ref (a), .int x] : List Value).toArray = za at F ⊢
  refine g_aload_n F dX15_builds_0 rfl rfl (np := 1) rfl ?_
  refine g_get F in_X18 (ref := RX15) (ci := 18) rfl 1 (by decide) q1081 (fun x hx => hx) (v := .ref (Λ.1 0 38)) (fun h hs => ⟨_, XH.kn hs ha, rfl⟩) dX15_builds_1 (np := 4) rfl ?_
  refine g_bipush F (v := (nI 10)) dX15_builds_4 (by decide) (np := 6) rfl ?_
  refine g_runVN F (C := RX0) (ci := 0) (T0 := TX0) (N := 38) (rest := []) (ct_X0_ran σ 10 (by first | assumption | omega)) ze1197 q1192 qs52 q100 q1193 hcS_X0_ran ⟨Nat.le_of_ble_eq_true rfl, Nat.le_of_ble_eq_true rfl⟩ rfl (fun h hs => hs.obj) rfl rfl (Nat.le_of_ble_eq_true rfl) dX15_builds_6 ⟨Nat.le_of_ble_eq_true rfl, Nat.le_of_ble_eq_true rfl⟩ (np := 9) rfl (k_RV ?_)
  refine g_aload_n F dX15_builds_9 rfl rfl (np := 10) rfl ?_
  refine g_iload_n F dX15_builds_10 rfl rfl (np := 11) rfl ?_
  refine g_runO F (C := RX18) (owner := "PromiseRoofs$Storey") (x := ⟨"PromiseRoofs$Storey", "swears", "(I)I"⟩) (ci := 18) (T0 := TX18) (N := 4) (n := 1) (rest := []) (ct_X15_swears_3 (logS σ [10]) b a x (by show σ.1 36 + 1 ≤ _; omega) (by exact ha)) q1246 q2048 q1195 q2055 q1195 q129 q1196 q1196 (by decide +kernel) ⟨Nat.le_of_ble_eq_true rfl, Nat.le_of_ble_eq_true rfl⟩ rfl (fun h hs => ⟨_, XH.kn hs ha⟩) rfl rfl (Nat.le_of_ble_eq_true rfl) dX15_builds_11 ⟨Nat.le_of_ble_eq_true rfl, Nat.le_of_ble_eq_true rfl⟩ (np := 14) rfl (k_RI ?_)
  refine WG.weak (S' := XH D Λ I L (logS σ ([10] ++ [1]))) (fun h hs => by rw [← logS_app]; exact hs) ?_
  refine g_iconst F (v := (nI 2)) dX15_builds_14 (by decide) (np := 15) rfl ?_
  refine g_imul F dX15_builds_15 (np := 16) rfl ?_
  have hσ : (logS σ ([10] ++ [1])) = (logS σ [10, 1]) := by rfl
  have hv : (x + nI b) * (nI (2)) = (x + nI b) * nI 2 := by rfl
  exact g_iret F hr rfl (Nat.le_of_ble_eq_true rfl) (Nat.le_of_ble_eq_true rfl) dX15_builds_16 (fun h hs => by rw [← hT]; exact ⟨congrArg (fun z => some (Value.int z)) hv, (hσ ▸ hs)⟩)

set_option maxRecDepth 100000 in
theorem ct_X15_builds_4 {l : Launch} {D : va_G} {B : Nat} {Λ : LT} {I : AH} {L : LawT} (σ : MSt) (b : Nat) (a : Nat) (x : Int32) (htr : σ.1 36 ≤ 980) (ha : I a = some (bCell (Λ.1 0 38) 4 b)) : Ct l D ZE B yX15_builds cX15_builds 2 (some .int) 3 63 0 0 [.ref (a), .int x] (XH D Λ I L σ) (RI ((x + nI b + nI 3) * nI 2) (XH D Λ I L (logS σ [10, 20, 1]))) := by
  refine Ct.of (nL := 2) (lv := [some (.ref (a)), some (.int x)]) (by decide) (Nat.le_of_ble_eq_true rfl) stZE 0 rfl ?_
  generalize hT : RI ((x + nI b + nI 3) * nI 2) (XH D Λ I L (logS σ [10, 20, 1])) = T
  intro zp ze zs zm zb zt zc F hr hnm
  generalize ([.ref (a), .int x] : List Value).toArray = za at F ⊢
  refine g_aload_n F dX15_builds_0 rfl rfl (np := 1) rfl ?_
  refine g_get F in_X19 (ref := RX15) (ci := 19) rfl 1 (by decide) q1081 (fun x hx => hx) (v := .ref (Λ.1 0 38)) (fun h hs => ⟨_, XH.kn hs ha, rfl⟩) dX15_builds_1 (np := 4) rfl ?_
  refine g_bipush F (v := (nI 10)) dX15_builds_4 (by decide) (np := 6) rfl ?_
  refine g_runVN F (C := RX0) (ci := 0) (T0 := TX0) (N := 38) (rest := []) (ct_X0_ran σ 10 (by first | assumption | omega)) ze1197 q1192 qs52 q100 q1193 hcS_X0_ran ⟨Nat.le_of_ble_eq_true rfl, Nat.le_of_ble_eq_true rfl⟩ rfl (fun h hs => hs.obj) rfl rfl (Nat.le_of_ble_eq_true rfl) dX15_builds_6 ⟨Nat.le_of_ble_eq_true rfl, Nat.le_of_ble_eq_true rfl⟩ (np := 9) rfl (k_RV ?_)
  refine g_aload_n F dX15_builds_9 rfl rfl (np := 10) rfl ?_
  refine g_iload_n F dX15_builds_10 rfl rfl (np := 11) rfl ?_
  refine g_runO F (C := RX19) (owner := "PromiseRoofs$Storey") (x := ⟨"PromiseRoofs$Storey", "swears", "(I)I"⟩) (ci := 19) (T0 := TX19) (N := 4) (n := 1) (rest := []) (ct_X16_swears_4 (logS σ [10]) b a x (by show σ.1 36 + 1 ≤ _; omega) (by exact ha)) q1246 q2048 q1195 q2056 q1187 q130 q1189 q1196 (by decide +kernel) ⟨Nat.le_of_ble_eq_true rfl, Nat.le_of_ble_eq_true rfl⟩ rfl (fun h hs => ⟨_, XH.kn hs ha⟩) rfl rfl (Nat.le_of_ble_eq_true rfl) dX15_builds_11 ⟨Nat.le_of_ble_eq_true rfl, Nat.le_of_ble_eq_true rfl⟩ (np := 14) rfl (k_RI ?_)
  refine WG.weak (S' := XH D Λ I L (logS σ ([10] ++ [20, 1]))) (fun h hs => by rw [← logS_app]; exact hs) ?_
  refine g_iconst F (v := (nI 2)) dX15_builds_14 (by decide) (np := 15) rfl ?_
  refine g_imul F dX15_builds_15 (np := 16) rfl ?_
  have hσ : (logS σ ([10] ++ [20, 1])) = (logS σ [10, 20, 1]) := by rfl
  have hv : (x + nI b + nI 3) * (nI (2)) = (x + nI b + nI 3) * nI 2 := by rfl
  exact g_iret F hr rfl (Nat.le_of_ble_eq_true rfl) (Nat.le_of_ble_eq_true rfl) dX15_builds_16 (fun h hs => by rw [← hT]; exact ⟨congrArg (fun z => some (Value.int z)) hv, (hσ ▸ hs)⟩)

set_option maxRecDepth 100000 in
theorem ct_X15_builds_5 {l : Launch} {D : va_G} {B : Nat} {Λ : LT} {I : AH} {L : LawT} (σ : MSt) (b : Nat) (a : Nat) (x : Int32) (htr : σ.1 36 ≤ 980) (ha : I a = some (bCell (Λ.1 0 38) 5 b)) : Ct l D ZE B yX15_builds cX15_builds 2 (some .int) 2 42 0 0 [.ref (a), .int x] (XH D Λ I L σ) (RI ((x + nI b) * nI 2) (XH D Λ I L (logS σ [10, 1]))) := by
  refine Ct.of (nL := 2) (lv := [some (.ref (a)), some (.int x)]) (by decide) (Nat.le_of_ble_eq_true rfl) stZE 0 rfl ?_
  generalize hT : RI ((x + nI b) * nI 2) (XH D Λ I L (logS σ [10, 1])) = T
  intro zp ze zs zm zb zt zc F hr hnm
  generalize ([.ref (a), .int x] : List Value).toArray = za at F ⊢
  refine g_aload_n F dX15_builds_0 rfl rfl (np := 1) rfl ?_
  refine g_get F in_X20 (ref := RX15) (ci := 20) rfl 1 (by decide) q1081 (fun x hx => hx) (v := .ref (Λ.1 0 38)) (fun h hs => ⟨_, XH.kn hs ha, rfl⟩) dX15_builds_1 (np := 4) rfl ?_
  refine g_bipush F (v := (nI 10)) dX15_builds_4 (by decide) (np := 6) rfl ?_
  refine g_runVN F (C := RX0) (ci := 0) (T0 := TX0) (N := 38) (rest := []) (ct_X0_ran σ 10 (by first | assumption | omega)) ze1197 q1192 qs52 q100 q1193 hcS_X0_ran ⟨Nat.le_of_ble_eq_true rfl, Nat.le_of_ble_eq_true rfl⟩ rfl (fun h hs => hs.obj) rfl rfl (Nat.le_of_ble_eq_true rfl) dX15_builds_6 ⟨Nat.le_of_ble_eq_true rfl, Nat.le_of_ble_eq_true rfl⟩ (np := 9) rfl (k_RV ?_)
  refine g_aload_n F dX15_builds_9 rfl rfl (np := 10) rfl ?_
  refine g_iload_n F dX15_builds_10 rfl rfl (np := 11) rfl ?_
  refine g_runO F (C := RX20) (owner := "PromiseRoofs$Storey") (x := ⟨"PromiseRoofs$Storey", "swears", "(I)I"⟩) (ci := 20) (T0 := TX20) (N := 5) (n := 1) (rest := []) (ct_X15_swears_5 (logS σ [10]) b a x (by show σ.1 36 + 1 ≤ _; omega) (by exact ha)) q1246 q2048 q1195 q2053 q1195 q129 q1196 q1196 (by decide +kernel) ⟨Nat.le_of_ble_eq_true rfl, Nat.le_of_ble_eq_true rfl⟩ rfl (fun h hs => ⟨_, XH.kn hs ha⟩) rfl rfl (Nat.le_of_ble_eq_true rfl) dX15_builds_11 ⟨Nat.le_of_ble_eq_true rfl, Nat.le_of_ble_eq_true rfl⟩ (np := 14) rfl (k_RI ?_)
  refine WG.weak (S' := XH D Λ I L (logS σ ([10] ++ [1]))) (fun h hs => by rw [← logS_app]; exact hs) ?_
  refine g_iconst F (v := (nI 2)) dX15_builds_14 (by decide) (np := 15) rfl ?_
  refine g_imul F dX15_builds_15 (np := 16) rfl ?_
  have hσ : (logS σ ([10] ++ [1])) = (logS σ [10, 1]) := by rfl
  have hv : (x + nI b) * (nI (2)) = (x + nI b) * nI 2 := by rfl
  exact g_iret F hr rfl (Nat.le_of_ble_eq_true rfl) (Nat.le_of_ble_eq_true rfl) dX15_builds_16 (fun h hs => by rw [← hT]; exact ⟨congrArg (fun z => some (Value.int z)) hv, (hσ ▸ hs)⟩)

set_option maxRecDepth 100000 in
theorem ct_X15_builds_6 {l : Launch} {D : va_G} {B : Nat} {Λ : LT} {I : AH} {L : LawT} (σ : MSt) (b : Nat) (a : Nat) (x : Int32) (htr : σ.1 36 ≤ 980) (ha : I a = some (bCell (Λ.1 0 38) 6 b)) : Ct l D ZE B yX15_builds cX15_builds 2 (some .int) 3 63 0 0 [.ref (a), .int x] (XH D Λ I L σ) (RI (((x + nI b) * nI 2) * nI 2) (XH D Λ I L (logS σ [10, 70, 1]))) := by
  refine Ct.of (nL := 2) (lv := [some (.ref (a)), some (.int x)]) (by decide) (Nat.le_of_ble_eq_true rfl) stZE 0 rfl ?_
  generalize hT : RI (((x + nI b) * nI 2) * nI 2) (XH D Λ I L (logS σ [10, 70, 1])) = T
  intro zp ze zs zm zb zt zc F hr hnm
  generalize ([.ref (a), .int x] : List Value).toArray = za at F ⊢
  refine g_aload_n F dX15_builds_0 rfl rfl (np := 1) rfl ?_
  refine g_get F in_X21 (ref := RX15) (ci := 21) rfl 1 (by decide) q1081 (fun x hx => hx) (v := .ref (Λ.1 0 38)) (fun h hs => ⟨_, XH.kn hs ha, rfl⟩) dX15_builds_1 (np := 4) rfl ?_
  refine g_bipush F (v := (nI 10)) dX15_builds_4 (by decide) (np := 6) rfl ?_
  refine g_runVN F (C := RX0) (ci := 0) (T0 := TX0) (N := 38) (rest := []) (ct_X0_ran σ 10 (by first | assumption | omega)) ze1197 q1192 qs52 q100 q1193 hcS_X0_ran ⟨Nat.le_of_ble_eq_true rfl, Nat.le_of_ble_eq_true rfl⟩ rfl (fun h hs => hs.obj) rfl rfl (Nat.le_of_ble_eq_true rfl) dX15_builds_6 ⟨Nat.le_of_ble_eq_true rfl, Nat.le_of_ble_eq_true rfl⟩ (np := 9) rfl (k_RV ?_)
  refine g_aload_n F dX15_builds_9 rfl rfl (np := 10) rfl ?_
  refine g_iload_n F dX15_builds_10 rfl rfl (np := 11) rfl ?_
  refine g_runO F (C := RX21) (owner := "PromiseRoofs$Storey") (x := ⟨"PromiseRoofs$Storey", "swears", "(I)I"⟩) (ci := 21) (T0 := TX21) (N := 3) (n := 1) (rest := []) (ct_X21_swears_6 (logS σ [10]) b a x (by show σ.1 36 + 1 ≤ _; omega) (by exact ha)) q1246 q2048 q1195 q2051 q1205 q135 q1207 q1196 (by decide +kernel) ⟨Nat.le_of_ble_eq_true rfl, Nat.le_of_ble_eq_true rfl⟩ rfl (fun h hs => ⟨_, XH.kn hs ha⟩) rfl rfl (Nat.le_of_ble_eq_true rfl) dX15_builds_11 ⟨Nat.le_of_ble_eq_true rfl, Nat.le_of_ble_eq_true rfl⟩ (np := 14) rfl (k_RI ?_)
  refine WG.weak (S' := XH D Λ I L (logS σ ([10] ++ [70, 1]))) (fun h hs => by rw [← logS_app]; exact hs) ?_
  refine g_iconst F (v := (nI 2)) dX15_builds_14 (by decide) (np := 15) rfl ?_
  refine g_imul F dX15_builds_15 (np := 16) rfl ?_
  have hσ : (logS σ ([10] ++ [70, 1])) = (logS σ [10, 70, 1]) := by rfl
  have hv : ((x + nI b) * nI 2) * (nI (2)) = ((x + nI b) * nI 2) * nI 2 := by rfl
  exact g_iret F hr rfl (Nat.le_of_ble_eq_true rfl) (Nat.le_of_ble_eq_true rfl) dX15_builds_16 (fun h hs => by rw [← hT]; exact ⟨congrArg (fun z => some (Value.int z)) hv, (hσ ▸ hs)⟩)

set_option maxRecDepth 100000 in
theorem ct_X15_builds_7 {l : Launch} {D : va_G} {B : Nat} {Λ : LT} {I : AH} {L : LawT} (σ : MSt) (b : Nat) (a : Nat) (x : Int32) (htr : σ.1 36 ≤ 980) (ha : I a = some (bCell (Λ.1 0 38) 7 b)) : Ct l D ZE B yX15_builds cX15_builds 2 (some .int) 3 63 0 0 [.ref (a), .int x] (XH D Λ I L σ) (RI ((x + nI b + nI 3) * nI 2) (XH D Λ I L (logS σ [10, 20, 1]))) := by
  refine Ct.of (nL := 2) (lv := [some (.ref (a)), some (.int x)]) (by decide) (Nat.le_of_ble_eq_true rfl) stZE 0 rfl ?_
  generalize hT : RI ((x + nI b + nI 3) * nI 2) (XH D Λ I L (logS σ [10, 20, 1])) = T
  intro zp ze zs zm zb zt zc F hr hnm
  generalize ([.ref (a), .int x] : List Value).toArray = za at F ⊢
  refine g_aload_n F dX15_builds_0 rfl rfl (np := 1) rfl ?_
  refine g_get F in_X22 (ref := RX15) (ci := 22) rfl 1 (by decide) q1081 (fun x hx => hx) (v := .ref (Λ.1 0 38)) (fun h hs => ⟨_, XH.kn hs ha, rfl⟩) dX15_builds_1 (np := 4) rfl ?_
  refine g_bipush F (v := (nI 10)) dX15_builds_4 (by decide) (np := 6) rfl ?_
  refine g_runVN F (C := RX0) (ci := 0) (T0 := TX0) (N := 38) (rest := []) (ct_X0_ran σ 10 (by first | assumption | omega)) ze1197 q1192 qs52 q100 q1193 hcS_X0_ran ⟨Nat.le_of_ble_eq_true rfl, Nat.le_of_ble_eq_true rfl⟩ rfl (fun h hs => hs.obj) rfl rfl (Nat.le_of_ble_eq_true rfl) dX15_builds_6 ⟨Nat.le_of_ble_eq_true rfl, Nat.le_of_ble_eq_true rfl⟩ (np := 9) rfl (k_RV ?_)
  refine g_aload_n F dX15_builds_9 rfl rfl (np := 10) rfl ?_
  refine g_iload_n F dX15_builds_10 rfl rfl (np := 11) rfl ?_
  refine g_runO F (C := RX22) (owner := "PromiseRoofs$Storey") (x := ⟨"PromiseRoofs$Storey", "swears", "(I)I"⟩) (ci := 22) (T0 := TX22) (N := 5) (n := 1) (rest := []) (ct_X16_swears_7 (logS σ [10]) b a x (by show σ.1 36 + 1 ≤ _; omega) (by exact ha)) q1246 q2048 q1195 q2052 q1187 q130 q1189 q1196 (by decide +kernel) ⟨Nat.le_of_ble_eq_true rfl, Nat.le_of_ble_eq_true rfl⟩ rfl (fun h hs => ⟨_, XH.kn hs ha⟩) rfl rfl (Nat.le_of_ble_eq_true rfl) dX15_builds_11 ⟨Nat.le_of_ble_eq_true rfl, Nat.le_of_ble_eq_true rfl⟩ (np := 14) rfl (k_RI ?_)
  refine WG.weak (S' := XH D Λ I L (logS σ ([10] ++ [20, 1]))) (fun h hs => by rw [← logS_app]; exact hs) ?_
  refine g_iconst F (v := (nI 2)) dX15_builds_14 (by decide) (np := 15) rfl ?_
  refine g_imul F dX15_builds_15 (np := 16) rfl ?_
  have hσ : (logS σ ([10] ++ [20, 1])) = (logS σ [10, 20, 1]) := by rfl
  have hv : (x + nI b + nI 3) * (nI (2)) = (x + nI b + nI 3) * nI 2 := by rfl
  exact g_iret F hr rfl (Nat.le_of_ble_eq_true rfl) (Nat.le_of_ble_eq_true rfl) dX15_builds_16 (fun h hs => by rw [← hT]; exact ⟨congrArg (fun z => some (Value.int z)) hv, (hσ ▸ hs)⟩)

set_option maxRecDepth 100000 in
theorem ct_X17_builds_2 {l : Launch} {D : va_G} {B : Nat} {Λ : LT} {I : AH} {L : LawT} (σ : MSt) (b : Nat) (a : Nat) (x : Int32) (htr : σ.1 36 ≤ 970) (ha : I a = some (bCell (Λ.1 0 38) 2 b)) : Ct l D ZE B yX17_builds cX17_builds 2 (some .int) 3 63 0 0 [.ref (a), .int x] (XH D Λ I L σ) (RI (-((x + nI b) * nI 2)) (XH D Λ I L (logS σ [30, 10, 1]))) := by
  refine Ct.of (nL := 2) (lv := [some (.ref (a)), some (.int x)]) (by decide) (Nat.le_of_ble_eq_true rfl) stZE 0 rfl ?_
  generalize hT : RI (-((x + nI b) * nI 2)) (XH D Λ I L (logS σ [30, 10, 1])) = T
  intro zp ze zs zm zb zt zc F hr hnm
  generalize ([.ref (a), .int x] : List Value).toArray = za at F ⊢
  refine g_aload_n F dX17_builds_0 rfl rfl (np := 1) rfl ?_
  refine g_getL F in_X17 (ci := 17) rfl 2 (by decide) rfl (Or.inl q1095) (v := .ref (Λ.1 0 38)) (fun h hs => ⟨_, XH.kn hs ha, rfl⟩) dX17_builds_1 (np := 4) rfl ?_
  refine g_bipush F (v := (nI 30)) dX17_builds_4 (by decide) (np := 6) rfl ?_
  refine g_runVN F (C := RX0) (ci := 0) (T0 := TX0) (N := 38) (rest := []) (ct_X0_ran σ 30 (by first | assumption | omega)) ze1243 q1192 qs52 q100 q1193 hcS_X0_ran ⟨Nat.le_of_ble_eq_true rfl, Nat.le_of_ble_eq_true rfl⟩ rfl (fun h hs => hs.obj) rfl rfl (Nat.le_of_ble_eq_true rfl) dX17_builds_6 ⟨Nat.le_of_ble_eq_true rfl, Nat.le_of_ble_eq_true rfl⟩ (np := 9) rfl (k_RV ?_)
  refine g_aload_n F dX17_builds_9 rfl rfl (np := 10) rfl ?_
  refine g_iload_n F dX17_builds_10 rfl rfl (np := 11) rfl ?_
  refine g_runSU F (C := RX17) (owner := "PromiseRoofs$Storey") (ch := []) (x := ⟨"PromiseRoofs$Storey", "builds", "(I)I"⟩) (ci := 17) (T0 := TX17) (N := 3) (n := 1) (rest := []) (ct_X15_builds_2 (logS σ [30]) b a x (by show σ.1 36 + 1 ≤ _; omega) (by exact ha)) q1244 q1238 q1100 q1236 q129 q1245 rfl (by decide) (by decide +kernel) ⟨Nat.le_of_ble_eq_true rfl, Nat.le_of_ble_eq_true rfl⟩ rfl (fun h hs => ⟨_, XH.kn hs ha⟩) rfl rfl (Nat.le_of_ble_eq_true rfl) dX17_builds_11 ⟨Nat.le_of_ble_eq_true rfl, Nat.le_of_ble_eq_true rfl⟩ (np := 14) rfl (k_RI ?_)
  refine WG.weak (S' := XH D Λ I L (logS σ ([30] ++ [10, 1]))) (fun h hs => by rw [← logS_app]; exact hs) ?_
  refine g_ineg F dX17_builds_14 (np := 15) rfl ?_
  have hσ : (logS σ ([30] ++ [10, 1])) = (logS σ [30, 10, 1]) := by rfl
  have hv : -((x + nI b) * nI 2) = -((x + nI b) * nI 2) := by rfl
  exact g_iret F hr rfl (Nat.le_of_ble_eq_true rfl) (Nat.le_of_ble_eq_true rfl) dX17_builds_15 (fun h hs => by rw [← hT]; exact ⟨congrArg (fun z => some (Value.int z)) hv, (hσ ▸ hs)⟩)

set_option maxRecDepth 100000 in
theorem ct_X17_builds_3 {l : Launch} {D : va_G} {B : Nat} {Λ : LT} {I : AH} {L : LawT} (σ : MSt) (b : Nat) (a : Nat) (x : Int32) (htr : σ.1 36 ≤ 970) (ha : I a = some (bCell (Λ.1 0 38) 3 b)) : Ct l D ZE B yX17_builds cX17_builds 2 (some .int) 3 63 0 0 [.ref (a), .int x] (XH D Λ I L σ) (RI (-((x + nI b) * nI 2)) (XH D Λ I L (logS σ [30, 10, 1]))) := by
  refine Ct.of (nL := 2) (lv := [some (.ref (a)), some (.int x)]) (by decide) (Nat.le_of_ble_eq_true rfl) stZE 0 rfl ?_
  generalize hT : RI (-((x + nI b) * nI 2)) (XH D Λ I L (logS σ [30, 10, 1])) = T
  intro zp ze zs zm zb zt zc F hr hnm
  generalize ([.ref (a), .int x] : List Value).toArray = za at F ⊢
  refine g_aload_n F dX17_builds_0 rfl rfl (np := 1) rfl ?_
  refine g_get F in_X18 (ref := RX17) (ci := 18) rfl 2 (by decide) q1095 (fun x hx => hx) (v := .ref (Λ.1 0 38)) (fun h hs => ⟨_, XH.kn hs ha, rfl⟩) dX17_builds_1 (np := 4) rfl ?_
  refine g_bipush F (v := (nI 30)) dX17_builds_4 (by decide) (np := 6) rfl ?_
  refine g_runVN F (C := RX0) (ci := 0) (T0 := TX0) (N := 38) (rest := []) (ct_X0_ran σ 30 (by first | assumption | omega)) ze1243 q1192 qs52 q100 q1193 hcS_X0_ran ⟨Nat.le_of_ble_eq_true rfl, Nat.le_of_ble_eq_true rfl⟩ rfl (fun h hs => hs.obj) rfl rfl (Nat.le_of_ble_eq_true rfl) dX17_builds_6 ⟨Nat.le_of_ble_eq_true rfl, Nat.le_of_ble_eq_true rfl⟩ (np := 9) rfl (k_RV ?_)
  refine g_aload_n F dX17_builds_9 rfl rfl (np := 10) rfl ?_
  refine g_iload_n F dX17_builds_10 rfl rfl (np := 11) rfl ?_
  refine g_runSU F (C := RX18) (owner := "PromiseRoofs$Storey") (ch := []) (x := ⟨"PromiseRoofs$Storey", "builds", "(I)I"⟩) (ci := 18) (T0 := TX18) (N := 4) (n := 1) (rest := []) (ct_X15_builds_3 (logS σ [30]) b a x (by show σ.1 36 + 1 ≤ _; omega) (by exact ha)) q1244 q1238 q1100 q1236 q129 q1245 rfl (by decide) (by decide +kernel) ⟨Nat.le_of_ble_eq_true rfl, Nat.le_of_ble_eq_true rfl⟩ rfl (fun h hs => ⟨_, XH.kn hs ha⟩) rfl rfl (Nat.le_of_ble_eq_true rfl) dX17_builds_11 ⟨Nat.le_of_ble_eq_true rfl, Nat.le_of_ble_eq_true rfl⟩ (np := 14) rfl (k_RI ?_)
  refine WG.weak (S' := XH D Λ I L (logS σ ([30] ++ [10, 1]))) (fun h hs => by rw [← logS_app]; exact hs) ?_
  refine g_ineg F dX17_builds_14 (np := 15) rfl ?_
  have hσ : (logS σ ([30] ++ [10, 1])) = (logS σ [30, 10, 1]) := by rfl
  have hv : -((x + nI b) * nI 2) = -((x + nI b) * nI 2) := by rfl
  exact g_iret F hr rfl (Nat.le_of_ble_eq_true rfl) (Nat.le_of_ble_eq_true rfl) dX17_builds_15 (fun h hs => by rw [← hT]; exact ⟨congrArg (fun z => some (Value.int z)) hv, (hσ ▸ hs)⟩)

set_option maxRecDepth 100000 in
theorem ct_X17_builds_5 {l : Launch} {D : va_G} {B : Nat} {Λ : LT} {I : AH} {L : LawT} (σ : MSt) (b : Nat) (a : Nat) (x : Int32) (htr : σ.1 36 ≤ 970) (ha : I a = some (bCell (Λ.1 0 38) 5 b)) : Ct l D ZE B yX17_builds cX17_builds 2 (some .int) 3 63 0 0 [.ref (a), .int x] (XH D Λ I L σ) (RI (-((x + nI b) * nI 2)) (XH D Λ I L (logS σ [30, 10, 1]))) := by
  refine Ct.of (nL := 2) (lv := [some (.ref (a)), some (.int x)]) (by decide) (Nat.le_of_ble_eq_true rfl) stZE 0 rfl ?_
  generalize hT : RI (-((x + nI b) * nI 2)) (XH D Λ I L (logS σ [30, 10, 1])) = T
  intro zp ze zs zm zb zt zc F hr hnm
  generalize ([.ref (a), .int x] : List Value).toArray = za at F ⊢
  refine g_aload_n F dX17_builds_0 rfl rfl (np := 1) rfl ?_
  refine g_get F in_X20 (ref := RX17) (ci := 20) rfl 2 (by decide) q1095 (fun x hx => hx) (v := .ref (Λ.1 0 38)) (fun h hs => ⟨_, XH.kn hs ha, rfl⟩) dX17_builds_1 (np := 4) rfl ?_
  refine g_bipush F (v := (nI 30)) dX17_builds_4 (by decide) (np := 6) rfl ?_
  refine g_runVN F (C := RX0) (ci := 0) (T0 := TX0) (N := 38) (rest := []) (ct_X0_ran σ 30 (by first | assumption | omega)) ze1243 q1192 qs52 q100 q1193 hcS_X0_ran ⟨Nat.le_of_ble_eq_true rfl, Nat.le_of_ble_eq_true rfl⟩ rfl (fun h hs => hs.obj) rfl rfl (Nat.le_of_ble_eq_true rfl) dX17_builds_6 ⟨Nat.le_of_ble_eq_true rfl, Nat.le_of_ble_eq_true rfl⟩ (np := 9) rfl (k_RV ?_)
  refine g_aload_n F dX17_builds_9 rfl rfl (np := 10) rfl ?_
  refine g_iload_n F dX17_builds_10 rfl rfl (np := 11) rfl ?_
  refine g_runSU F (C := RX20) (owner := "PromiseRoofs$Storey") (ch := []) (x := ⟨"PromiseRoofs$Storey", "builds", "(I)I"⟩) (ci := 20) (T0 := TX20) (N := 5) (n := 1) (rest := []) (ct_X15_builds_5 (logS σ [30]) b a x (by show σ.1 36 + 1 ≤ _; omega) (by exact ha)) q1244 q1238 q1100 q1236 q129 q1245 rfl (by decide) (by decide +kernel) ⟨Nat.le_of_ble_eq_true rfl, Nat.le_of_ble_eq_true rfl⟩ rfl (fun h hs => ⟨_, XH.kn hs ha⟩) rfl rfl (Nat.le_of_ble_eq_true rfl) dX17_builds_11 ⟨Nat.le_of_ble_eq_true rfl, Nat.le_of_ble_eq_true rfl⟩ (np := 14) rfl (k_RI ?_)
  refine WG.weak (S' := XH D Λ I L (logS σ ([30] ++ [10, 1]))) (fun h hs => by rw [← logS_app]; exact hs) ?_
  refine g_ineg F dX17_builds_14 (np := 15) rfl ?_
  have hσ : (logS σ ([30] ++ [10, 1])) = (logS σ [30, 10, 1]) := by rfl
  have hv : -((x + nI b) * nI 2) = -((x + nI b) * nI 2) := by rfl
  exact g_iret F hr rfl (Nat.le_of_ble_eq_true rfl) (Nat.le_of_ble_eq_true rfl) dX17_builds_15 (fun h hs => by rw [← hT]; exact ⟨congrArg (fun z => some (Value.int z)) hv, (hσ ▸ hs)⟩)

set_option maxRecDepth 100000 in
theorem ct_X18_builds_3 {l : Launch} {D : va_G} {B : Nat} {Λ : LT} {I : AH} {L : LawT} (σ : MSt) (b : Nat) (a : Nat) (x : Int32) (htr : σ.1 36 ≤ 960) (ha : I a = some (bCell (Λ.1 0 38) 3 b)) : Ct l D ZE B yX18_builds cX18_builds 2 (some .int) 4 84 0 0 [.ref (a), .int x] (XH D Λ I L σ) (RI (-(((x + nI 1) + nI b) * nI 2)) (XH D Λ I L (logS σ [41, 30, 10, 1]))) := by
  refine Ct.of (nL := 2) (lv := [some (.ref (a)), some (.int x)]) (by decide) (Nat.le_of_ble_eq_true rfl) stZE 0 rfl ?_
  generalize hT : RI (-(((x + nI 1) + nI b) * nI 2)) (XH D Λ I L (logS σ [41, 30, 10, 1])) = T
  intro zp ze zs zm zb zt zc F hr hnm
  generalize ([.ref (a), .int x] : List Value).toArray = za at F ⊢
  refine g_aload_n F dX18_builds_0 rfl rfl (np := 1) rfl ?_
  refine g_getL F in_X18 (ci := 18) rfl 3 (by decide) rfl (Or.inl q1107) (v := .ref (Λ.1 0 38)) (fun h hs => ⟨_, XH.kn hs ha, rfl⟩) dX18_builds_1 (np := 4) rfl ?_
  refine g_bipush F (v := (nI 41)) dX18_builds_4 (by decide) (np := 6) rfl ?_
  refine g_runVN F (C := RX0) (ci := 0) (T0 := TX0) (N := 38) (rest := []) (ct_X0_ran σ 41 (by first | assumption | omega)) ze1275 q1192 qs52 q100 q1193 hcS_X0_ran ⟨Nat.le_of_ble_eq_true rfl, Nat.le_of_ble_eq_true rfl⟩ rfl (fun h hs => hs.obj) rfl rfl (Nat.le_of_ble_eq_true rfl) dX18_builds_6 ⟨Nat.le_of_ble_eq_true rfl, Nat.le_of_ble_eq_true rfl⟩ (np := 9) rfl (k_RV ?_)
  refine g_aload_n F dX18_builds_9 rfl rfl (np := 10) rfl ?_
  refine g_iload_n F dX18_builds_10 rfl rfl (np := 11) rfl ?_
  refine g_iconst F (v := (nI 1)) dX18_builds_11 (by decide) (np := 12) rfl ?_
  refine g_iadd F dX18_builds_12 (np := 13) rfl ?_
  refine g_runSU F (C := RX18) (owner := "PromiseRoofs$Cellar") (ch := []) (x := ⟨"PromiseRoofs$Cellar", "builds", "(I)I"⟩) (ci := 18) (T0 := TX18) (N := 4) (n := 1) (rest := []) (ct_X17_builds_3 (logS σ [41]) b a (x + (nI (1))) (by show σ.1 36 + 1 ≤ _; omega) (by exact ha)) q1276 q2057 q1113 q1241 q131 q1242 rfl (by decide) (by decide +kernel) ⟨Nat.le_of_ble_eq_true rfl, Nat.le_of_ble_eq_true rfl⟩ rfl (fun h hs => ⟨_, XH.kn hs ha⟩) rfl rfl (Nat.le_of_ble_eq_true rfl) dX18_builds_13 ⟨Nat.le_of_ble_eq_true rfl, Nat.le_of_ble_eq_true rfl⟩ (np := 16) rfl (k_RI ?_)
  refine WG.weak (S' := XH D Λ I L (logS σ ([41] ++ [30, 10, 1]))) (fun h hs => by rw [← logS_app]; exact hs) ?_
  have hσ : (logS σ ([41] ++ [30, 10, 1])) = (logS σ [41, 30, 10, 1]) := by rfl
  have hv : -(((x + (nI (1))) + nI b) * nI 2) = -(((x + nI 1) + nI b) * nI 2) := by rfl
  exact g_iret F hr rfl (Nat.le_of_ble_eq_true rfl) (Nat.le_of_ble_eq_true rfl) dX18_builds_16 (fun h hs => by rw [← hT]; exact ⟨congrArg (fun z => some (Value.int z)) hv, (hσ ▸ hs)⟩)

set_option maxRecDepth 100000 in
theorem ct_X18_builds_5 {l : Launch} {D : va_G} {B : Nat} {Λ : LT} {I : AH} {L : LawT} (σ : MSt) (b : Nat) (a : Nat) (x : Int32) (htr : σ.1 36 ≤ 960) (ha : I a = some (bCell (Λ.1 0 38) 5 b)) : Ct l D ZE B yX18_builds cX18_builds 2 (some .int) 4 84 0 0 [.ref (a), .int x] (XH D Λ I L σ) (RI (-(((x + nI 1) + nI b) * nI 2)) (XH D Λ I L (logS σ [41, 30, 10, 1]))) := by
  refine Ct.of (nL := 2) (lv := [some (.ref (a)), some (.int x)]) (by decide) (Nat.le_of_ble_eq_true rfl) stZE 0 rfl ?_
  generalize hT : RI (-(((x + nI 1) + nI b) * nI 2)) (XH D Λ I L (logS σ [41, 30, 10, 1])) = T
  intro zp ze zs zm zb zt zc F hr hnm
  generalize ([.ref (a), .int x] : List Value).toArray = za at F ⊢
  refine g_aload_n F dX18_builds_0 rfl rfl (np := 1) rfl ?_
  refine g_get F in_X20 (ref := RX18) (ci := 20) rfl 3 (by decide) q1107 (fun x hx => hx) (v := .ref (Λ.1 0 38)) (fun h hs => ⟨_, XH.kn hs ha, rfl⟩) dX18_builds_1 (np := 4) rfl ?_
  refine g_bipush F (v := (nI 41)) dX18_builds_4 (by decide) (np := 6) rfl ?_
  refine g_runVN F (C := RX0) (ci := 0) (T0 := TX0) (N := 38) (rest := []) (ct_X0_ran σ 41 (by first | assumption | omega)) ze1275 q1192 qs52 q100 q1193 hcS_X0_ran ⟨Nat.le_of_ble_eq_true rfl, Nat.le_of_ble_eq_true rfl⟩ rfl (fun h hs => hs.obj) rfl rfl (Nat.le_of_ble_eq_true rfl) dX18_builds_6 ⟨Nat.le_of_ble_eq_true rfl, Nat.le_of_ble_eq_true rfl⟩ (np := 9) rfl (k_RV ?_)
  refine g_aload_n F dX18_builds_9 rfl rfl (np := 10) rfl ?_
  refine g_iload_n F dX18_builds_10 rfl rfl (np := 11) rfl ?_
  refine g_iconst F (v := (nI 1)) dX18_builds_11 (by decide) (np := 12) rfl ?_
  refine g_iadd F dX18_builds_12 (np := 13) rfl ?_
  refine g_runSU F (C := RX20) (owner := "PromiseRoofs$Cellar") (ch := []) (x := ⟨"PromiseRoofs$Cellar", "builds", "(I)I"⟩) (ci := 20) (T0 := TX20) (N := 5) (n := 1) (rest := []) (ct_X17_builds_5 (logS σ [41]) b a (x + (nI (1))) (by show σ.1 36 + 1 ≤ _; omega) (by exact ha)) q1276 q2057 q1113 q1241 q131 q1242 rfl (by decide) (by decide +kernel) ⟨Nat.le_of_ble_eq_true rfl, Nat.le_of_ble_eq_true rfl⟩ rfl (fun h hs => ⟨_, XH.kn hs ha⟩) rfl rfl (Nat.le_of_ble_eq_true rfl) dX18_builds_13 ⟨Nat.le_of_ble_eq_true rfl, Nat.le_of_ble_eq_true rfl⟩ (np := 16) rfl (k_RI ?_)
  refine WG.weak (S' := XH D Λ I L (logS σ ([41] ++ [30, 10, 1]))) (fun h hs => by rw [← logS_app]; exact hs) ?_
  have hσ : (logS σ ([41] ++ [30, 10, 1])) = (logS σ [41, 30, 10, 1]) := by rfl
  have hv : -(((x + (nI (1))) + nI b) * nI 2) = -(((x + nI 1) + nI b) * nI 2) := by rfl
  exact g_iret F hr rfl (Nat.le_of_ble_eq_true rfl) (Nat.le_of_ble_eq_true rfl) dX18_builds_16 (fun h hs => by rw [← hT]; exact ⟨congrArg (fun z => some (Value.int z)) hv, (hσ ▸ hs)⟩)

set_option maxRecDepth 100000 in
theorem ct_X22_builds_7 {l : Launch} {D : va_G} {B : Nat} {Λ : LT} {I : AH} {L : LawT} (σ : MSt) (b : Nat) (a : Nat) (x : Int32) (htr : σ.1 36 ≤ 960) (ha : I a = some (bCell (Λ.1 0 38) 7 b)) : Ct l D ZE B yX22_builds cX22_builds 3 (some .int) 4 85 0 0 [.ref (a), .int x] (XH D Λ I L σ) (RI (((x + nI b + nI 3) * nI 2) + ((nI 2 ^^^ nI b) - (nI 2 + nI b + nI 3))) (XH D Λ I L (logS σ [80, 10, 20, 1, 50, 11, 20, 1]))) := by
  refine Ct.of (nL := 3) (lv := [some (.ref (a)), some (.int x), none]) (by decide) (Nat.le_of_ble_eq_true rfl) stZE 1 rfl ?_
  generalize hT : RI (((x + nI b + nI 3) * nI 2) + ((nI 2 ^^^ nI b) - (nI 2 + nI b + nI 3))) (XH D Λ I L (logS σ [80, 10, 20, 1, 50, 11, 20, 1])) = T
  intro zp ze zs zm zb zt zc F hr hnm
  generalize ([.ref (a), .int x] : List Value).toArray = za at F ⊢
  refine g_aload_n F dX22_builds_0 rfl rfl (np := 1) rfl ?_
  refine g_getL F in_X22 (ci := 22) rfl 4 (by decide) rfl (Or.inl q1159) (v := .ref (Λ.1 0 38)) (fun h hs => ⟨_, XH.kn hs ha, rfl⟩) dX22_builds_1 (np := 4) rfl ?_
  refine g_bipush F (v := (nI 80)) dX22_builds_4 (by decide) (np := 6) rfl ?_
  refine g_runVN F (C := RX0) (ci := 0) (T0 := TX0) (N := 38) (rest := []) (ct_X0_ran σ 80 (by first | assumption | omega)) ze1251 q1192 qs52 q100 q1193 hcS_X0_ran ⟨Nat.le_of_ble_eq_true rfl, Nat.le_of_ble_eq_true rfl⟩ rfl (fun h hs => hs.obj) rfl rfl (Nat.le_of_ble_eq_true rfl) dX22_builds_6 ⟨Nat.le_of_ble_eq_true rfl, Nat.le_of_ble_eq_true rfl⟩ (np := 9) rfl (k_RV ?_)
  refine g_aload_n F dX22_builds_9 rfl rfl (np := 10) rfl ?_
  refine g_iload_n F dX22_builds_10 rfl rfl (np := 11) rfl ?_
  refine g_runSU F (C := RX22) (owner := "PromiseRoofs$Storey") (ch := ["PromiseRoofs$Attic", "PromiseRoofs$Storey"]) (x := ⟨"PromiseRoofs$Widow", "builds", "(I)I"⟩) (ci := 22) (T0 := TX22) (N := 5) (n := 1) (rest := []) (ct_X15_builds_7 (logS σ [80]) b a x (by show σ.1 36 + 1 ≤ _; omega) (by exact ha)) q1252 q1253 q1166 q1236 q129 q1245 ⟨q1126, ⟨q1088, rfl⟩⟩ (by decide) (by decide +kernel) ⟨Nat.le_of_ble_eq_true rfl, Nat.le_of_ble_eq_true rfl⟩ rfl (fun h hs => ⟨_, XH.kn hs ha⟩) rfl rfl (Nat.le_of_ble_eq_true rfl) dX22_builds_11 ⟨Nat.le_of_ble_eq_true rfl, Nat.le_of_ble_eq_true rfl⟩ (np := 14) rfl (k_RI ?_)
  refine WG.weak (S' := XH D Λ I L (logS σ ([80] ++ [10, 20, 1]))) (fun h hs => by rw [← logS_app]; exact hs) ?_
  refine g_istore_n F (lv' := [some (.ref (a)), some (.int x), some (.int ((x + nI b + nI 3) * nI 2))]) dX22_builds_14 rfl (by decide) rfl rfl (np := 15) rfl ?_
  refine g_iload_n F dX22_builds_15 rfl rfl (np := 16) rfl ?_
  refine g_aload_n F dX22_builds_16 rfl rfl (np := 17) rfl ?_
  refine g_iconst F (v := (nI 2)) dX22_builds_17 (by decide) (np := 18) rfl ?_
  refine g_runO F (C := RX22) (owner := "PromiseRoofs$Widow") (x := ⟨"PromiseRoofs$Potter", "comesDown", "(I)I"⟩) (ci := 22) (T0 := TX22) (N := 5) (n := 1) (rest := [.int ((x + nI b + nI 3) * nI 2)]) (ct_X19_comesDown_7 (logS σ ([80] ++ [10, 20, 1])) b a (nI (2)) (by show σ.1 36 + 4 ≤ _; omega) (by exact ha)) q1255 q1256 q1259 q1258 q1259 q133 q1260 q1260 (by decide +kernel) ⟨Nat.le_of_ble_eq_true rfl, Nat.le_of_ble_eq_true rfl⟩ rfl (fun h hs => ⟨_, XH.kn hs ha⟩) rfl rfl (Nat.le_of_ble_eq_true rfl) dX22_builds_18 ⟨Nat.le_of_ble_eq_true rfl, Nat.le_of_ble_eq_true rfl⟩ (np := 21) rfl (k_RI ?_)
  refine WG.weak (S' := XH D Λ I L (logS σ (([80] ++ [10, 20, 1]) ++ [50, 11, 20, 1]))) (fun h hs => by rw [← logS_app]; exact hs) ?_
  refine g_iadd F dX22_builds_21 (np := 22) rfl ?_
  have hσ : (logS σ (([80] ++ [10, 20, 1]) ++ [50, 11, 20, 1])) = (logS σ [80, 10, 20, 1, 50, 11, 20, 1]) := by rfl
  have hv : ((x + nI b + nI 3) * nI 2) + (((nI (2)) ^^^ nI b) - (nI 2 + nI b + nI 3)) = ((x + nI b + nI 3) * nI 2) + ((nI 2 ^^^ nI b) - (nI 2 + nI b + nI 3)) := by rfl
  exact g_iret F hr rfl (Nat.le_of_ble_eq_true rfl) (Nat.le_of_ble_eq_true rfl) dX22_builds_22 (fun h hs => by rw [← hT]; exact ⟨congrArg (fun z => some (Value.int z)) hv, (hσ ▸ hs)⟩)

set_option maxRecDepth 100000 in
theorem ct_X15_tells_0 {l : Launch} {D : va_G} {B : Nat} {Λ : LT} {I : AH} {L : LawT} (σ : MSt) (b : Nat) (a : Nat) (x : Int32) (htr : σ.1 36 ≤ 940) (ha : I a = some (bCell (Λ.1 0 38) 0 b)) : Ct l D ZE B yX15_tells cX15_tells 3 (some .int) 3 63 0 0 [.ref (a), .int x] (XH D Λ I L σ) (RI (((x + nI b) * nI 2) - (nI 1 ^^^ nI b)) (XH D Λ I L (logS σ [2, 10, 1, 11]))) := by
  refine Ct.of (nL := 3) (lv := [some (.ref (a)), some (.int x), none]) (by decide) (Nat.le_of_ble_eq_true rfl) stZE 1 rfl ?_
  generalize hT : RI (((x + nI b) * nI 2) - (nI 1 ^^^ nI b)) (XH D Λ I L (logS σ [2, 10, 1, 11])) = T
  intro zp ze zs zm zb zt zc F hr hnm
  generalize ([.ref (a), .int x] : List Value).toArray = za at F ⊢
  refine g_aload_n F dX15_tells_0 rfl rfl (np := 1) rfl ?_
  refine g_getL F in_X15 (ci := 15) rfl 1 (by decide) rfl (Or.inl q1081) (v := .ref (Λ.1 0 38)) (fun h hs => ⟨_, XH.kn hs ha, rfl⟩) dX15_tells_1 (np := 4) rfl ?_
  refine g_iconst F (v := (nI 2)) dX15_tells_4 (by decide) (np := 5) rfl ?_
  refine g_runVN F (C := RX0) (ci := 0) (T0 := TX0) (N := 38) (rest := []) (ct_X0_ran σ 2 (by first | assumption | omega)) ze1197 q1192 qs52 q100 q1193 hcS_X0_ran ⟨Nat.le_of_ble_eq_true rfl, Nat.le_of_ble_eq_true rfl⟩ rfl (fun h hs => hs.obj) rfl rfl (Nat.le_of_ble_eq_true rfl) dX15_tells_5 ⟨Nat.le_of_ble_eq_true rfl, Nat.le_of_ble_eq_true rfl⟩ (np := 8) rfl (k_RV ?_)
  refine g_aload_n F dX15_tells_8 rfl rfl (np := 9) rfl ?_
  refine g_iload_n F dX15_tells_9 rfl rfl (np := 10) rfl ?_
  refine g_runO F (C := RX15) (owner := "PromiseRoofs$Storey") (x := ⟨"PromiseRoofs$Storey", "builds", "(I)I"⟩) (ci := 15) (T0 := TX15) (N := 2) (n := 1) (rest := []) (ct_X15_builds_0 (logS σ [2]) b a x (by show σ.1 36 + 1 ≤ _; omega) (by exact ha)) q1235 q1238 q1236 q1237 q1236 q129 q1245 q1245 (by decide +kernel) ⟨Nat.le_of_ble_eq_true rfl, Nat.le_of_ble_eq_true rfl⟩ rfl (fun h hs => ⟨_, XH.kn hs ha⟩) rfl rfl (Nat.le_of_ble_eq_true rfl) dX15_tells_10 ⟨Nat.le_of_ble_eq_true rfl, Nat.le_of_ble_eq_true rfl⟩ (np := 13) rfl (k_RI ?_)
  refine WG.weak (S' := XH D Λ I L (logS σ ([2] ++ [10, 1]))) (fun h hs => by rw [← logS_app]; exact hs) ?_
  refine g_istore_n F (lv' := [some (.ref (a)), some (.int x), some (.int ((x + nI b) * nI 2))]) dX15_tells_13 rfl (by decide) rfl rfl (np := 14) rfl ?_
  refine g_iload_n F dX15_tells_14 rfl rfl (np := 15) rfl ?_
  refine g_aload_n F dX15_tells_15 rfl rfl (np := 16) rfl ?_
  refine g_iconst F (v := (nI 1)) dX15_tells_16 (by decide) (np := 17) rfl ?_
  refine g_runO F (C := RX15) (owner := "PromiseRoofs$Storey") (x := ⟨"PromiseRoofs$Storey", "comesDown", "(I)I"⟩) (ci := 15) (T0 := TX15) (N := 2) (n := 1) (rest := [.int ((x + nI b) * nI 2)]) (ct_X15_comesDown_0 (logS σ ([2] ++ [10, 1])) b a (nI (1)) (by show σ.1 36 + 3 ≤ _; omega) (by exact ha)) q1279 q2058 q1265 q2064 q1265 q129 q1266 q1266 (by decide +kernel) ⟨Nat.le_of_ble_eq_true rfl, Nat.le_of_ble_eq_true rfl⟩ rfl (fun h hs => ⟨_, XH.kn hs ha⟩) rfl rfl (Nat.le_of_ble_eq_true rfl) dX15_tells_17 ⟨Nat.le_of_ble_eq_true rfl, Nat.le_of_ble_eq_true rfl⟩ (np := 20) rfl (k_RI ?_)
  refine WG.weak (S' := XH D Λ I L (logS σ (([2] ++ [10, 1]) ++ [11]))) (fun h hs => by rw [← logS_app]; exact hs) ?_
  refine g_isub F dX15_tells_20 (np := 21) rfl ?_
  have hσ : (logS σ (([2] ++ [10, 1]) ++ [11])) = (logS σ [2, 10, 1, 11]) := by rfl
  have hv : ((x + nI b) * nI 2) - ((nI (1)) ^^^ nI b) = ((x + nI b) * nI 2) - (nI 1 ^^^ nI b) := by rfl
  exact g_iret F hr rfl (Nat.le_of_ble_eq_true rfl) (Nat.le_of_ble_eq_true rfl) dX15_tells_21 (fun h hs => by rw [← hT]; exact ⟨congrArg (fun z => some (Value.int z)) hv, (hσ ▸ hs)⟩)

set_option maxRecDepth 100000 in
theorem ct_X15_tells_1 {l : Launch} {D : va_G} {B : Nat} {Λ : LT} {I : AH} {L : LawT} (σ : MSt) (b : Nat) (a : Nat) (x : Int32) (htr : σ.1 36 ≤ 940) (ha : I a = some (bCell (Λ.1 0 38) 1 b)) : Ct l D ZE B yX15_tells cX15_tells 3 (some .int) 4 84 0 0 [.ref (a), .int x] (XH D Λ I L σ) (RI (((x + nI b + nI 3) * nI 2) - (nI 1 ^^^ nI b)) (XH D Λ I L (logS σ [2, 10, 20, 1, 11]))) := by
  refine Ct.of (nL := 3) (lv := [some (.ref (a)), some (.int x), none]) (by decide) (Nat.le_of_ble_eq_true rfl) stZE 1 rfl ?_
  generalize hT : RI (((x + nI b + nI 3) * nI 2) - (nI 1 ^^^ nI b)) (XH D Λ I L (logS σ [2, 10, 20, 1, 11])) = T
  intro zp ze zs zm zb zt zc F hr hnm
  generalize ([.ref (a), .int x] : List Value).toArray = za at F ⊢
  refine g_aload_n F dX15_tells_0 rfl rfl (np := 1) rfl ?_
  refine g_get F in_X16 (ref := RX15) (ci := 16) rfl 1 (by decide) q1081 (fun x hx => hx) (v := .ref (Λ.1 0 38)) (fun h hs => ⟨_, XH.kn hs ha, rfl⟩) dX15_tells_1 (np := 4) rfl ?_
  refine g_iconst F (v := (nI 2)) dX15_tells_4 (by decide) (np := 5) rfl ?_
  refine g_runVN F (C := RX0) (ci := 0) (T0 := TX0) (N := 38) (rest := []) (ct_X0_ran σ 2 (by first | assumption | omega)) ze1197 q1192 qs52 q100 q1193 hcS_X0_ran ⟨Nat.le_of_ble_eq_true rfl, Nat.le_of_ble_eq_true rfl⟩ rfl (fun h hs => hs.obj) rfl rfl (Nat.le_of_ble_eq_true rfl) dX15_tells_5 ⟨Nat.le_of_ble_eq_true rfl, Nat.le_of_ble_eq_true rfl⟩ (np := 8) rfl (k_RV ?_)
  refine g_aload_n F dX15_tells_8 rfl rfl (np := 9) rfl ?_
  refine g_iload_n F dX15_tells_9 rfl rfl (np := 10) rfl ?_
  refine g_runO F (C := RX16) (owner := "PromiseRoofs$Storey") (x := ⟨"PromiseRoofs$Storey", "builds", "(I)I"⟩) (ci := 16) (T0 := TX16) (N := 3) (n := 1) (rest := []) (ct_X15_builds_1 (logS σ [2]) b a x (by show σ.1 36 + 1 ≤ _; omega) (by exact ha)) q1235 q1238 q1236 q1239 q1236 q129 q1245 q1245 (by decide +kernel) ⟨Nat.le_of_ble_eq_true rfl, Nat.le_of_ble_eq_true rfl⟩ rfl (fun h hs => ⟨_, XH.kn hs ha⟩) rfl rfl (Nat.le_of_ble_eq_true rfl) dX15_tells_10 ⟨Nat.le_of_ble_eq_true rfl, Nat.le_of_ble_eq_true rfl⟩ (np := 13) rfl (k_RI ?_)
  refine WG.weak (S' := XH D Λ I L (logS σ ([2] ++ [10, 20, 1]))) (fun h hs => by rw [← logS_app]; exact hs) ?_
  refine g_istore_n F (lv' := [some (.ref (a)), some (.int x), some (.int ((x + nI b + nI 3) * nI 2))]) dX15_tells_13 rfl (by decide) rfl rfl (np := 14) rfl ?_
  refine g_iload_n F dX15_tells_14 rfl rfl (np := 15) rfl ?_
  refine g_aload_n F dX15_tells_15 rfl rfl (np := 16) rfl ?_
  refine g_iconst F (v := (nI 1)) dX15_tells_16 (by decide) (np := 17) rfl ?_
  refine g_runO F (C := RX16) (owner := "PromiseRoofs$Storey") (x := ⟨"PromiseRoofs$Storey", "comesDown", "(I)I"⟩) (ci := 16) (T0 := TX16) (N := 3) (n := 1) (rest := [.int ((x + nI b + nI 3) * nI 2)]) (ct_X15_comesDown_1 (logS σ ([2] ++ [10, 20, 1])) b a (nI (1)) (by show σ.1 36 + 4 ≤ _; omega) (by exact ha)) q1279 q2058 q1265 q2059 q1265 q129 q1266 q1266 (by decide +kernel) ⟨Nat.le_of_ble_eq_true rfl, Nat.le_of_ble_eq_true rfl⟩ rfl (fun h hs => ⟨_, XH.kn hs ha⟩) rfl rfl (Nat.le_of_ble_eq_true rfl) dX15_tells_17 ⟨Nat.le_of_ble_eq_true rfl, Nat.le_of_ble_eq_true rfl⟩ (np := 20) rfl (k_RI ?_)
  refine WG.weak (S' := XH D Λ I L (logS σ (([2] ++ [10, 20, 1]) ++ [11]))) (fun h hs => by rw [← logS_app]; exact hs) ?_
  refine g_isub F dX15_tells_20 (np := 21) rfl ?_
  have hσ : (logS σ (([2] ++ [10, 20, 1]) ++ [11])) = (logS σ [2, 10, 20, 1, 11]) := by rfl
  have hv : ((x + nI b + nI 3) * nI 2) - ((nI (1)) ^^^ nI b) = ((x + nI b + nI 3) * nI 2) - (nI 1 ^^^ nI b) := by rfl
  exact g_iret F hr rfl (Nat.le_of_ble_eq_true rfl) (Nat.le_of_ble_eq_true rfl) dX15_tells_21 (fun h hs => by rw [← hT]; exact ⟨congrArg (fun z => some (Value.int z)) hv, (hσ ▸ hs)⟩)

set_option maxRecDepth 100000 in
theorem ct_X15_tells_2 {l : Launch} {D : va_G} {B : Nat} {Λ : LT} {I : AH} {L : LawT} (σ : MSt) (b : Nat) (a : Nat) (x : Int32) (htr : σ.1 36 ≤ 940) (ha : I a = some (bCell (Λ.1 0 38) 2 b)) : Ct l D ZE B yX15_tells cX15_tells 3 (some .int) 4 84 0 0 [.ref (a), .int x] (XH D Λ I L σ) (RI ((-((x + nI b) * nI 2)) - (nI 1 ^^^ nI b)) (XH D Λ I L (logS σ [2, 30, 10, 1, 11]))) := by
  refine Ct.of (nL := 3) (lv := [some (.ref (a)), some (.int x), none]) (by decide) (Nat.le_of_ble_eq_true rfl) stZE 1 rfl ?_
  generalize hT : RI ((-((x + nI b) * nI 2)) - (nI 1 ^^^ nI b)) (XH D Λ I L (logS σ [2, 30, 10, 1, 11])) = T
  intro zp ze zs zm zb zt zc F hr hnm
  generalize ([.ref (a), .int x] : List Value).toArray = za at F ⊢
  refine g_aload_n F dX15_tells_0 rfl rfl (np := 1) rfl ?_
  refine g_get F in_X17 (ref := RX15) (ci := 17) rfl 1 (by decide) q1081 (fun x hx => hx) (v := .ref (Λ.1 0 38)) (fun h hs => ⟨_, XH.kn hs ha, rfl⟩) dX15_tells_1 (np := 4) rfl ?_
  refine g_iconst F (v := (nI 2)) dX15_tells_4 (by decide) (np := 5) rfl ?_
  refine g_runVN F (C := RX0) (ci := 0) (T0 := TX0) (N := 38) (rest := []) (ct_X0_ran σ 2 (by first | assumption | omega)) ze1197 q1192 qs52 q100 q1193 hcS_X0_ran ⟨Nat.le_of_ble_eq_true rfl, Nat.le_of_ble_eq_true rfl⟩ rfl (fun h hs => hs.obj) rfl rfl (Nat.le_of_ble_eq_true rfl) dX15_tells_5 ⟨Nat.le_of_ble_eq_true rfl, Nat.le_of_ble_eq_true rfl⟩ (np := 8) rfl (k_RV ?_)
  refine g_aload_n F dX15_tells_8 rfl rfl (np := 9) rfl ?_
  refine g_iload_n F dX15_tells_9 rfl rfl (np := 10) rfl ?_
  refine g_runO F (C := RX17) (owner := "PromiseRoofs$Storey") (x := ⟨"PromiseRoofs$Storey", "builds", "(I)I"⟩) (ci := 17) (T0 := TX17) (N := 3) (n := 1) (rest := []) (ct_X17_builds_2 (logS σ [2]) b a x (by show σ.1 36 + 1 ≤ _; omega) (by exact ha)) q1235 q1238 q1236 q1240 q1241 q131 q1242 q1245 (by decide +kernel) ⟨Nat.le_of_ble_eq_true rfl, Nat.le_of_ble_eq_true rfl⟩ rfl (fun h hs => ⟨_, XH.kn hs ha⟩) rfl rfl (Nat.le_of_ble_eq_true rfl) dX15_tells_10 ⟨Nat.le_of_ble_eq_true rfl, Nat.le_of_ble_eq_true rfl⟩ (np := 13) rfl (k_RI ?_)
  refine WG.weak (S' := XH D Λ I L (logS σ ([2] ++ [30, 10, 1]))) (fun h hs => by rw [← logS_app]; exact hs) ?_
  refine g_istore_n F (lv' := [some (.ref (a)), some (.int x), some (.int (-((x + nI b) * nI 2)))]) dX15_tells_13 rfl (by decide) rfl rfl (np := 14) rfl ?_
  refine g_iload_n F dX15_tells_14 rfl rfl (np := 15) rfl ?_
  refine g_aload_n F dX15_tells_15 rfl rfl (np := 16) rfl ?_
  refine g_iconst F (v := (nI 1)) dX15_tells_16 (by decide) (np := 17) rfl ?_
  refine g_runO F (C := RX17) (owner := "PromiseRoofs$Storey") (x := ⟨"PromiseRoofs$Storey", "comesDown", "(I)I"⟩) (ci := 17) (T0 := TX17) (N := 3) (n := 1) (rest := [.int (-((x + nI b) * nI 2))]) (ct_X15_comesDown_2 (logS σ ([2] ++ [30, 10, 1])) b a (nI (1)) (by show σ.1 36 + 4 ≤ _; omega) (by exact ha)) q1279 q2058 q1265 q2060 q1265 q129 q1266 q1266 (by decide +kernel) ⟨Nat.le_of_ble_eq_true rfl, Nat.le_of_ble_eq_true rfl⟩ rfl (fun h hs => ⟨_, XH.kn hs ha⟩) rfl rfl (Nat.le_of_ble_eq_true rfl) dX15_tells_17 ⟨Nat.le_of_ble_eq_true rfl, Nat.le_of_ble_eq_true rfl⟩ (np := 20) rfl (k_RI ?_)
  refine WG.weak (S' := XH D Λ I L (logS σ (([2] ++ [30, 10, 1]) ++ [11]))) (fun h hs => by rw [← logS_app]; exact hs) ?_
  refine g_isub F dX15_tells_20 (np := 21) rfl ?_
  have hσ : (logS σ (([2] ++ [30, 10, 1]) ++ [11])) = (logS σ [2, 30, 10, 1, 11]) := by rfl
  have hv : (-((x + nI b) * nI 2)) - ((nI (1)) ^^^ nI b) = (-((x + nI b) * nI 2)) - (nI 1 ^^^ nI b) := by rfl
  exact g_iret F hr rfl (Nat.le_of_ble_eq_true rfl) (Nat.le_of_ble_eq_true rfl) dX15_tells_21 (fun h hs => by rw [← hT]; exact ⟨congrArg (fun z => some (Value.int z)) hv, (hσ ▸ hs)⟩)

set_option maxRecDepth 100000 in
theorem ct_X15_tells_3 {l : Launch} {D : va_G} {B : Nat} {Λ : LT} {I : AH} {L : LawT} (σ : MSt) (b : Nat) (a : Nat) (x : Int32) (htr : σ.1 36 ≤ 940) (ha : I a = some (bCell (Λ.1 0 38) 3 b)) : Ct l D ZE B yX15_tells cX15_tells 3 (some .int) 5 105 0 0 [.ref (a), .int x] (XH D Λ I L σ) (RI ((-(((x + nI 1) + nI b) * nI 2)) - ((nI 1 ^^^ nI b) * nI 3)) (XH D Λ I L (logS σ [2, 41, 30, 10, 1, 40, 11]))) := by
  refine Ct.of (nL := 3) (lv := [some (.ref (a)), some (.int x), none]) (by decide) (Nat.le_of_ble_eq_true rfl) stZE 1 rfl ?_
  generalize hT : RI ((-(((x + nI 1) + nI b) * nI 2)) - ((nI 1 ^^^ nI b) * nI 3)) (XH D Λ I L (logS σ [2, 41, 30, 10, 1, 40, 11])) = T
  intro zp ze zs zm zb zt zc F hr hnm
  generalize ([.ref (a), .int x] : List Value).toArray = za at F ⊢
  refine g_aload_n F dX15_tells_0 rfl rfl (np := 1) rfl ?_
  refine g_get F in_X18 (ref := RX15) (ci := 18) rfl 1 (by decide) q1081 (fun x hx => hx) (v := .ref (Λ.1 0 38)) (fun h hs => ⟨_, XH.kn hs ha, rfl⟩) dX15_tells_1 (np := 4) rfl ?_
  refine g_iconst F (v := (nI 2)) dX15_tells_4 (by decide) (np := 5) rfl ?_
  refine g_runVN F (C := RX0) (ci := 0) (T0 := TX0) (N := 38) (rest := []) (ct_X0_ran σ 2 (by first | assumption | omega)) ze1197 q1192 qs52 q100 q1193 hcS_X0_ran ⟨Nat.le_of_ble_eq_true rfl, Nat.le_of_ble_eq_true rfl⟩ rfl (fun h hs => hs.obj) rfl rfl (Nat.le_of_ble_eq_true rfl) dX15_tells_5 ⟨Nat.le_of_ble_eq_true rfl, Nat.le_of_ble_eq_true rfl⟩ (np := 8) rfl (k_RV ?_)
  refine g_aload_n F dX15_tells_8 rfl rfl (np := 9) rfl ?_
  refine g_iload_n F dX15_tells_9 rfl rfl (np := 10) rfl ?_
  refine g_runO F (C := RX18) (owner := "PromiseRoofs$Storey") (x := ⟨"PromiseRoofs$Storey", "builds", "(I)I"⟩) (ci := 18) (T0 := TX18) (N := 4) (n := 1) (rest := []) (ct_X18_builds_3 (logS σ [2]) b a x (by show σ.1 36 + 1 ≤ _; omega) (by exact ha)) q1235 q1238 q1236 q1277 q1273 q132 q1274 q1245 (by decide +kernel) ⟨Nat.le_of_ble_eq_true rfl, Nat.le_of_ble_eq_true rfl⟩ rfl (fun h hs => ⟨_, XH.kn hs ha⟩) rfl rfl (Nat.le_of_ble_eq_true rfl) dX15_tells_10 ⟨Nat.le_of_ble_eq_true rfl, Nat.le_of_ble_eq_true rfl⟩ (np := 13) rfl (k_RI ?_)
  refine WG.weak (S' := XH D Λ I L (logS σ ([2] ++ [41, 30, 10, 1]))) (fun h hs => by rw [← logS_app]; exact hs) ?_
  refine g_istore_n F (lv' := [some (.ref (a)), some (.int x), some (.int (-(((x + nI 1) + nI b) * nI 2)))]) dX15_tells_13 rfl (by decide) rfl rfl (np := 14) rfl ?_
  refine g_iload_n F dX15_tells_14 rfl rfl (np := 15) rfl ?_
  refine g_aload_n F dX15_tells_15 rfl rfl (np := 16) rfl ?_
  refine g_iconst F (v := (nI 1)) dX15_tells_16 (by decide) (np := 17) rfl ?_
  refine g_runO F (C := RX18) (owner := "PromiseRoofs$Storey") (x := ⟨"PromiseRoofs$Storey", "comesDown", "(I)I"⟩) (ci := 18) (T0 := TX18) (N := 4) (n := 1) (rest := [.int (-(((x + nI 1) + nI b) * nI 2))]) (ct_X18_comesDown_3 (logS σ ([2] ++ [41, 30, 10, 1])) b a (nI (1)) (by show σ.1 36 + 5 ≤ _; omega) (by exact ha)) q1279 q2058 q1265 q2065 q1280 q132 q1281 q1266 (by decide +kernel) ⟨Nat.le_of_ble_eq_true rfl, Nat.le_of_ble_eq_true rfl⟩ rfl (fun h hs => ⟨_, XH.kn hs ha⟩) rfl rfl (Nat.le_of_ble_eq_true rfl) dX15_tells_17 ⟨Nat.le_of_ble_eq_true rfl, Nat.le_of_ble_eq_true rfl⟩ (np := 20) rfl (k_RI ?_)
  refine WG.weak (S' := XH D Λ I L (logS σ (([2] ++ [41, 30, 10, 1]) ++ [40, 11]))) (fun h hs => by rw [← logS_app]; exact hs) ?_
  refine g_isub F dX15_tells_20 (np := 21) rfl ?_
  have hσ : (logS σ (([2] ++ [41, 30, 10, 1]) ++ [40, 11])) = (logS σ [2, 41, 30, 10, 1, 40, 11]) := by rfl
  have hv : (-(((x + nI 1) + nI b) * nI 2)) - (((nI (1)) ^^^ nI b) * nI 3) = (-(((x + nI 1) + nI b) * nI 2)) - ((nI 1 ^^^ nI b) * nI 3) := by rfl
  exact g_iret F hr rfl (Nat.le_of_ble_eq_true rfl) (Nat.le_of_ble_eq_true rfl) dX15_tells_21 (fun h hs => by rw [← hT]; exact ⟨congrArg (fun z => some (Value.int z)) hv, (hσ ▸ hs)⟩)

set_option maxRecDepth 100000 in
theorem ct_X15_tells_4 {l : Launch} {D : va_G} {B : Nat} {Λ : LT} {I : AH} {L : LawT} (σ : MSt) (b : Nat) (a : Nat) (x : Int32) (htr : σ.1 36 ≤ 940) (ha : I a = some (bCell (Λ.1 0 38) 4 b)) : Ct l D ZE B yX15_tells cX15_tells 3 (some .int) 4 85 0 0 [.ref (a), .int x] (XH D Λ I L σ) (RI (((x + nI b + nI 3) * nI 2) - ((nI 1 ^^^ nI b) - (nI 2 + nI b + nI 3))) (XH D Λ I L (logS σ [2, 10, 20, 1, 50, 11, 20, 1]))) := by
  refine Ct.of (nL := 3) (lv := [some (.ref (a)), some (.int x), none]) (by decide) (Nat.le_of_ble_eq_true rfl) stZE 1 rfl ?_
  generalize hT : RI (((x + nI b + nI 3) * nI 2) - ((nI 1 ^^^ nI b) - (nI 2 + nI b + nI 3))) (XH D Λ I L (logS σ [2, 10, 20, 1, 50, 11, 20, 1])) = T
  intro zp ze zs zm zb zt zc F hr hnm
  generalize ([.ref (a), .int x] : List Value).toArray = za at F ⊢
  refine g_aload_n F dX15_tells_0 rfl rfl (np := 1) rfl ?_
  refine g_get F in_X19 (ref := RX15) (ci := 19) rfl 1 (by decide) q1081 (fun x hx => hx) (v := .ref (Λ.1 0 38)) (fun h hs => ⟨_, XH.kn hs ha, rfl⟩) dX15_tells_1 (np := 4) rfl ?_
  refine g_iconst F (v := (nI 2)) dX15_tells_4 (by decide) (np := 5) rfl ?_
  refine g_runVN F (C := RX0) (ci := 0) (T0 := TX0) (N := 38) (rest := []) (ct_X0_ran σ 2 (by first | assumption | omega)) ze1197 q1192 qs52 q100 q1193 hcS_X0_ran ⟨Nat.le_of_ble_eq_true rfl, Nat.le_of_ble_eq_true rfl⟩ rfl (fun h hs => hs.obj) rfl rfl (Nat.le_of_ble_eq_true rfl) dX15_tells_5 ⟨Nat.le_of_ble_eq_true rfl, Nat.le_of_ble_eq_true rfl⟩ (np := 8) rfl (k_RV ?_)
  refine g_aload_n F dX15_tells_8 rfl rfl (np := 9) rfl ?_
  refine g_iload_n F dX15_tells_9 rfl rfl (np := 10) rfl ?_
  refine g_runO F (C := RX19) (owner := "PromiseRoofs$Storey") (x := ⟨"PromiseRoofs$Storey", "builds", "(I)I"⟩) (ci := 19) (T0 := TX19) (N := 4) (n := 1) (rest := []) (ct_X15_builds_4 (logS σ [2]) b a x (by show σ.1 36 + 1 ≤ _; omega) (by exact ha)) q1235 q1238 q1236 q1278 q1236 q129 q1245 q1245 (by decide +kernel) ⟨Nat.le_of_ble_eq_true rfl, Nat.le_of_ble_eq_true rfl⟩ rfl (fun h hs => ⟨_, XH.kn hs ha⟩) rfl rfl (Nat.le_of_ble_eq_true rfl) dX15_tells_10 ⟨Nat.le_of_ble_eq_true rfl, Nat.le_of_ble_eq_true rfl⟩ (np := 13) rfl (k_RI ?_)
  refine WG.weak (S' := XH D Λ I L (logS σ ([2] ++ [10, 20, 1]))) (fun h hs => by rw [← logS_app]; exact hs) ?_
  refine g_istore_n F (lv' := [some (.ref (a)), some (.int x), some (.int ((x + nI b + nI 3) * nI 2))]) dX15_tells_13 rfl (by decide) rfl rfl (np := 14) rfl ?_
  refine g_iload_n F dX15_tells_14 rfl rfl (np := 15) rfl ?_
  refine g_aload_n F dX15_tells_15 rfl rfl (np := 16) rfl ?_
  refine g_iconst F (v := (nI 1)) dX15_tells_16 (by decide) (np := 17) rfl ?_
  refine g_runO F (C := RX19) (owner := "PromiseRoofs$Storey") (x := ⟨"PromiseRoofs$Storey", "comesDown", "(I)I"⟩) (ci := 19) (T0 := TX19) (N := 4) (n := 1) (rest := [.int ((x + nI b + nI 3) * nI 2)]) (ct_X19_comesDown_4 (logS σ ([2] ++ [10, 20, 1])) b a (nI (1)) (by show σ.1 36 + 4 ≤ _; omega) (by exact ha)) q1279 q2058 q1265 q2066 q1259 q133 q1260 q1266 (by decide +kernel) ⟨Nat.le_of_ble_eq_true rfl, Nat.le_of_ble_eq_true rfl⟩ rfl (fun h hs => ⟨_, XH.kn hs ha⟩) rfl rfl (Nat.le_of_ble_eq_true rfl) dX15_tells_17 ⟨Nat.le_of_ble_eq_true rfl, Nat.le_of_ble_eq_true rfl⟩ (np := 20) rfl (k_RI ?_)
  refine WG.weak (S' := XH D Λ I L (logS σ (([2] ++ [10, 20, 1]) ++ [50, 11, 20, 1]))) (fun h hs => by rw [← logS_app]; exact hs) ?_
  refine g_isub F dX15_tells_20 (np := 21) rfl ?_
  have hσ : (logS σ (([2] ++ [10, 20, 1]) ++ [50, 11, 20, 1])) = (logS σ [2, 10, 20, 1, 50, 11, 20, 1]) := by rfl
  have hv : ((x + nI b + nI 3) * nI 2) - (((nI (1)) ^^^ nI b) - (nI 2 + nI b + nI 3)) = ((x + nI b + nI 3) * nI 2) - ((nI 1 ^^^ nI b) - (nI 2 + nI b + nI 3)) := by rfl
  exact g_iret F hr rfl (Nat.le_of_ble_eq_true rfl) (Nat.le_of_ble_eq_true rfl) dX15_tells_21 (fun h hs => by rw [← hT]; exact ⟨congrArg (fun z => some (Value.int z)) hv, (hσ ▸ hs)⟩)

set_option maxRecDepth 100000 in
theorem ct_X15_tells_5 {l : Launch} {D : va_G} {B : Nat} {Λ : LT} {I : AH} {L : LawT} (σ : MSt) (b : Nat) (a : Nat) (x : Int32) (htr : σ.1 36 ≤ 940) (ha : I a = some (bCell (Λ.1 0 38) 5 b)) : Ct l D ZE B yX15_tells cX15_tells 3 (some .int) 5 105 0 0 [.ref (a), .int x] (XH D Λ I L σ) (RI ((-(((x + nI 1) + nI b) * nI 2)) - ((nI 1 ^^^ nI b) * nI 3)) (XH D Λ I L (logS σ [2, 41, 30, 10, 1, 40, 11]))) := by
  refine Ct.of (nL := 3) (lv := [some (.ref (a)), some (.int x), none]) (by decide) (Nat.le_of_ble_eq_true rfl) stZE 1 rfl ?_
  generalize hT : RI ((-(((x + nI 1) + nI b) * nI 2)) - ((nI 1 ^^^ nI b) * nI 3)) (XH D Λ I L (logS σ [2, 41, 30, 10, 1, 40, 11])) = T
  intro zp ze zs zm zb zt zc F hr hnm
  generalize ([.ref (a), .int x] : List Value).toArray = za at F ⊢
  refine g_aload_n F dX15_tells_0 rfl rfl (np := 1) rfl ?_
  refine g_get F in_X20 (ref := RX15) (ci := 20) rfl 1 (by decide) q1081 (fun x hx => hx) (v := .ref (Λ.1 0 38)) (fun h hs => ⟨_, XH.kn hs ha, rfl⟩) dX15_tells_1 (np := 4) rfl ?_
  refine g_iconst F (v := (nI 2)) dX15_tells_4 (by decide) (np := 5) rfl ?_
  refine g_runVN F (C := RX0) (ci := 0) (T0 := TX0) (N := 38) (rest := []) (ct_X0_ran σ 2 (by first | assumption | omega)) ze1197 q1192 qs52 q100 q1193 hcS_X0_ran ⟨Nat.le_of_ble_eq_true rfl, Nat.le_of_ble_eq_true rfl⟩ rfl (fun h hs => hs.obj) rfl rfl (Nat.le_of_ble_eq_true rfl) dX15_tells_5 ⟨Nat.le_of_ble_eq_true rfl, Nat.le_of_ble_eq_true rfl⟩ (np := 8) rfl (k_RV ?_)
  refine g_aload_n F dX15_tells_8 rfl rfl (np := 9) rfl ?_
  refine g_iload_n F dX15_tells_9 rfl rfl (np := 10) rfl ?_
  refine g_runO F (C := RX20) (owner := "PromiseRoofs$Storey") (x := ⟨"PromiseRoofs$Storey", "builds", "(I)I"⟩) (ci := 20) (T0 := TX20) (N := 5) (n := 1) (rest := []) (ct_X18_builds_5 (logS σ [2]) b a x (by show σ.1 36 + 1 ≤ _; omega) (by exact ha)) q1235 q1238 q1236 q1272 q1273 q132 q1274 q1245 (by decide +kernel) ⟨Nat.le_of_ble_eq_true rfl, Nat.le_of_ble_eq_true rfl⟩ rfl (fun h hs => ⟨_, XH.kn hs ha⟩) rfl rfl (Nat.le_of_ble_eq_true rfl) dX15_tells_10 ⟨Nat.le_of_ble_eq_true rfl, Nat.le_of_ble_eq_true rfl⟩ (np := 13) rfl (k_RI ?_)
  refine WG.weak (S' := XH D Λ I L (logS σ ([2] ++ [41, 30, 10, 1]))) (fun h hs => by rw [← logS_app]; exact hs) ?_
  refine g_istore_n F (lv' := [some (.ref (a)), some (.int x), some (.int (-(((x + nI 1) + nI b) * nI 2)))]) dX15_tells_13 rfl (by decide) rfl rfl (np := 14) rfl ?_
  refine g_iload_n F dX15_tells_14 rfl rfl (np := 15) rfl ?_
  refine g_aload_n F dX15_tells_15 rfl rfl (np := 16) rfl ?_
  refine g_iconst F (v := (nI 1)) dX15_tells_16 (by decide) (np := 17) rfl ?_
  refine g_runO F (C := RX20) (owner := "PromiseRoofs$Storey") (x := ⟨"PromiseRoofs$Storey", "comesDown", "(I)I"⟩) (ci := 20) (T0 := TX20) (N := 5) (n := 1) (rest := [.int (-(((x + nI 1) + nI b) * nI 2))]) (ct_X18_comesDown_5 (logS σ ([2] ++ [41, 30, 10, 1])) b a (nI (1)) (by show σ.1 36 + 5 ≤ _; omega) (by exact ha)) q1279 q2058 q1265 q2063 q1280 q132 q1281 q1266 (by decide +kernel) ⟨Nat.le_of_ble_eq_true rfl, Nat.le_of_ble_eq_true rfl⟩ rfl (fun h hs => ⟨_, XH.kn hs ha⟩) rfl rfl (Nat.le_of_ble_eq_true rfl) dX15_tells_17 ⟨Nat.le_of_ble_eq_true rfl, Nat.le_of_ble_eq_true rfl⟩ (np := 20) rfl (k_RI ?_)
  refine WG.weak (S' := XH D Λ I L (logS σ (([2] ++ [41, 30, 10, 1]) ++ [40, 11]))) (fun h hs => by rw [← logS_app]; exact hs) ?_
  refine g_isub F dX15_tells_20 (np := 21) rfl ?_
  have hσ : (logS σ (([2] ++ [41, 30, 10, 1]) ++ [40, 11])) = (logS σ [2, 41, 30, 10, 1, 40, 11]) := by rfl
  have hv : (-(((x + nI 1) + nI b) * nI 2)) - (((nI (1)) ^^^ nI b) * nI 3) = (-(((x + nI 1) + nI b) * nI 2)) - ((nI 1 ^^^ nI b) * nI 3) := by rfl
  exact g_iret F hr rfl (Nat.le_of_ble_eq_true rfl) (Nat.le_of_ble_eq_true rfl) dX15_tells_21 (fun h hs => by rw [← hT]; exact ⟨congrArg (fun z => some (Value.int z)) hv, (hσ ▸ hs)⟩)

set_option maxRecDepth 100000 in
theorem ct_X15_tells_6 {l : Launch} {D : va_G} {B : Nat} {Λ : LT} {I : AH} {L : LawT} (σ : MSt) (b : Nat) (a : Nat) (x : Int32) (htr : σ.1 36 ≤ 940) (ha : I a = some (bCell (Λ.1 0 38) 6 b)) : Ct l D ZE B yX15_tells cX15_tells 3 (some .int) 4 84 0 0 [.ref (a), .int x] (XH D Λ I L σ) (RI ((((x + nI b) * nI 2) * nI 2) - (nI 1 ^^^ nI b)) (XH D Λ I L (logS σ [2, 10, 70, 1, 11]))) := by
  refine Ct.of (nL := 3) (lv := [some (.ref (a)), some (.int x), none]) (by decide) (Nat.le_of_ble_eq_true rfl) stZE 1 rfl ?_
  generalize hT : RI ((((x + nI b) * nI 2) * nI 2) - (nI 1 ^^^ nI b)) (XH D Λ I L (logS σ [2, 10, 70, 1, 11])) = T
  intro zp ze zs zm zb zt zc F hr hnm
  generalize ([.ref (a), .int x] : List Value).toArray = za at F ⊢
  refine g_aload_n F dX15_tells_0 rfl rfl (np := 1) rfl ?_
  refine g_get F in_X21 (ref := RX15) (ci := 21) rfl 1 (by decide) q1081 (fun x hx => hx) (v := .ref (Λ.1 0 38)) (fun h hs => ⟨_, XH.kn hs ha, rfl⟩) dX15_tells_1 (np := 4) rfl ?_
  refine g_iconst F (v := (nI 2)) dX15_tells_4 (by decide) (np := 5) rfl ?_
  refine g_runVN F (C := RX0) (ci := 0) (T0 := TX0) (N := 38) (rest := []) (ct_X0_ran σ 2 (by first | assumption | omega)) ze1197 q1192 qs52 q100 q1193 hcS_X0_ran ⟨Nat.le_of_ble_eq_true rfl, Nat.le_of_ble_eq_true rfl⟩ rfl (fun h hs => hs.obj) rfl rfl (Nat.le_of_ble_eq_true rfl) dX15_tells_5 ⟨Nat.le_of_ble_eq_true rfl, Nat.le_of_ble_eq_true rfl⟩ (np := 8) rfl (k_RV ?_)
  refine g_aload_n F dX15_tells_8 rfl rfl (np := 9) rfl ?_
  refine g_iload_n F dX15_tells_9 rfl rfl (np := 10) rfl ?_
  refine g_runO F (C := RX21) (owner := "PromiseRoofs$Storey") (x := ⟨"PromiseRoofs$Storey", "builds", "(I)I"⟩) (ci := 21) (T0 := TX21) (N := 3) (n := 1) (rest := []) (ct_X15_builds_6 (logS σ [2]) b a x (by show σ.1 36 + 1 ≤ _; omega) (by exact ha)) q1235 q1238 q1236 q1247 q1236 q129 q1245 q1245 (by decide +kernel) ⟨Nat.le_of_ble_eq_true rfl, Nat.le_of_ble_eq_true rfl⟩ rfl (fun h hs => ⟨_, XH.kn hs ha⟩) rfl rfl (Nat.le_of_ble_eq_true rfl) dX15_tells_10 ⟨Nat.le_of_ble_eq_true rfl, Nat.le_of_ble_eq_true rfl⟩ (np := 13) rfl (k_RI ?_)
  refine WG.weak (S' := XH D Λ I L (logS σ ([2] ++ [10, 70, 1]))) (fun h hs => by rw [← logS_app]; exact hs) ?_
  refine g_istore_n F (lv' := [some (.ref (a)), some (.int x), some (.int (((x + nI b) * nI 2) * nI 2))]) dX15_tells_13 rfl (by decide) rfl rfl (np := 14) rfl ?_
  refine g_iload_n F dX15_tells_14 rfl rfl (np := 15) rfl ?_
  refine g_aload_n F dX15_tells_15 rfl rfl (np := 16) rfl ?_
  refine g_iconst F (v := (nI 1)) dX15_tells_16 (by decide) (np := 17) rfl ?_
  refine g_runO F (C := RX21) (owner := "PromiseRoofs$Storey") (x := ⟨"PromiseRoofs$Storey", "comesDown", "(I)I"⟩) (ci := 21) (T0 := TX21) (N := 3) (n := 1) (rest := [.int (((x + nI b) * nI 2) * nI 2)]) (ct_X15_comesDown_6 (logS σ ([2] ++ [10, 70, 1])) b a (nI (1)) (by show σ.1 36 + 4 ≤ _; omega) (by exact ha)) q1279 q2058 q1265 q2061 q1265 q129 q1266 q1266 (by decide +kernel) ⟨Nat.le_of_ble_eq_true rfl, Nat.le_of_ble_eq_true rfl⟩ rfl (fun h hs => ⟨_, XH.kn hs ha⟩) rfl rfl (Nat.le_of_ble_eq_true rfl) dX15_tells_17 ⟨Nat.le_of_ble_eq_true rfl, Nat.le_of_ble_eq_true rfl⟩ (np := 20) rfl (k_RI ?_)
  refine WG.weak (S' := XH D Λ I L (logS σ (([2] ++ [10, 70, 1]) ++ [11]))) (fun h hs => by rw [← logS_app]; exact hs) ?_
  refine g_isub F dX15_tells_20 (np := 21) rfl ?_
  have hσ : (logS σ (([2] ++ [10, 70, 1]) ++ [11])) = (logS σ [2, 10, 70, 1, 11]) := by rfl
  have hv : (((x + nI b) * nI 2) * nI 2) - ((nI (1)) ^^^ nI b) = (((x + nI b) * nI 2) * nI 2) - (nI 1 ^^^ nI b) := by rfl
  exact g_iret F hr rfl (Nat.le_of_ble_eq_true rfl) (Nat.le_of_ble_eq_true rfl) dX15_tells_21 (fun h hs => by rw [← hT]; exact ⟨congrArg (fun z => some (Value.int z)) hv, (hσ ▸ hs)⟩)

set_option maxRecDepth 100000 in
theorem ct_X15_tells_7 {l : Launch} {D : va_G} {B : Nat} {Λ : LT} {I : AH} {L : LawT} (σ : MSt) (b : Nat) (a : Nat) (x : Int32) (htr : σ.1 36 ≤ 940) (ha : I a = some (bCell (Λ.1 0 38) 7 b)) : Ct l D ZE B yX15_tells cX15_tells 3 (some .int) 5 107 0 0 [.ref (a), .int x] (XH D Λ I L σ) (RI ((((x + nI b + nI 3) * nI 2) + ((nI 2 ^^^ nI b) - (nI 2 + nI b + nI 3))) - ((nI 1 ^^^ nI b) - (nI 2 + nI b + nI 3))) (XH D Λ I L (logS σ [2, 80, 10, 20, 1, 50, 11, 20, 1, 50, 11, 20, 1]))) := by
  refine Ct.of (nL := 3) (lv := [some (.ref (a)), some (.int x), none]) (by decide) (Nat.le_of_ble_eq_true rfl) stZE 1 rfl ?_
  generalize hT : RI ((((x + nI b + nI 3) * nI 2) + ((nI 2 ^^^ nI b) - (nI 2 + nI b + nI 3))) - ((nI 1 ^^^ nI b) - (nI 2 + nI b + nI 3))) (XH D Λ I L (logS σ [2, 80, 10, 20, 1, 50, 11, 20, 1, 50, 11, 20, 1])) = T
  intro zp ze zs zm zb zt zc F hr hnm
  generalize ([.ref (a), .int x] : List Value).toArray = za at F ⊢
  refine g_aload_n F dX15_tells_0 rfl rfl (np := 1) rfl ?_
  refine g_get F in_X22 (ref := RX15) (ci := 22) rfl 1 (by decide) q1081 (fun x hx => hx) (v := .ref (Λ.1 0 38)) (fun h hs => ⟨_, XH.kn hs ha, rfl⟩) dX15_tells_1 (np := 4) rfl ?_
  refine g_iconst F (v := (nI 2)) dX15_tells_4 (by decide) (np := 5) rfl ?_
  refine g_runVN F (C := RX0) (ci := 0) (T0 := TX0) (N := 38) (rest := []) (ct_X0_ran σ 2 (by first | assumption | omega)) ze1197 q1192 qs52 q100 q1193 hcS_X0_ran ⟨Nat.le_of_ble_eq_true rfl, Nat.le_of_ble_eq_true rfl⟩ rfl (fun h hs => hs.obj) rfl rfl (Nat.le_of_ble_eq_true rfl) dX15_tells_5 ⟨Nat.le_of_ble_eq_true rfl, Nat.le_of_ble_eq_true rfl⟩ (np := 8) rfl (k_RV ?_)
  refine g_aload_n F dX15_tells_8 rfl rfl (np := 9) rfl ?_
  refine g_iload_n F dX15_tells_9 rfl rfl (np := 10) rfl ?_
  refine g_runO F (C := RX22) (owner := "PromiseRoofs$Storey") (x := ⟨"PromiseRoofs$Storey", "builds", "(I)I"⟩) (ci := 22) (T0 := TX22) (N := 5) (n := 1) (rest := []) (ct_X22_builds_7 (logS σ [2]) b a x (by show σ.1 36 + 1 ≤ _; omega) (by exact ha)) q1235 q1238 q1236 q1248 q1249 q136 q1250 q1245 (by decide +kernel) ⟨Nat.le_of_ble_eq_true rfl, Nat.le_of_ble_eq_true rfl⟩ rfl (fun h hs => ⟨_, XH.kn hs ha⟩) rfl rfl (Nat.le_of_ble_eq_true rfl) dX15_tells_10 ⟨Nat.le_of_ble_eq_true rfl, Nat.le_of_ble_eq_true rfl⟩ (np := 13) rfl (k_RI ?_)
  refine WG.weak (S' := XH D Λ I L (logS σ ([2] ++ [80, 10, 20, 1, 50, 11, 20, 1]))) (fun h hs => by rw [← logS_app]; exact hs) ?_
  refine g_istore_n F (lv' := [some (.ref (a)), some (.int x), some (.int (((x + nI b + nI 3) * nI 2) + ((nI 2 ^^^ nI b) - (nI 2 + nI b + nI 3))))]) dX15_tells_13 rfl (by decide) rfl rfl (np := 14) rfl ?_
  refine g_iload_n F dX15_tells_14 rfl rfl (np := 15) rfl ?_
  refine g_aload_n F dX15_tells_15 rfl rfl (np := 16) rfl ?_
  refine g_iconst F (v := (nI 1)) dX15_tells_16 (by decide) (np := 17) rfl ?_
  refine g_runO F (C := RX22) (owner := "PromiseRoofs$Storey") (x := ⟨"PromiseRoofs$Storey", "comesDown", "(I)I"⟩) (ci := 22) (T0 := TX22) (N := 5) (n := 1) (rest := [.int (((x + nI b + nI 3) * nI 2) + ((nI 2 ^^^ nI b) - (nI 2 + nI b + nI 3)))]) (ct_X19_comesDown_7 (logS σ ([2] ++ [80, 10, 20, 1, 50, 11, 20, 1])) b a (nI (1)) (by show σ.1 36 + 9 ≤ _; omega) (by exact ha)) q1279 q2058 q1265 q2062 q1259 q133 q1260 q1266 (by decide +kernel) ⟨Nat.le_of_ble_eq_true rfl, Nat.le_of_ble_eq_true rfl⟩ rfl (fun h hs => ⟨_, XH.kn hs ha⟩) rfl rfl (Nat.le_of_ble_eq_true rfl) dX15_tells_17 ⟨Nat.le_of_ble_eq_true rfl, Nat.le_of_ble_eq_true rfl⟩ (np := 20) rfl (k_RI ?_)
  refine WG.weak (S' := XH D Λ I L (logS σ (([2] ++ [80, 10, 20, 1, 50, 11, 20, 1]) ++ [50, 11, 20, 1]))) (fun h hs => by rw [← logS_app]; exact hs) ?_
  refine g_isub F dX15_tells_20 (np := 21) rfl ?_
  have hσ : (logS σ (([2] ++ [80, 10, 20, 1, 50, 11, 20, 1]) ++ [50, 11, 20, 1])) = (logS σ [2, 80, 10, 20, 1, 50, 11, 20, 1, 50, 11, 20, 1]) := by rfl
  have hv : (((x + nI b + nI 3) * nI 2) + ((nI 2 ^^^ nI b) - (nI 2 + nI b + nI 3))) - (((nI (1)) ^^^ nI b) - (nI 2 + nI b + nI 3)) = (((x + nI b + nI 3) * nI 2) + ((nI 2 ^^^ nI b) - (nI 2 + nI b + nI 3))) - ((nI 1 ^^^ nI b) - (nI 2 + nI b + nI 3)) := by rfl
  exact g_iret F hr rfl (Nat.le_of_ble_eq_true rfl) (Nat.le_of_ble_eq_true rfl) dX15_tells_21 (fun h hs => by rw [← hT]; exact ⟨congrArg (fun z => some (Value.int z)) hv, (hσ ▸ hs)⟩)

set_option maxRecDepth 100000 in
theorem ct_X20_tells_5 {l : Launch} {D : va_G} {B : Nat} {Λ : LT} {I : AH} {L : LawT} (σ : MSt) (b : Nat) (a : Nat) (x : Int32) (htr : σ.1 36 ≤ 930) (ha : I a = some (bCell (Λ.1 0 38) 5 b)) : Ct l D ZE B yX20_tells cX20_tells 2 (some .int) 6 127 0 0 [.ref (a), .int x] (XH D Λ I L σ) (RI (((-(((x + nI 1) + nI b) * nI 2)) - ((nI 1 ^^^ nI b) * nI 3)) ^^^ nI 5) (XH D Λ I L (logS σ [60, 2, 41, 30, 10, 1, 40, 11]))) := by
  refine Ct.of (nL := 2) (lv := [some (.ref (a)), some (.int x)]) (by decide) (Nat.le_of_ble_eq_true rfl) stZE 0 rfl ?_
  generalize hT : RI (((-(((x + nI 1) + nI b) * nI 2)) - ((nI 1 ^^^ nI b) * nI 3)) ^^^ nI 5) (XH D Λ I L (logS σ [60, 2, 41, 30, 10, 1, 40, 11])) = T
  intro zp ze zs zm zb zt zc F hr hnm
  generalize ([.ref (a), .int x] : List Value).toArray = za at F ⊢
  refine g_aload_n F dX20_tells_0 rfl rfl (np := 1) rfl ?_
  refine g_getL F in_X20 (ci := 20) rfl 4 (by decide) rfl (Or.inl q1133) (v := .ref (Λ.1 0 38)) (fun h hs => ⟨_, XH.kn hs ha, rfl⟩) dX20_tells_1 (np := 4) rfl ?_
  refine g_bipush F (v := (nI 60)) dX20_tells_4 (by decide) (np := 6) rfl ?_
  refine g_runVN F (C := RX0) (ci := 0) (T0 := TX0) (N := 38) (rest := []) (ct_X0_ran σ 60 (by first | assumption | omega)) ze1305 q1192 qs52 q100 q1193 hcS_X0_ran ⟨Nat.le_of_ble_eq_true rfl, Nat.le_of_ble_eq_true rfl⟩ rfl (fun h hs => hs.obj) rfl rfl (Nat.le_of_ble_eq_true rfl) dX20_tells_6 ⟨Nat.le_of_ble_eq_true rfl, Nat.le_of_ble_eq_true rfl⟩ (np := 9) rfl (k_RV ?_)
  refine g_aload_n F dX20_tells_9 rfl rfl (np := 10) rfl ?_
  refine g_iload_n F dX20_tells_10 rfl rfl (np := 11) rfl ?_
  refine g_runSU F (C := RX20) (owner := "PromiseRoofs$Storey") (ch := ["PromiseRoofs$Cellar", "PromiseRoofs$Storey"]) (x := ⟨"PromiseRoofs$Tower", "tells", "(I)I"⟩) (ci := 20) (T0 := TX20) (N := 5) (n := 1) (rest := []) (ct_X15_tells_5 (logS σ [60]) b a x (by show σ.1 36 + 1 ≤ _; omega) (by exact ha)) q1306 q1307 q1140 q1232 q129 q1234 ⟨q1113, ⟨q1100, rfl⟩⟩ (by decide) (by decide +kernel) ⟨Nat.le_of_ble_eq_true rfl, Nat.le_of_ble_eq_true rfl⟩ rfl (fun h hs => ⟨_, XH.kn hs ha⟩) rfl rfl (Nat.le_of_ble_eq_true rfl) dX20_tells_11 ⟨Nat.le_of_ble_eq_true rfl, Nat.le_of_ble_eq_true rfl⟩ (np := 14) rfl (k_RI ?_)
  refine WG.weak (S' := XH D Λ I L (logS σ ([60] ++ [2, 41, 30, 10, 1, 40, 11]))) (fun h hs => by rw [← logS_app]; exact hs) ?_
  refine g_iconst F (v := (nI 5)) dX20_tells_14 (by decide) (np := 15) rfl ?_
  refine g_ixor F dX20_tells_15 (np := 16) rfl ?_
  have hσ : (logS σ ([60] ++ [2, 41, 30, 10, 1, 40, 11])) = (logS σ [60, 2, 41, 30, 10, 1, 40, 11]) := by rfl
  have hv : ((-(((x + nI 1) + nI b) * nI 2)) - ((nI 1 ^^^ nI b) * nI 3)) ^^^ (nI (5)) = ((-(((x + nI 1) + nI b) * nI 2)) - ((nI 1 ^^^ nI b) * nI 3)) ^^^ nI 5 := by rfl
  exact g_iret F hr rfl (Nat.le_of_ble_eq_true rfl) (Nat.le_of_ble_eq_true rfl) dX20_tells_16 (fun h hs => by rw [← hT]; exact ⟨congrArg (fun z => some (Value.int z)) hv, (hσ ▸ hs)⟩)

set_option maxRecDepth 100000 in
theorem ct_X22_tells_7 {l : Launch} {D : va_G} {B : Nat} {Λ : LT} {I : AH} {L : LawT} (σ : MSt) (b : Nat) (a : Nat) (x : Int32) (htr : σ.1 36 ≤ 930) (ha : I a = some (bCell (Λ.1 0 38) 7 b)) : Ct l D ZE B yX22_tells cX22_tells 2 (some .int) 6 129 0 0 [.ref (a), .int x] (XH D Λ I L σ) (RI (((((x + nI b + nI 3) * nI 2) + ((nI 2 ^^^ nI b) - (nI 2 + nI b + nI 3))) - ((nI 1 ^^^ nI b) - (nI 2 + nI b + nI 3))) - nI 1) (XH D Λ I L (logS σ [81, 2, 80, 10, 20, 1, 50, 11, 20, 1, 50, 11, 20, 1]))) := by
  refine Ct.of (nL := 2) (lv := [some (.ref (a)), some (.int x)]) (by decide) (Nat.le_of_ble_eq_true rfl) stZE 0 rfl ?_
  generalize hT : RI (((((x + nI b + nI 3) * nI 2) + ((nI 2 ^^^ nI b) - (nI 2 + nI b + nI 3))) - ((nI 1 ^^^ nI b) - (nI 2 + nI b + nI 3))) - nI 1) (XH D Λ I L (logS σ [81, 2, 80, 10, 20, 1, 50, 11, 20, 1, 50, 11, 20, 1])) = T
  intro zp ze zs zm zb zt zc F hr hnm
  generalize ([.ref (a), .int x] : List Value).toArray = za at F ⊢
  refine g_aload_n F dX22_tells_0 rfl rfl (np := 1) rfl ?_
  refine g_getL F in_X22 (ci := 22) rfl 4 (by decide) rfl (Or.inl q1159) (v := .ref (Λ.1 0 38)) (fun h hs => ⟨_, XH.kn hs ha, rfl⟩) dX22_tells_1 (np := 4) rfl ?_
  refine g_bipush F (v := (nI 81)) dX22_tells_4 (by decide) (np := 6) rfl ?_
  refine g_runVN F (C := RX0) (ci := 0) (T0 := TX0) (N := 38) (rest := []) (ct_X0_ran σ 81 (by first | assumption | omega)) ze1251 q1192 qs52 q100 q1193 hcS_X0_ran ⟨Nat.le_of_ble_eq_true rfl, Nat.le_of_ble_eq_true rfl⟩ rfl (fun h hs => hs.obj) rfl rfl (Nat.le_of_ble_eq_true rfl) dX22_tells_6 ⟨Nat.le_of_ble_eq_true rfl, Nat.le_of_ble_eq_true rfl⟩ (np := 9) rfl (k_RV ?_)
  refine g_aload_n F dX22_tells_9 rfl rfl (np := 10) rfl ?_
  refine g_iload_n F dX22_tells_10 rfl rfl (np := 11) rfl ?_
  refine g_runSU F (C := RX22) (owner := "PromiseRoofs$Storey") (ch := ["PromiseRoofs$Attic", "PromiseRoofs$Storey"]) (x := ⟨"PromiseRoofs$Widow", "tells", "(I)I"⟩) (ci := 22) (T0 := TX22) (N := 5) (n := 1) (rest := []) (ct_X15_tells_7 (logS σ [81]) b a x (by show σ.1 36 + 1 ≤ _; omega) (by exact ha)) q1296 q1297 q1166 q1232 q129 q1234 ⟨q1126, ⟨q1088, rfl⟩⟩ (by decide) (by decide +kernel) ⟨Nat.le_of_ble_eq_true rfl, Nat.le_of_ble_eq_true rfl⟩ rfl (fun h hs => ⟨_, XH.kn hs ha⟩) rfl rfl (Nat.le_of_ble_eq_true rfl) dX22_tells_11 ⟨Nat.le_of_ble_eq_true rfl, Nat.le_of_ble_eq_true rfl⟩ (np := 14) rfl (k_RI ?_)
  refine WG.weak (S' := XH D Λ I L (logS σ ([81] ++ [2, 80, 10, 20, 1, 50, 11, 20, 1, 50, 11, 20, 1]))) (fun h hs => by rw [← logS_app]; exact hs) ?_
  refine g_iconst F (v := (nI 1)) dX22_tells_14 (by decide) (np := 15) rfl ?_
  refine g_isub F dX22_tells_15 (np := 16) rfl ?_
  have hσ : (logS σ ([81] ++ [2, 80, 10, 20, 1, 50, 11, 20, 1, 50, 11, 20, 1])) = (logS σ [81, 2, 80, 10, 20, 1, 50, 11, 20, 1, 50, 11, 20, 1]) := by rfl
  have hv : ((((x + nI b + nI 3) * nI 2) + ((nI 2 ^^^ nI b) - (nI 2 + nI b + nI 3))) - ((nI 1 ^^^ nI b) - (nI 2 + nI b + nI 3))) - (nI (1)) = ((((x + nI b + nI 3) * nI 2) + ((nI 2 ^^^ nI b) - (nI 2 + nI b + nI 3))) - ((nI 1 ^^^ nI b) - (nI 2 + nI b + nI 3))) - nI 1 := by rfl
  exact g_iret F hr rfl (Nat.le_of_ble_eq_true rfl) (Nat.le_of_ble_eq_true rfl) dX22_tells_16 (fun h hs => by rw [← hT]; exact ⟨congrArg (fun z => some (Value.int z)) hv, (hσ ▸ hs)⟩)
