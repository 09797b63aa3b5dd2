/-! WALKS (printed by walk.py): bitCount, lower -/
set_option maxRecDepth 100000
theorem hcV_J13_bitCount : yJ13_bitCount.cls = RJ13 ∧ yJ13_bitCount.cls ≠ "java/lang/invoke/MethodHandle" ∧ yJ13_bitCount.cls ≠ "java/lang/invoke/VarHandle" ∧ (parseMethodDescriptor yJ13_bitCount.desc).map (fun d => d.parameters.length) = some 1 := by decide +kernel
theorem hcS_J13_bitCount : yJ13_bitCount.cls ≠ "java/lang/invoke/MethodHandle" ∧ yJ13_bitCount.cls ≠ "java/lang/invoke/VarHandle" ∧ (parseMethodDescriptor yJ13_bitCount.desc).map (fun d => d.parameters.length) = some 1 := hcV_J13_bitCount.2
set_option maxRecDepth 100000 in
theorem ct_J13_bitCount {l : Launch} {D : va_G} {E : State → Prop} {B : Nat} (hE : Stab E) {S : AH → Prop}  (x : Int32) : Ct l D E B yJ13_bitCount cJ13_bitCount 1 (some .int) 0 0 0 0 [.int x] (S) (RI (jbc x) (S)) := by
  refine Ct.of (nL := 1) (lv := [some (.int x)]) (by decide) (Nat.le_of_ble_eq_true rfl) hE 0 rfl ?_
  generalize hT : RI (jbc x) (S) = T
  intro zp ze zs zm zb zt zc F hr hnm
  generalize ([.int x] : List Value).toArray = za at F ⊢
  refine g_iload_n F dJ13_bitCount_0 rfl rfl (np := 1) rfl ?_
  refine g_iload_n F dJ13_bitCount_1 rfl rfl (np := 2) rfl ?_
  refine g_iconst F (v := (nI 1)) dJ13_bitCount_2 (by decide) (np := 3) rfl ?_
  refine g_iushr F dJ13_bitCount_3 (np := 4) rfl ?_
  refine g_ldcw F q947 dJ13_bitCount_4 (np := 7) rfl ?_
  refine g_iand F dJ13_bitCount_7 (np := 8) rfl ?_
  refine g_isub F dJ13_bitCount_8 (np := 9) rfl ?_
  refine g_istore_n F (lv' := [some (.int (x - (((x.toUInt32 >>> ((nI (1)).toUInt32 &&& Int32.toUInt32 31)).toInt32) &&& 1431655765)))]) dJ13_bitCount_9 rfl (by decide) rfl rfl (np := 10) rfl ?_
  refine g_iload_n F dJ13_bitCount_10 rfl rfl (np := 11) rfl ?_
  refine g_ldcw F q948 dJ13_bitCount_11 (np := 14) rfl ?_
  refine g_iand F dJ13_bitCount_14 (np := 15) rfl ?_
  refine g_iload_n F dJ13_bitCount_15 rfl rfl (np := 16) rfl ?_
  refine g_iconst F (v := (nI 2)) dJ13_bitCount_16 (by decide) (np := 17) rfl ?_
  refine g_iushr F dJ13_bitCount_17 (np := 18) rfl ?_
  refine g_ldcw F q948 dJ13_bitCount_18 (np := 21) rfl ?_
  refine g_iand F dJ13_bitCount_21 (np := 22) rfl ?_
  refine g_iadd F dJ13_bitCount_22 (np := 23) rfl ?_
  refine g_istore_n F (lv' := [some (.int (((x - (((x.toUInt32 >>> ((nI (1)).toUInt32 &&& Int32.toUInt32 31)).toInt32) &&& 1431655765)) &&& 858993459) + ((((x - (((x.toUInt32 >>> ((nI (1)).toUInt32 &&& Int32.toUInt32 31)).toInt32) &&& 1431655765)).toUInt32 >>> ((nI (2)).toUInt32 &&& Int32.toUInt32 31)).toInt32) &&& 858993459)))]) dJ13_bitCount_23 rfl (by decide) rfl rfl (np := 24) rfl ?_
  refine g_iload_n F dJ13_bitCount_24 rfl rfl (np := 25) rfl ?_
  refine g_iload_n F dJ13_bitCount_25 rfl rfl (np := 26) rfl ?_
  refine g_iconst F (v := (nI 4)) dJ13_bitCount_26 (by decide) (np := 27) rfl ?_
  refine g_iushr F dJ13_bitCount_27 (np := 28) rfl ?_
  refine g_iadd F dJ13_bitCount_28 (np := 29) rfl ?_
  refine g_ldcw F q949 dJ13_bitCount_29 (np := 32) rfl ?_
  refine g_iand F dJ13_bitCount_32 (np := 33) rfl ?_
  refine g_istore_n F (lv' := [some (.int (((((x - (((x.toUInt32 >>> ((nI (1)).toUInt32 &&& Int32.toUInt32 31)).toInt32) &&& 1431655765)) &&& 858993459) + ((((x - (((x.toUInt32 >>> ((nI (1)).toUInt32 &&& Int32.toUInt32 31)).toInt32) &&& 1431655765)).toUInt32 >>> ((nI (2)).toUInt32 &&& Int32.toUInt32 31)).toInt32) &&& 858993459)) + (((((x - (((x.toUInt32 >>> ((nI (1)).toUInt32 &&& Int32.toUInt32 31)).toInt32) &&& 1431655765)) &&& 858993459) + ((((x - (((x.toUInt32 >>> ((nI (1)).toUInt32 &&& Int32.toUInt32 31)).toInt32) &&& 1431655765)).toUInt32 >>> ((nI (2)).toUInt32 &&& Int32.toUInt32 31)).toInt32) &&& 858993459)).toUInt32 >>> ((nI (4)).toUInt32 &&& Int32.toUInt32 31)).toInt32)) &&& 252645135))]) dJ13_bitCount_33 rfl (by decide) rfl rfl (np := 34) rfl ?_
  refine g_iload_n F dJ13_bitCount_34 rfl rfl (np := 35) rfl ?_
  refine g_iload_n F dJ13_bitCount_35 rfl rfl (np := 36) rfl ?_
  refine g_bipush F (v := (nI 8)) dJ13_bitCount_36 (by decide) (np := 38) rfl ?_
  refine g_iushr F dJ13_bitCount_38 (np := 39) rfl ?_
  refine g_iadd F dJ13_bitCount_39 (np := 40) rfl ?_
  refine g_istore_n F (lv' := [some (.int ((((((x - (((x.toUInt32 >>> ((nI (1)).toUInt32 &&& Int32.toUInt32 31)).toInt32) &&& 1431655765)) &&& 858993459) + ((((x - (((x.toUInt32 >>> ((nI (1)).toUInt32 &&& Int32.toUInt32 31)).toInt32) &&& 1431655765)).toUInt32 >>> ((nI (2)).toUInt32 &&& Int32.toUInt32 31)).toInt32) &&& 858993459)) + (((((x - (((x.toUInt32 >>> ((nI (1)).toUInt32 &&& Int32.toUInt32 31)).toInt32) &&& 1431655765)) &&& 858993459) + ((((x - (((x.toUInt32 >>> ((nI (1)).toUInt32 &&& Int32.toUInt32 31)).toInt32) &&& 1431655765)).toUInt32 >>> ((nI (2)).toUInt32 &&& Int32.toUInt32 31)).toInt32) &&& 858993459)).toUInt32 >>> ((nI (4)).toUInt32 &&& Int32.toUInt32 31)).toInt32)) &&& 252645135) + (((((((x - (((x.toUInt32 >>> ((nI (1)).toUInt32 &&& Int32.toUInt32 31)).toInt32) &&& 1431655765)) &&& 858993459) + ((((x - (((x.toUInt32 >>> ((nI (1)).toUInt32 &&& Int32.toUInt32 31)).toInt32) &&& 1431655765)).toUInt32 >>> ((nI (2)).toUInt32 &&& Int32.toUInt32 31)).toInt32) &&& 858993459)) + (((((x - (((x.toUInt32 >>> ((nI (1)).toUInt32 &&& Int32.toUInt32 31)).toInt32) &&& 1431655765)) &&& 858993459) + ((((x - (((x.toUInt32 >>> ((nI (1)).toUInt32 &&& Int32.toUInt32 31)).toInt32) &&& 1431655765)).toUInt32 >>> ((nI (2)).toUInt32 &&& Int32.toUInt32 31)).toInt32) &&& 858993459)).toUInt32 >>> ((nI (4)).toUInt32 &&& Int32.toUInt32 31)).toInt32)) &&& 252645135).toUInt32 >>> ((nI (8)).toUInt32 &&& Int32.toUInt32 31)).toInt32)))]) dJ13_bitCount_40 rfl (by decide) rfl rfl (np := 41) rfl ?_
  refine g_iload_n F dJ13_bitCount_41 rfl rfl (np := 42) rfl ?_
  refine g_iload_n F dJ13_bitCount_42 rfl rfl (np := 43) rfl ?_
  refine g_bipush F (v := (nI 16)) dJ13_bitCount_43 (by decide) (np := 45) rfl ?_
  refine g_iushr F dJ13_bitCount_45 (np := 46) rfl ?_
  refine g_iadd F dJ13_bitCount_46 (np := 47) rfl ?_
  refine g_istore_n F (lv' := [some (.int (((((((x - (((x.toUInt32 >>> ((nI (1)).toUInt32 &&& Int32.toUInt32 31)).toInt32) &&& 1431655765)) &&& 858993459) + ((((x - (((x.toUInt32 >>> ((nI (1)).toUInt32 &&& Int32.toUInt32 31)).toInt32) &&& 1431655765)).toUInt32 >>> ((nI (2)).toUInt32 &&& Int32.toUInt32 31)).toInt32) &&& 858993459)) + (((((x - (((x.toUInt32 >>> ((nI (1)).toUInt32 &&& Int32.toUInt32 31)).toInt32) &&& 1431655765)) &&& 858993459) + ((((x - (((x.toUInt32 >>> ((nI (1)).toUInt32 &&& Int32.toUInt32 31)).toInt32) &&& 1431655765)).toUInt32 >>> ((nI (2)).toUInt32 &&& Int32.toUInt32 31)).toInt32) &&& 858993459)).toUInt32 >>> ((nI (4)).toUInt32 &&& Int32.toUInt32 31)).toInt32)) &&& 252645135) + (((((((x - (((x.toUInt32 >>> ((nI (1)).toUInt32 &&& Int32.toUInt32 31)).toInt32) &&& 1431655765)) &&& 858993459) + ((((x - (((x.toUInt32 >>> ((nI (1)).toUInt32 &&& Int32.toUInt32 31)).toInt32) &&& 1431655765)).toUInt32 >>> ((nI (2)).toUInt32 &&& Int32.toUInt32 31)).toInt32) &&& 858993459)) + (((((x - (((x.toUInt32 >>> ((nI (1)).toUInt32 &&& Int32.toUInt32 31)).toInt32) &&& 1431655765)) &&& 858993459) + ((((x - (((x.toUInt32 >>> ((nI (1)).toUInt32 &&& Int32.toUInt32 31)).toInt32) &&& 1431655765)).toUInt32 >>> ((nI (2)).toUInt32 &&& Int32.toUInt32 31)).toInt32) &&& 858993459)).toUInt32 >>> ((nI (4)).toUInt32 &&& Int32.toUInt32 31)).toInt32)) &&& 252645135).toUInt32 >>> ((nI (8)).toUInt32 &&& Int32.toUInt32 31)).toInt32)) + ((((((((x - (((x.toUInt32 >>> ((nI (1)).toUInt32 &&& Int32.toUInt32 31)).toInt32) &&& 1431655765)) &&& 858993459) + ((((x - (((x.toUInt32 >>> ((nI (1)).toUInt32 &&& Int32.toUInt32 31)).toInt32) &&& 1431655765)).toUInt32 >>> ((nI (2)).toUInt32 &&& Int32.toUInt32 31)).toInt32) &&& 858993459)) + (((((x - (((x.toUInt32 >>> ((nI (1)).toUInt32 &&& Int32.toUInt32 31)).toInt32) &&& 1431655765)) &&& 858993459) + ((((x - (((x.toUInt32 >>> ((nI (1)).toUInt32 &&& Int32.toUInt32 31)).toInt32) &&& 1431655765)).toUInt32 >>> ((nI (2)).toUInt32 &&& Int32.toUInt32 31)).toInt32) &&& 858993459)).toUInt32 >>> ((nI (4)).toUInt32 &&& Int32.toUInt32 31)).toInt32)) &&& 252645135) + (((((((x - (((x.toUInt32 >>> ((nI (1)).toUInt32 &&& Int32.toUInt32 31)).toInt32) &&& 1431655765)) &&& 858993459) + ((((x - (((x.toUInt32 >>> ((nI (1)).toUInt32 &&& Int32.toUInt32 31)).toInt32) &&& 1431655765)).toUInt32 >>> ((nI (2)).toUInt32 &&& Int32.toUInt32 31)).toInt32) &&& 858993459)) + (((((x - (((x.toUInt32 >>> ((nI (1)).toUInt32 &&& Int32.toUInt32 31)).toInt32) &&& 1431655765)) &&& 858993459) + ((((x - (((x.toUInt32 >>> ((nI (1)).toUInt32 &&& Int32.toUInt32 31)).toInt32) &&& 1431655765)).toUInt32 >>> ((nI (2)).toUInt32 &&& Int32.toUInt32 31)).toInt32) &&& 858993459)).toUInt32 >>> ((nI (4)).toUInt32 &&& Int32.toUInt32 31)).toInt32)) &&& 252645135).toUInt32 >>> ((nI (8)).toUInt32 &&& Int32.toUInt32 31)).toInt32)).toUInt32 >>> ((nI (16)).toUInt32 &&& Int32.toUInt32 31)).toInt32)))]) dJ13_bitCount_47 rfl (by decide) rfl rfl (np := 48) rfl ?_
  refine g_iload_n F dJ13_bitCount_48 rfl rfl (np := 49) rfl ?_
  refine g_bipush F (v := (nI 63)) dJ13_bitCount_49 (by decide) (np := 51) rfl ?_
  refine g_iand F dJ13_bitCount_51 (np := 52) rfl ?_
  have hv : (((((((x - (((x.toUInt32 >>> ((nI (1)).toUInt32 &&& Int32.toUInt32 31)).toInt32) &&& 1431655765)) &&& 858993459) + ((((x - (((x.toUInt32 >>> ((nI (1)).toUInt32 &&& Int32.toUInt32 31)).toInt32) &&& 1431655765)).toUInt32 >>> ((nI (2)).toUInt32 &&& Int32.toUInt32 31)).toInt32) &&& 858993459)) + (((((x - (((x.toUInt32 >>> ((nI (1)).toUInt32 &&& Int32.toUInt32 31)).toInt32) &&& 1431655765)) &&& 858993459) + ((((x - (((x.toUInt32 >>> ((nI (1)).toUInt32 &&& Int32.toUInt32 31)).toInt32) &&& 1431655765)).toUInt32 >>> ((nI (2)).toUInt32 &&& Int32.toUInt32 31)).toInt32) &&& 858993459)).toUInt32 >>> ((nI (4)).toUInt32 &&& Int32.toUInt32 31)).toInt32)) &&& 252645135) + (((((((x - (((x.toUInt32 >>> ((nI (1)).toUInt32 &&& Int32.toUInt32 31)).toInt32) &&& 1431655765)) &&& 858993459) + ((((x - (((x.toUInt32 >>> ((nI (1)).toUInt32 &&& Int32.toUInt32 31)).toInt32) &&& 1431655765)).toUInt32 >>> ((nI (2)).toUInt32 &&& Int32.toUInt32 31)).toInt32) &&& 858993459)) + (((((x - (((x.toUInt32 >>> ((nI (1)).toUInt32 &&& Int32.toUInt32 31)).toInt32) &&& 1431655765)) &&& 858993459) + ((((x - (((x.toUInt32 >>> ((nI (1)).toUInt32 &&& Int32.toUInt32 31)).toInt32) &&& 1431655765)).toUInt32 >>> ((nI (2)).toUInt32 &&& Int32.toUInt32 31)).toInt32) &&& 858993459)).toUInt32 >>> ((nI (4)).toUInt32 &&& Int32.toUInt32 31)).toInt32)) &&& 252645135).toUInt32 >>> ((nI (8)).toUInt32 &&& Int32.toUInt32 31)).toInt32)) + ((((((((x - (((x.toUInt32 >>> ((nI (1)).toUInt32 &&& Int32.toUInt32 31)).toInt32) &&& 1431655765)) &&& 858993459) + ((((x - (((x.toUInt32 >>> ((nI (1)).toUInt32 &&& Int32.toUInt32 31)).toInt32) &&& 1431655765)).toUInt32 >>> ((nI (2)).toUInt32 &&& Int32.toUInt32 31)).toInt32) &&& 858993459)) + (((((x - (((x.toUInt32 >>> ((nI (1)).toUInt32 &&& Int32.toUInt32 31)).toInt32) &&& 1431655765)) &&& 858993459) + ((((x - (((x.toUInt32 >>> ((nI (1)).toUInt32 &&& Int32.toUInt32 31)).toInt32) &&& 1431655765)).toUInt32 >>> ((nI (2)).toUInt32 &&& Int32.toUInt32 31)).toInt32) &&& 858993459)).toUInt32 >>> ((nI (4)).toUInt32 &&& Int32.toUInt32 31)).toInt32)) &&& 252645135) + (((((((x - (((x.toUInt32 >>> ((nI (1)).toUInt32 &&& Int32.toUInt32 31)).toInt32) &&& 1431655765)) &&& 858993459) + ((((x - (((x.toUInt32 >>> ((nI (1)).toUInt32 &&& Int32.toUInt32 31)).toInt32) &&& 1431655765)).toUInt32 >>> ((nI (2)).toUInt32 &&& Int32.toUInt32 31)).toInt32) &&& 858993459)) + (((((x - (((x.toUInt32 >>> ((nI (1)).toUInt32 &&& Int32.toUInt32 31)).toInt32) &&& 1431655765)) &&& 858993459) + ((((x - (((x.toUInt32 >>> ((nI (1)).toUInt32 &&& Int32.toUInt32 31)).toInt32) &&& 1431655765)).toUInt32 >>> ((nI (2)).toUInt32 &&& Int32.toUInt32 31)).toInt32) &&& 858993459)).toUInt32 >>> ((nI (4)).toUInt32 &&& Int32.toUInt32 31)).toInt32)) &&& 252645135).toUInt32 >>> ((nI (8)).toUInt32 &&& Int32.toUInt32 31)).toInt32)).toUInt32 >>> ((nI (16)).toUInt32 &&& Int32.toUInt32 31)).toInt32)) &&& (nI (63)) = jbc x := by rfl
  exact g_iret F hr rfl (Nat.le_of_ble_eq_true rfl) (Nat.le_of_ble_eq_true rfl) dJ13_bitCount_52 (fun h hs => by rw [← hT]; exact ⟨congrArg (fun z => some (Value.int z)) hv, hs⟩)

set_option maxRecDepth 100000 in
theorem ct_X2_lower {l : Launch} {D : va_G} {E : State → Prop} {B : Nat} (hE : Stab E) {ad : Nat → Nat} {h0 : AH} (σ : MSt) (L : LawT) (o : Int32) (x : Int32) (w : Int32) (hok : mOK σ L) (hm14 : σ.1 2 ≤ 14) : Ct l D E B yX2_lower cX2_lower 10 (some .int) 7 161 0 0 [.ref (ad 0), .int o, .int x, .int w] (MH D ad h0 σ) (RI (rLower (mV σ L) (σ.1 6) (σ.1 0) o x w) (MH D ad h0 σ)) := by
  refine Ct.of (nL := 10) (lv := [some (.ref (ad 0)), some (.int o), some (.int x), some (.int w), none, none, none, none, none, none]) (by decide) (Nat.le_of_ble_eq_true rfl) hE 6 rfl ?_
  generalize hT : RI (rLower (mV σ L) (σ.1 6) (σ.1 0) o x w) (MH D ad h0 σ) = T
  intro zp ze zs zm zb zt zc F hr hnm
  generalize ([.ref (ad 0), .int o, .int x, .int w] : List Value).toArray = za at F ⊢
  have hok2 := hok
  obtain ⟨ho8, hm15, ht99, hby, hlaw⟩ := hok2
  refine g_aload_n F dX2_lower_0 rfl rfl (np := 1) rfl ?_
  refine g_iload_n F dX2_lower_1 rfl rfl (np := 2) rfl ?_
  refine g_runV F (C := RX2) (ci := 2) (T0 := TX2) (N := 42) (rest := []) (ct_X2_isOwner hE σ o (by first | assumption | omega)) (lw_V q1688 q1690 qs54 q102 q1691) hcV_X2_isOwner ⟨Nat.le_of_ble_eq_true rfl, Nat.le_of_ble_eq_true rfl⟩ rfl (fun h hs => hs.obj) rfl rfl (Nat.le_of_ble_eq_true rfl) dX2_lower_2 ⟨Nat.le_of_ble_eq_true rfl, Nat.le_of_ble_eq_true rfl⟩ (np := 5) rfl (k_RI ?_)
  refine g_if_eqB F dX2_lower_5 (tp := 27) (by decide) (np := 8) rfl (fun c5 => ?_) (fun c5 => ?_)
  · refine g_iconst F (v := (-1)) dX2_lower_27 (by decide) (np := 28) rfl ?_
    have hv : -1 = rLower (mV σ L) (σ.1 6) (σ.1 0) o x w := by unfold rLower; rw [pif_f (fun z => by obtain ⟨z1, z2, z3⟩ := z; first | exact c5 z1 | exact c15 (bt9.mpr z2) | exact c24 (bt2.mpr z3))]
    exact g_iret F hr rfl (Nat.le_of_ble_eq_true rfl) (Nat.le_of_ble_eq_true rfl) dX2_lower_28 (fun h hs => by rw [← hT]; exact ⟨congrArg (fun z => some (Value.int z)) hv, hs⟩)
  · refine g_iload_n F dX2_lower_8 rfl rfl (np := 9) rfl ?_
    refine g_iconst F (v := (nI 0)) dX2_lower_9 (by decide) (np := 10) rfl ?_
    refine g_bipush F (v := (nI 9)) dX2_lower_10 (by decide) (np := 12) rfl ?_
    refine g_runS F (rest := []) (ct_X2_within hE x (nI (0)) (nI (9)) ) (lw_S q1677 q1678 q102 q1679) hcS_X2_within ⟨Nat.le_of_ble_eq_true rfl, Nat.le_of_ble_eq_true rfl⟩ rfl rfl (Nat.le_of_ble_eq_true rfl) dX2_lower_12 ⟨Nat.le_of_ble_eq_true rfl, Nat.le_of_ble_eq_true rfl⟩ (np := 15) rfl (k_RI ?_)
    refine g_if_eqB F dX2_lower_15 (tp := 27) (by decide) (np := 18) rfl (fun c15 => ?_) (fun c15 => ?_)
    · refine g_iconst F (v := (-1)) dX2_lower_27 (by decide) (np := 28) rfl ?_
      have hv : -1 = rLower (mV σ L) (σ.1 6) (σ.1 0) o x w := by unfold rLower; rw [pif_f (fun z => by obtain ⟨z1, z2, z3⟩ := z; first | exact c5 z1 | exact c15 (bt9.mpr z2) | exact c24 (bt2.mpr z3))]
      exact g_iret F hr rfl (Nat.le_of_ble_eq_true rfl) (Nat.le_of_ble_eq_true rfl) dX2_lower_28 (fun h hs => by rw [← hT]; exact ⟨congrArg (fun z => some (Value.int z)) hv, hs⟩)
    · refine g_iload_n F dX2_lower_18 rfl rfl (np := 19) rfl ?_
      refine g_iconst F (v := (nI 0)) dX2_lower_19 (by decide) (np := 20) rfl ?_
      refine g_iconst F (v := (nI 2)) dX2_lower_20 (by decide) (np := 21) rfl ?_
      refine g_runS F (rest := []) (ct_X2_within hE w (nI (0)) (nI (2)) ) (lw_S q1677 q1678 q102 q1679) hcS_X2_within ⟨Nat.le_of_ble_eq_true rfl, Nat.le_of_ble_eq_true rfl⟩ rfl rfl (Nat.le_of_ble_eq_true rfl) dX2_lower_21 ⟨Nat.le_of_ble_eq_true rfl, Nat.le_of_ble_eq_true rfl⟩ (np := 24) rfl (k_RI ?_)
      refine g_if_neB F dX2_lower_24 (tp := 29) (by decide) (np := 27) rfl (fun c24 => ?_) (fun c24 => ?_)
      · refine g_iconst F (v := (nI 0)) dX2_lower_29 (by decide) (np := 30) rfl ?_
        refine g_istore F (lv' := [some (.ref (ad 0)), some (.int o), some (.int x), some (.int w), some (.int (nI 0)), none, none, none, none, none]) dX2_lower_30 (by decide) rfl rfl (np := 32) rfl ?_
        refine g_iconst F (v := (nI 0)) dX2_lower_32 (by decide) (np := 33) rfl ?_
        refine g_istore F (lv' := [some (.ref (ad 0)), some (.int o), some (.int x), some (.int w), some (.int (nI 0)), some (.int (nI 0)), none, none, none, none]) dX2_lower_33 (by decide) rfl rfl (np := 35) rfl ?_
        have L35 : ∀ (zn : Nat) (a : Int32) (p : Nat), (a = sMay (mP σ) (σ.1 6) o p) → (p ≤ σ.1 2) → σ.1 2 - p < zn → WG zp l ze ({ frames := 7, cells := 0, slots := 0, locals := 161 } : Room) zs zm za zb zt zc D B 10 (MQ zb (QT D B T) za zs 0 0 (zA B)) (MH D ad h0 σ) 0 0 35 [some (.ref (ad 0)), some (.int o), some (.int x), some (.int w), some (.int a), some (.int (nI p)), none, none, none, none] [] := by
          intro zn
          induction zn with
          | zero => intro a p h1 h2 hm; exact absurd hm (Nat.not_lt_zero _)
          | succ zn ih35 =>
            intro a p h1 h2 hm
            refine g_iload F dX2_lower_35 rfl (np := 37) rfl ?_
            refine g_aload_n F dX2_lower_37 rfl rfl (np := 38) rfl ?_
            refine h_get F (k := 2) (v := .int (nI (σ.1 2))) (by decide) rfl q1548 dX2_lower_38 (np := 41) rfl ?_
            refine g_icmp_geN F (by omega) (by omega) dX2_lower_41 (tp := 83) (by decide) (np := 44) rfl (fun c41 => ?_) (fun c41 => ?_)
            · have hmay : sMay (mP σ) (σ.1 6) o (σ.1 2) = a := by rw [h1, show p = σ.1 2 by omega]
              have hT14 : 2 ^ σ.1 2 ≤ 2 ^ 14 := Nat.pow_le_pow_right (by decide) hm14
              refine g_bipush F (v := (-2)) dX2_lower_83 (by decide) (np := 85) rfl ?_
              refine g_istore F (lv' := [some (.ref (ad 0)), some (.int o), some (.int x), some (.int w), some (.int a), some (.int (-2)), none, none, none, none]) dX2_lower_85 (by decide) rfl rfl (np := 87) rfl ?_
              refine g_bipush F (v := (-2)) dX2_lower_87 (by decide) (np := 89) rfl ?_
              refine g_istore F (lv' := [some (.ref (ad 0)), some (.int o), some (.int x), some (.int w), some (.int a), some (.int (-2)), some (.int (-2)), none, none, none]) dX2_lower_89 (by decide) rfl rfl (np := 91) rfl ?_
              refine g_iconst F (v := (nI 0)) dX2_lower_91 (by decide) (np := 92) rfl ?_
              refine g_istore F (lv' := [some (.ref (ad 0)), some (.int o), some (.int x), some (.int w), some (.int a), some (.int (-2)), some (.int (-2)), some (.int (nI 0)), none, none]) dX2_lower_92 (by decide) rfl rfl (np := 94) rfl ?_
              have L94 : ∀ (zn : Nat) (f : Int32) (c : Int32) (q : Nat), (f = (lowP (fun z => sWorth (mP σ) z (σ.1 2)) (lowK (mV σ L) (σ.1 6) o x) q).1) → (c = (lowP (fun z => sWorth (mP σ) z (σ.1 2)) (lowK (mV σ L) (σ.1 6) o x) q).2) → (q ≤ 2 ^ σ.1 2) → 2 ^ σ.1 2 - q < zn → WG zp l ze ({ frames := 7, cells := 0, slots := 0, locals := 161 } : Room) zs zm za zb zt zc D B 10 (MQ zb (QT D B T) za zs 0 0 (zA B)) (MH D ad h0 σ) 0 0 94 [some (.ref (ad 0)), some (.int o), some (.int x), some (.int w), some (.int a), some (.int f), some (.int c), some (.int (nI q)), none, none] [] := by
                intro zn
                induction zn with
                | zero => intro f c q g1 g2 g3 hm; exact absurd hm (Nat.not_lt_zero _)
                | succ zn ih94 =>
                  intro f c q g1 g2 g3 hm
                  refine g_iload F dX2_lower_94 rfl (np := 96) rfl ?_
                  refine g_iconst F (v := (nI 1)) dX2_lower_96 (by decide) (np := 97) rfl ?_
                  refine g_aload_n F dX2_lower_97 rfl rfl (np := 98) rfl ?_
                  refine h_get F (k := 2) (v := .int (nI (σ.1 2))) (by decide) rfl q1548 dX2_lower_98 (np := 101) rfl ?_
                  refine g_ishl F dX2_lower_101 (np := 102) rfl ?_
                  refine WG.eqv (st' := [.int (nI (2 ^ σ.1 2)), .int (nI q)]) (congrArg (fun z => ([.int z, .int (nI q)] : List Value)) (show ((nI (1)) <<< ((nI (σ.1 2)) &&& 31)) = (nI (2 ^ σ.1 2)) from by exact shl_nI (by omega))) rfl ?_
                  refine g_icmp_geN F (by omega) (by omega) dX2_lower_102 (tp := 210) (by decide) (np := 105) rfl (fun c102 => ?_) (fun c102 => ?_)
                  · have hq : q = 2 ^ σ.1 2 := by omega
                    refine g_iload_n F dX2_lower_210 rfl rfl (np := 211) rfl ?_
                    refine g_iconst F (v := (nI 2)) dX2_lower_211 (by decide) (np := 212) rfl ?_
                    refine g_icmp_ne F dX2_lower_212 (tp := 220) (by decide) (np := 215) rfl (fun c212 => ?_) (fun c212 => ?_)
                    · refine g_iload_n F dX2_lower_220 rfl rfl (np := 221) rfl ?_
                      refine g_iconst F (v := (nI 1)) dX2_lower_221 (by decide) (np := 222) rfl ?_
                      refine g_icmp_eq F dX2_lower_222 (tp := 232) (by decide) (np := 225) rfl (fun c222 => ?_) (fun c222 => ?_)
                      · refine g_iload F dX2_lower_232 rfl (np := 234) rfl ?_
                        refine g_goto F dX2_lower_234 (np := 242) (by decide) ?_
                        have hv : f = rLower (mV σ L) (σ.1 6) (σ.1 0) o x w := by unfold rLower; rw [pif_t ⟨c5, bt9.mp c15, bt2.mp c24⟩]; unfold lowR; rw [hq] at g1 g2; first | (rw [if_pos c212]; exact g2) | (rw [if_neg c212, if_pos (Or.inl c222)]; exact g1) | (rw [if_neg c212]; exact g1.trans (if_pos (Or.inr (g1.symm.trans c229))).symm) | (rw [if_neg c212, if_neg (fun z => z.elim c222 (fun z => c229 (g1.trans z)))]; exact congrArg jbc g1)
                        exact g_iret F hr rfl (Nat.le_of_ble_eq_true rfl) (Nat.le_of_ble_eq_true rfl) dX2_lower_242 (fun h hs => by rw [← hT]; exact ⟨congrArg (fun z => some (Value.int z)) hv, hs⟩)
                      · refine g_iload F dX2_lower_225 rfl (np := 227) rfl ?_
                        refine g_bipush F (v := (-2)) dX2_lower_227 (by decide) (np := 229) rfl ?_
                        refine g_icmp_ne F dX2_lower_229 (tp := 237) (by decide) (np := 232) rfl (fun c229 => ?_) (fun c229 => ?_)
                        · refine g_iload F dX2_lower_237 rfl (np := 239) rfl ?_
                          refine g_runS F (rest := []) (ct_J13_bitCount hE f ) (lw_S q1892 q945 q127 q946) hcS_J13_bitCount ⟨Nat.le_of_ble_eq_true rfl, Nat.le_of_ble_eq_true rfl⟩ rfl rfl (Nat.le_of_ble_eq_true rfl) dX2_lower_239 ⟨Nat.le_of_ble_eq_true rfl, Nat.le_of_ble_eq_true rfl⟩ (np := 242) rfl (k_RI ?_)
                          have hv : jbc f = rLower (mV σ L) (σ.1 6) (σ.1 0) o x w := by unfold rLower; rw [pif_t ⟨c5, bt9.mp c15, bt2.mp c24⟩]; unfold lowR; rw [hq] at g1 g2; first | (rw [if_pos c212]; exact g2) | (rw [if_neg c212, if_pos (Or.inl c222)]; exact g1) | (rw [if_neg c212]; exact g1.trans (if_pos (Or.inr (g1.symm.trans c229))).symm) | (rw [if_neg c212, if_neg (fun z => z.elim c222 (fun z => c229 (g1.trans z)))]; exact congrArg jbc g1)
                          exact g_iret F hr rfl (Nat.le_of_ble_eq_true rfl) (Nat.le_of_ble_eq_true rfl) dX2_lower_242 (fun h hs => by rw [← hT]; exact ⟨congrArg (fun z => some (Value.int z)) hv, hs⟩)
                        · refine g_iload F dX2_lower_232 rfl (np := 234) rfl ?_
                          refine g_goto F dX2_lower_234 (np := 242) (by decide) ?_
                          have hv : f = rLower (mV σ L) (σ.1 6) (σ.1 0) o x w := by unfold rLower; rw [pif_t ⟨c5, bt9.mp c15, bt2.mp c24⟩]; unfold lowR; rw [hq] at g1 g2; first | (rw [if_pos c212]; exact g2) | (rw [if_neg c212, if_pos (Or.inl c222)]; exact g1) | (rw [if_neg c212]; exact g1.trans (if_pos (Or.inr (g1.symm.trans c229))).symm) | (rw [if_neg c212, if_neg (fun z => z.elim c222 (fun z => c229 (g1.trans z)))]; exact congrArg jbc g1)
                          exact g_iret F hr rfl (Nat.le_of_ble_eq_true rfl) (Nat.le_of_ble_eq_true rfl) dX2_lower_242 (fun h hs => by rw [← hT]; exact ⟨congrArg (fun z => some (Value.int z)) hv, hs⟩)
                    · refine g_iload F dX2_lower_215 rfl (np := 217) rfl ?_
                      refine g_goto F dX2_lower_217 (np := 242) (by decide) ?_
                      have hv : c = rLower (mV σ L) (σ.1 6) (σ.1 0) o x w := by unfold rLower; rw [pif_t ⟨c5, bt9.mp c15, bt2.mp c24⟩]; unfold lowR; rw [hq] at g1 g2; first | (rw [if_pos c212]; exact g2) | (rw [if_neg c212, if_pos (Or.inl c222)]; exact g1) | (rw [if_neg c212]; exact g1.trans (if_pos (Or.inr (g1.symm.trans c229))).symm) | (rw [if_neg c212, if_neg (fun z => z.elim c222 (fun z => c229 (g1.trans z)))]; exact congrArg jbc g1)
                      exact g_iret F hr rfl (Nat.le_of_ble_eq_true rfl) (Nat.le_of_ble_eq_true rfl) dX2_lower_242 (fun h hs => by rw [← hT]; exact ⟨congrArg (fun z => some (Value.int z)) hv, hs⟩)
                  · refine g_iload F dX2_lower_105 rfl (np := 107) rfl ?_
                    refine g_iload F dX2_lower_107 rfl (np := 109) rfl ?_
                    refine g_iconst F (v := (-1)) dX2_lower_109 (by decide) (np := 110) rfl ?_
                    refine g_ixor F dX2_lower_110 (np := 111) rfl ?_
                    refine g_iand F dX2_lower_111 (np := 112) rfl ?_
                    refine g_if_ne F dX2_lower_112 (tp := 204) (by decide) (np := 115) rfl (fun c112 => ?_) (fun c112 => ?_)
                    · refine g_iinc F (v := (nI (q + 1))) (lv' := [some (.ref (ad 0)), some (.int o), some (.int x), some (.int w), some (.int a), some (.int f), some (.int c), some (.int (nI (q + 1))), none, none]) dX2_lower_204 rfl (nI_add _ _) (by decide) rfl rfl (np := 207) rfl ?_
                      refine g_goto F dX2_lower_207 (np := 94) (by decide) ?_
                      exact ih94 f c (q + 1) (by first | (rw [lowP_f (fun z => c112 (hmay ▸ z.1))]; exact g1) | (rw [lowP_f (fun z => c123 z.2)]; exact g1) | (rw [lowP_t hK, ← g1]; exact hf1)) (by first | (rw [lowP_f (fun z => c112 (hmay ▸ z.1))]; exact g2) | (rw [lowP_f (fun z => c123 z.2)]; exact g2) | (rw [lowP_t hK, ← g2]; exact hc1)) (by omega) (by omega)
                    · have hz : ∀ p, p < σ.1 2 → jbit (nI q) p → mP σ p 6 = 0 := fun p hp hj => ((sMay_bit (σ.1 2) (by omega) p (by omega)).mp (hmay.symm ▸ sub_bit c112 (by omega) hj)).2.2.1.1
                      refine g_aload_n F dX2_lower_115 rfl rfl (np := 116) rfl ?_
                      refine g_iload_n F dX2_lower_116 rfl rfl (np := 117) rfl ?_
                      refine g_iload F dX2_lower_117 rfl (np := 119) rfl ?_
                      refine g_runV F (C := RX2) (ci := 2) (T0 := TX2) (N := 42) (rest := []) (ct_X2_highWithout hE σ L o (nI (q)) (by exact hok) (by exact hz)) (lw_V q1884 q1886 qs83 q102 q1887) hcV_X2_highWithout ⟨Nat.le_of_ble_eq_true rfl, Nat.le_of_ble_eq_true rfl⟩ rfl (fun h hs => hs.obj) rfl rfl (Nat.le_of_ble_eq_true rfl) dX2_lower_119 ⟨Nat.le_of_ble_eq_true rfl, Nat.le_of_ble_eq_true rfl⟩ (np := 122) rfl (k_RI ?_)
                      refine g_iload_n F dX2_lower_122 rfl rfl (np := 123) rfl ?_
                      refine g_icmp_le F dX2_lower_123 (tp := 129) (by decide) (np := 126) rfl (fun c123 => ?_) (fun c123 => ?_)
                      · have hK : (lowK (mV σ L) (σ.1 6) o x) (nI q) := ⟨by show nI q &&& (sMay (mP σ) (σ.1 6) o (σ.1 2) ^^^ -1) = 0; rw [hmay]; exact c112, c123⟩
                        refine g_aload_n F dX2_lower_129 rfl rfl (np := 130) rfl ?_
                        refine g_iload F dX2_lower_130 rfl (np := 132) rfl ?_
                        refine g_runV F (C := RX2) (ci := 2) (T0 := TX2) (N := 42) (rest := []) (ct_X2_worthOf hE σ (nI (q)) (by first | assumption | omega)) (lw_V q1888 q1890 qs84 q102 q1891) hcV_X2_worthOf ⟨Nat.le_of_ble_eq_true rfl, Nat.le_of_ble_eq_true rfl⟩ rfl (fun h hs => hs.obj) rfl rfl (Nat.le_of_ble_eq_true rfl) dX2_lower_132 ⟨Nat.le_of_ble_eq_true rfl, Nat.le_of_ble_eq_true rfl⟩ (np := 135) rfl (k_RI ?_)
                        refine g_istore F (lv' := [some (.ref (ad 0)), some (.int o), some (.int x), some (.int w), some (.int a), some (.int f), some (.int c), some (.int (nI q)), some (.int (sWorth (mP σ) (nI (q)) (σ.1 2))), none]) dX2_lower_135 (by decide) rfl rfl (np := 137) rfl ?_
                        have J155 : ∀ (c1 : Int32), (c1 = lowC (fun z => sWorth (mP σ) z (σ.1 2)) c (nI q)) → WG zp l ze ({ frames := 7, cells := 0, slots := 0, locals := 161 } : Room) zs zm za zb zt zc D B 10 (MQ zb (QT D B T) za zs 0 0 (zA B)) (MH D ad h0 σ) 0 0 155 [some (.ref (ad 0)), some (.int o), some (.int x), some (.int w), some (.int a), some (.int f), some (.int c1), some (.int (nI q)), some (.int (sWorth (mP σ) (nI (q)) (σ.1 2))), none] [] := by
                          intro c1 hc1
                          have J177 : ∀ (ls : Int32), (ls = lessV f (nI q)) → WG zp l ze ({ frames := 7, cells := 0, slots := 0, locals := 161 } : Room) zs zm za zb zt zc D B 10 (MQ zb (QT D B T) za zs 0 0 (zA B)) (MH D ad h0 σ) 0 0 177 [some (.ref (ad 0)), some (.int o), some (.int x), some (.int w), some (.int a), some (.int f), some (.int c1), some (.int (nI q)), some (.int (sWorth (mP σ) (nI (q)) (σ.1 2))), none] [.int ls] := by
                            intro ls hls
                            refine g_istore F (lv' := [some (.ref (ad 0)), some (.int o), some (.int x), some (.int w), some (.int a), some (.int f), some (.int c1), some (.int (nI q)), some (.int (sWorth (mP σ) (nI (q)) (σ.1 2))), some (.int ls)]) dX2_lower_177 (by decide) rfl rfl (np := 179) rfl ?_
                            have J204 : ∀ (f1 : Int32), (f1 = lowF (fun z => sWorth (mP σ) z (σ.1 2)) f (nI q)) → WG zp l ze ({ frames := 7, cells := 0, slots := 0, locals := 161 } : Room) zs zm za zb zt zc D B 10 (MQ zb (QT D B T) za zs 0 0 (zA B)) (MH D ad h0 σ) 0 0 204 [some (.ref (ad 0)), some (.int o), some (.int x), some (.int w), some (.int a), some (.int f1), some (.int c1), some (.int (nI q)), some (.int (sWorth (mP σ) (nI (q)) (σ.1 2))), some (.int ls)] [] := by
                              intro f1 hf1
                              refine g_iinc F (v := (nI (q + 1))) (lv' := [some (.ref (ad 0)), some (.int o), some (.int x), some (.int w), some (.int a), some (.int f1), some (.int c1), some (.int (nI (q + 1))), some (.int (sWorth (mP σ) (nI (q)) (σ.1 2))), some (.int ls)]) dX2_lower_204 rfl (nI_add _ _) (by decide) rfl rfl (np := 207) rfl ?_
                              refine g_goto F dX2_lower_207 (np := 94) (by decide) ?_
                              refine WG.dropL (i := 8) (lv' := [some (.ref (ad 0)), some (.int o), some (.int x), some (.int w), some (.int a), some (.int f1), some (.int c1), some (.int (nI (q + 1))), none, some (.int ls)]) rfl ?_
                              refine WG.dropL (i := 9) (lv' := [some (.ref (ad 0)), some (.int o), some (.int x), some (.int w), some (.int a), some (.int f1), some (.int c1), some (.int (nI (q + 1))), none, none]) rfl ?_
                              exact ih94 f1 c1 (q + 1) (by first | (rw [lowP_f (fun z => c112 (hmay ▸ z.1))]; exact g1) | (rw [lowP_f (fun z => c123 z.2)]; exact g1) | (rw [lowP_t hK, ← g1]; exact hf1)) (by first | (rw [lowP_f (fun z => c112 (hmay ▸ z.1))]; exact g2) | (rw [lowP_f (fun z => c123 z.2)]; exact g2) | (rw [lowP_t hK, ← g2]; exact hc1)) (by omega) (by omega)
                            refine g_iload F dX2_lower_179 rfl (np := 181) rfl ?_
                            refine g_if_lt F dX2_lower_181 (tp := 200) (by decide) (np := 184) rfl (fun c181 => ?_) (fun c181 => ?_)
                            · refine g_iload F dX2_lower_200 rfl (np := 202) rfl ?_
                              refine g_istore F (lv' := [some (.ref (ad 0)), some (.int o), some (.int x), some (.int w), some (.int a), some (.int (nI q)), some (.int c1), some (.int (nI q)), some (.int (sWorth (mP σ) (nI (q)) (σ.1 2))), some (.int ls)]) dX2_lower_202 (by decide) rfl rfl (np := 204) rfl ?_
                              exact J204 (nI (q)) (by unfold lowF; rw [← hls]; first | (rw [if_pos (Or.inl c181)]; done) | (rw [if_neg (fun z => z.elim c181 (fun z => c186 z.1))]; done) | (rw [if_pos (Or.inr ⟨c186, by first | exact Int32.not_le.mp c197 | exact c197⟩)]; done) | (rw [if_neg (fun z => z.elim c181 (fun z => by first | exact Int32.not_lt.mpr c197 z.2 | exact c197 z.2))]; done))
                            · refine g_iload F dX2_lower_184 rfl (np := 186) rfl ?_
                              refine g_if_ne F dX2_lower_186 (tp := 204) (by decide) (np := 189) rfl (fun c186 => ?_) (fun c186 => ?_)
                              · exact J204 f (by unfold lowF; rw [← hls]; first | (rw [if_pos (Or.inl c181)]; done) | (rw [if_neg (fun z => z.elim c181 (fun z => c186 z.1))]; done) | (rw [if_pos (Or.inr ⟨c186, by first | exact Int32.not_le.mp c197 | exact c197⟩)]; done) | (rw [if_neg (fun z => z.elim c181 (fun z => by first | exact Int32.not_lt.mpr c197 z.2 | exact c197 z.2))]; done))
                              · refine g_iload F dX2_lower_189 rfl (np := 191) rfl ?_
                                refine g_aload_n F dX2_lower_191 rfl rfl (np := 192) rfl ?_
                                refine g_iload F dX2_lower_192 rfl (np := 194) rfl ?_
                                refine g_runV F (C := RX2) (ci := 2) (T0 := TX2) (N := 42) (rest := [.int (sWorth (mP σ) (nI (q)) (σ.1 2))]) (ct_X2_worthOf hE σ f (by first | assumption | omega)) (lw_V q1888 q1890 qs84 q102 q1891) hcV_X2_worthOf ⟨Nat.le_of_ble_eq_true rfl, Nat.le_of_ble_eq_true rfl⟩ rfl (fun h hs => hs.obj) rfl rfl (Nat.le_of_ble_eq_true rfl) dX2_lower_194 ⟨Nat.le_of_ble_eq_true rfl, Nat.le_of_ble_eq_true rfl⟩ (np := 197) rfl (k_RI ?_)
                                refine g_icmp_ge F dX2_lower_197 (tp := 204) (by decide) (np := 200) rfl (fun c197 => ?_) (fun c197 => ?_)
                                · exact J204 f (by unfold lowF; rw [← hls]; first | (rw [if_pos (Or.inl c181)]; done) | (rw [if_neg (fun z => z.elim c181 (fun z => c186 z.1))]; done) | (rw [if_pos (Or.inr ⟨c186, by first | exact Int32.not_le.mp c197 | exact c197⟩)]; done) | (rw [if_neg (fun z => z.elim c181 (fun z => by first | exact Int32.not_lt.mpr c197 z.2 | exact c197 z.2))]; done))
                                · refine g_iload F dX2_lower_200 rfl (np := 202) rfl ?_
                                  refine g_istore F (lv' := [some (.ref (ad 0)), some (.int o), some (.int x), some (.int w), some (.int a), some (.int (nI q)), some (.int c1), some (.int (nI q)), some (.int (sWorth (mP σ) (nI (q)) (σ.1 2))), some (.int ls)]) dX2_lower_202 (by decide) rfl rfl (np := 204) rfl ?_
                                  exact J204 (nI (q)) (by unfold lowF; rw [← hls]; first | (rw [if_pos (Or.inl c181)]; done) | (rw [if_neg (fun z => z.elim c181 (fun z => c186 z.1))]; done) | (rw [if_pos (Or.inr ⟨c186, by first | exact Int32.not_le.mp c197 | exact c197⟩)]; done) | (rw [if_neg (fun z => z.elim c181 (fun z => by first | exact Int32.not_lt.mpr c197 z.2 | exact c197 z.2))]; done))
                          refine g_iload F dX2_lower_155 rfl (np := 157) rfl ?_
                          refine g_bipush F (v := (-2)) dX2_lower_157 (by decide) (np := 159) rfl ?_
                          refine g_icmp_ne F dX2_lower_159 (tp := 166) (by decide) (np := 162) rfl (fun c159 => ?_) (fun c159 => ?_)
                          · refine g_iload F dX2_lower_166 rfl (np := 168) rfl ?_
                            refine g_runS F (rest := []) (ct_J13_bitCount hE (nI (q)) ) (lw_S q1892 q945 q127 q946) hcS_J13_bitCount ⟨Nat.le_of_ble_eq_true rfl, Nat.le_of_ble_eq_true rfl⟩ rfl rfl (Nat.le_of_ble_eq_true rfl) dX2_lower_168 ⟨Nat.le_of_ble_eq_true rfl, Nat.le_of_ble_eq_true rfl⟩ (np := 171) rfl (k_RI ?_)
                            refine g_iload F dX2_lower_171 rfl (np := 173) rfl ?_
                            refine g_runS F (rest := [.int (jbc (nI (q)))]) (ct_J13_bitCount hE f ) (lw_S q1892 q945 q127 q946) hcS_J13_bitCount ⟨Nat.le_of_ble_eq_true rfl, Nat.le_of_ble_eq_true rfl⟩ rfl rfl (Nat.le_of_ble_eq_true rfl) dX2_lower_173 ⟨Nat.le_of_ble_eq_true rfl, Nat.le_of_ble_eq_true rfl⟩ (np := 176) rfl (k_RI ?_)
                            refine g_isub F dX2_lower_176 (np := 177) rfl ?_
                            exact J177 ((jbc (nI (q))) - (jbc f)) (by unfold lessV; first | (rw [if_pos c159]; done) | (rw [if_neg c159]; done))
                          · refine g_iconst F (v := (-1)) dX2_lower_162 (by decide) (np := 163) rfl ?_
                            refine g_goto F dX2_lower_163 (np := 177) (by decide) ?_
                            exact J177 (-1) (by unfold lessV; first | (rw [if_pos c159]; done) | (rw [if_neg c159]; done))
                        refine g_iload F dX2_lower_137 rfl (np := 139) rfl ?_
                        refine g_bipush F (v := (-2)) dX2_lower_139 (by decide) (np := 141) rfl ?_
                        refine g_icmp_eq F dX2_lower_141 (tp := 151) (by decide) (np := 144) rfl (fun c141 => ?_) (fun c141 => ?_)
                        · refine g_iload F dX2_lower_151 rfl (np := 153) rfl ?_
                          refine g_istore F (lv' := [some (.ref (ad 0)), some (.int o), some (.int x), some (.int w), some (.int a), some (.int f), some (.int (sWorth (mP σ) (nI (q)) (σ.1 2))), some (.int (nI q)), some (.int (sWorth (mP σ) (nI (q)) (σ.1 2))), none]) dX2_lower_153 (by decide) rfl rfl (np := 155) rfl ?_
                          exact J155 (sWorth (mP σ) (nI (q)) (σ.1 2)) (by unfold lowC; first | (rw [if_pos (Or.inl c141)]; done) | (rw [if_pos (Or.inr (by first | exact Int32.not_le.mp c148 | exact c148))]; done) | (rw [if_neg (fun z => z.elim c141 (fun z => by first | exact Int32.not_lt.mpr c148 z | exact c148 z))]; done))
                        · refine g_iload F dX2_lower_144 rfl (np := 146) rfl ?_
                          refine g_iload F dX2_lower_146 rfl (np := 148) rfl ?_
                          refine g_icmp_ge F dX2_lower_148 (tp := 155) (by decide) (np := 151) rfl (fun c148 => ?_) (fun c148 => ?_)
                          · exact J155 c (by unfold lowC; first | (rw [if_pos (Or.inl c141)]; done) | (rw [if_pos (Or.inr (by first | exact Int32.not_le.mp c148 | exact c148))]; done) | (rw [if_neg (fun z => z.elim c141 (fun z => by first | exact Int32.not_lt.mpr c148 z | exact c148 z))]; done))
                          · refine g_iload F dX2_lower_151 rfl (np := 153) rfl ?_
                            refine g_istore F (lv' := [some (.ref (ad 0)), some (.int o), some (.int x), some (.int w), some (.int a), some (.int f), some (.int (sWorth (mP σ) (nI (q)) (σ.1 2))), some (.int (nI q)), some (.int (sWorth (mP σ) (nI (q)) (σ.1 2))), none]) dX2_lower_153 (by decide) rfl rfl (np := 155) rfl ?_
                            exact J155 (sWorth (mP σ) (nI (q)) (σ.1 2)) (by unfold lowC; first | (rw [if_pos (Or.inl c141)]; done) | (rw [if_pos (Or.inr (by first | exact Int32.not_le.mp c148 | exact c148))]; done) | (rw [if_neg (fun z => z.elim c141 (fun z => by first | exact Int32.not_lt.mpr c148 z | exact c148 z))]; done))
                      · refine g_goto F dX2_lower_126 (np := 204) (by decide) ?_
                        refine g_iinc F (v := (nI (q + 1))) (lv' := [some (.ref (ad 0)), some (.int o), some (.int x), some (.int w), some (.int a), some (.int f), some (.int c), some (.int (nI (q + 1))), none, none]) dX2_lower_204 rfl (nI_add _ _) (by decide) rfl rfl (np := 207) rfl ?_
                        refine g_goto F dX2_lower_207 (np := 94) (by decide) ?_
                        exact ih94 f c (q + 1) (by first | (rw [lowP_f (fun z => c112 (hmay ▸ z.1))]; exact g1) | (rw [lowP_f (fun z => c123 z.2)]; exact g1) | (rw [lowP_t hK, ← g1]; exact hf1)) (by first | (rw [lowP_f (fun z => c112 (hmay ▸ z.1))]; exact g2) | (rw [lowP_f (fun z => c123 z.2)]; exact g2) | (rw [lowP_t hK, ← g2]; exact hc1)) (by omega) (by omega)
              exact L94 _ (-2) (-2) 0 (by rfl) (by rfl) (by exact Nat.zero_le _) (Nat.lt_succ_self _)
            · refine g_aload_n F dX2_lower_44 rfl rfl (np := 45) rfl ?_
              refine g_iload F dX2_lower_45 rfl (np := 47) rfl ?_
              refine g_iload_n F dX2_lower_47 rfl rfl (np := 48) rfl ?_
              refine g_runV F (C := RX2) (ci := 2) (T0 := TX2) (N := 42) (rest := []) (ct_X2_isHis hE σ p o (by omega)) (lw_V q1819 q1821 qs76 q102 q1822) hcV_X2_isHis ⟨Nat.le_of_ble_eq_true rfl, Nat.le_of_ble_eq_true rfl⟩ rfl (fun h hs => hs.obj) rfl rfl (Nat.le_of_ble_eq_true rfl) dX2_lower_48 ⟨Nat.le_of_ble_eq_true rfl, Nat.le_of_ble_eq_true rfl⟩ (np := 51) rfl (k_RI ?_)
              refine g_if_eqB F dX2_lower_51 (tp := 77) (by decide) (np := 54) rfl (fun c51 => ?_) (fun c51 => ?_)
              · refine g_iinc F (v := (nI (p + 1))) (lv' := [some (.ref (ad 0)), some (.int o), some (.int x), some (.int w), some (.int a), some (.int (nI (p + 1))), none, none, none, none]) dX2_lower_77 rfl (nI_add _ _) (by decide) rfl rfl (np := 80) rfl ?_
                refine g_goto F dX2_lower_80 (np := 35) (by decide) ?_
                exact ih35 a (p + 1) (by unfold sMay; first | (rw [pif_f (fun z => c51 ⟨z.1, z.2.1⟩), h1]; done) | (rw [pif_f (fun z => z.2.2 (by rw [mP_3]; exact c65)), h1]; done) | (rw [pif_t ⟨c51.1, c51.2, fun z => c65 (by rw [mP_3] at z; exact z)⟩, h1])) (by first | assumption | omega) (by omega)
              · refine g_aload_n F dX2_lower_54 rfl rfl (np := 55) rfl ?_
                refine h_get F (k := 3) (v := .ref (ad 3)) (by decide) rfl q1549 dX2_lower_55 (np := 58) rfl ?_
                refine g_bipush F (v := (nI 15)) dX2_lower_58 (by decide) (np := 60) rfl ?_
                refine g_iload F dX2_lower_60 rfl (np := 62) rfl ?_
                refine g_iaddN F dX2_lower_62 (np := 63) rfl ?_
                refine h_ald F (k := 3) (i := 15 + p) (L := 75) (v := σ.2.1 3 (15 + p)) rfl rfl (by decide) (by omega) rfl rfl dX2_lower_63 (by decide) (by decide) (np := 64) rfl ?_
                refine g_iconst F (v := (nI 2)) dX2_lower_64 (by decide) (np := 65) rfl ?_
                refine g_icmp_eq F dX2_lower_65 (tp := 77) (by decide) (np := 68) rfl (fun c65 => ?_) (fun c65 => ?_)
                · refine g_iinc F (v := (nI (p + 1))) (lv' := [some (.ref (ad 0)), some (.int o), some (.int x), some (.int w), some (.int a), some (.int (nI (p + 1))), none, none, none, none]) dX2_lower_77 rfl (nI_add _ _) (by decide) rfl rfl (np := 80) rfl ?_
                  refine g_goto F dX2_lower_80 (np := 35) (by decide) ?_
                  exact ih35 a (p + 1) (by unfold sMay; first | (rw [pif_f (fun z => c51 ⟨z.1, z.2.1⟩), h1]; done) | (rw [pif_f (fun z => z.2.2 (by rw [mP_3]; exact c65)), h1]; done) | (rw [pif_t ⟨c51.1, c51.2, fun z => c65 (by rw [mP_3] at z; exact z)⟩, h1])) (by first | assumption | omega) (by omega)
                · refine g_iload F dX2_lower_68 rfl (np := 70) rfl ?_
                  refine g_iconst F (v := (nI 1)) dX2_lower_70 (by decide) (np := 71) rfl ?_
                  refine g_iload F dX2_lower_71 rfl (np := 73) rfl ?_
                  refine g_ishl F dX2_lower_73 (np := 74) rfl ?_
                  refine g_ior F dX2_lower_74 (np := 75) rfl ?_
                  refine g_istore F (lv' := [some (.ref (ad 0)), some (.int o), some (.int x), some (.int w), some (.int (a ||| ((nI (1)) <<< ((nI (p)) &&& 31)))), some (.int (nI p)), none, none, none, none]) dX2_lower_75 (by decide) rfl rfl (np := 77) rfl ?_
                  refine g_iinc F (v := (nI (p + 1))) (lv' := [some (.ref (ad 0)), some (.int o), some (.int x), some (.int w), some (.int (a ||| ((nI (1)) <<< ((nI (p)) &&& 31)))), some (.int (nI (p + 1))), none, none, none, none]) dX2_lower_77 rfl (nI_add _ _) (by decide) rfl rfl (np := 80) rfl ?_
                  refine g_goto F dX2_lower_80 (np := 35) (by decide) ?_
                  exact ih35 (a ||| ((nI (1)) <<< ((nI (p)) &&& 31))) (p + 1) (by unfold sMay; first | (rw [pif_f (fun z => c51 ⟨z.1, z.2.1⟩), h1]; done) | (rw [pif_f (fun z => z.2.2 (by rw [mP_3]; exact c65)), h1]; done) | (rw [pif_t ⟨c51.1, c51.2, fun z => c65 (by rw [mP_3] at z; exact z)⟩, h1])) (by first | assumption | omega) (by omega)
        exact L35 _ (nI (0)) 0 (by rfl) (by omega) (Nat.lt_succ_self _)
      · refine g_iconst F (v := (-1)) dX2_lower_27 (by decide) (np := 28) rfl ?_
        have hv : -1 = rLower (mV σ L) (σ.1 6) (σ.1 0) o x w := by unfold rLower; rw [pif_f (fun z => by obtain ⟨z1, z2, z3⟩ := z; first | exact c5 z1 | exact c15 (bt9.mpr z2) | exact c24 (bt2.mpr z3))]
        exact g_iret F hr rfl (Nat.le_of_ble_eq_true rfl) (Nat.le_of_ble_eq_true rfl) dX2_lower_28 (fun h hs => by rw [← hT]; exact ⟨congrArg (fun z => some (Value.int z)) hv, hs⟩)
