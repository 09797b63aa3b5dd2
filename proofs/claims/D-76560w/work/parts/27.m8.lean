/-! WALKS (printed by walk.py): owner, isSuch, newOne, promise, isOf, isFit, of, feed, undo, redo, mend, image, back -/
set_option maxRecDepth 100000
set_option maxRecDepth 100000 in
theorem ct_X2_owner {l : Launch} {D : va_G} {E : State → Prop} {B : Nat} (hE : Stab E) {ad : Nat → Nat} {h0 : AH} (σ : MSt)  (x : Int32) (hno : σ.1 0 ≤ 8) : Ct l D E B yX2_owner cX2_owner 2 (some .int) 1 22 0 0 [.ref (ad 0), .int x] (MH D ad h0 σ) (RI (rOwner σ x) (MH D ad h0 (gOwner σ x))) := by
  refine Ct.of (nL := 2) (lv := [some (.ref (ad 0)), some (.int x)]) (by decide) (Nat.le_of_ble_eq_true rfl) hE 0 rfl ?_
  generalize hT : RI (rOwner σ x) (MH D ad h0 (gOwner σ x)) = T
  intro zp ze zs zm zb zt zc F hr hnm
  generalize ([.ref (ad 0), .int x] : List Value).toArray = za at F ⊢
  refine g_iload_n F dX2_owner_0 rfl rfl (np := 1) rfl ?_
  refine g_iconst F (v := (nI 0)) dX2_owner_1 (by decide) (np := 2) rfl ?_
  refine g_sipush F (v := (nI 999)) dX2_owner_2 (by decide) (np := 5) rfl ?_
  refine g_runS F (rest := []) (ct_X2_within hE x (nI (0)) (nI (999)) ) (lw_S q1677 q1678 q102 q1679) hcS_X2_within ⟨Nat.le_of_ble_eq_true rfl, Nat.le_of_ble_eq_true rfl⟩ rfl rfl (Nat.le_of_ble_eq_true rfl) dX2_owner_5 ⟨Nat.le_of_ble_eq_true rfl, Nat.le_of_ble_eq_true rfl⟩ (np := 8) rfl (k_RI ?_)
  refine g_if_neB F dX2_owner_8 (tp := 13) (by decide) (np := 11) rfl (fun c8 => ?_) (fun c8 => ?_)
  · refine g_aload_n F dX2_owner_13 rfl rfl (np := 14) rfl ?_
    refine h_get F (k := 0) (v := .int (nI (σ.1 0))) (by decide) rfl q1546 dX2_owner_14 (np := 17) rfl ?_
    refine g_bipush F (v := (nI 8)) dX2_owner_17 (by decide) (np := 19) rfl ?_
    refine g_icmp_neN F (by omega) (by decide) dX2_owner_19 (tp := 25) (by decide) (np := 22) rfl (fun c19 => ?_) (fun c19 => ?_)
    · refine g_aload_n F dX2_owner_25 rfl rfl (np := 26) rfl ?_
      refine h_get F (k := 1) (v := .ref (ad 1)) (by decide) rfl q1547 dX2_owner_26 (np := 29) rfl ?_
      refine g_aload_n F dX2_owner_29 rfl rfl (np := 30) rfl ?_
      refine h_get F (k := 0) (v := .int (nI (σ.1 0))) (by decide) rfl q1546 dX2_owner_30 (np := 33) rfl ?_
      refine g_iload_n F dX2_owner_33 rfl rfl (np := 34) rfl ?_
      refine h_ast F (k := 1) (i := σ.1 0) (L := 8) rfl rfl (by decide) (by omega) rfl dX2_owner_34 (by decide) (by decide) (np := 35) rfl ?_
      refine g_aload_n F dX2_owner_35 rfl rfl (np := 36) rfl ?_
      refine g_dup F dX2_owner_36 rfl (np := 37) rfl ?_
      refine h_get F (k := 0) (v := .int (nI (σ.1 0))) (by decide) rfl q1546 dX2_owner_37 (np := 40) rfl ?_
      refine g_dup_x1 F dX2_owner_40 rfl rfl (np := 41) rfl ?_
      refine g_iconst F (v := (nI 1)) dX2_owner_41 (by decide) (np := 42) rfl ?_
      refine g_iaddN F dX2_owner_42 (np := 43) rfl ?_
      refine h_put F (k := 0) (n := (σ.1 0) + 1) (ty := .int) rfl (by decide) (mset_0 _ _ _) rfl rfl rfl rfl q1546 dX2_owner_43 (np := 46) rfl ?_
      have hσ : (sN (sA σ 1 (σ.1 0) x) 0 ((σ.1 0) + 1)) = (gOwner σ x) := by unfold gOwner; rw [pif_t ⟨bt999.mp c8, c19⟩]
      have hv : nI (σ.1 0) = rOwner σ x := by unfold rOwner; rw [pif_t (bt999.mp c8), if_neg c19]
      exact g_iret F hr rfl (Nat.le_of_ble_eq_true rfl) (Nat.le_of_ble_eq_true rfl) dX2_owner_46 (fun h hs => by rw [← hT]; exact ⟨congrArg (fun z => some (Value.int z)) hv, (hσ ▸ hs)⟩)
    · refine g_bipush F (v := (-3)) dX2_owner_22 (by decide) (np := 24) rfl ?_
      have hσ : σ = (gOwner σ x) := by unfold gOwner; rw [pif_f (fun z => z.2 c19)]
      have hv : -3 = rOwner σ x := by unfold rOwner; rw [pif_t (bt999.mp c8), if_pos c19]; try rfl
      exact g_iret F hr rfl (Nat.le_of_ble_eq_true rfl) (Nat.le_of_ble_eq_true rfl) dX2_owner_24 (fun h hs => by rw [← hT]; exact ⟨congrArg (fun z => some (Value.int z)) hv, (hσ ▸ hs)⟩)
  · refine g_iconst F (v := (-1)) dX2_owner_11 (by decide) (np := 12) rfl ?_
    have hσ : σ = (gOwner σ x) := by unfold gOwner; rw [pif_f (fun z => c8 (bt999.mpr z.1))]
    have hv : -1 = rOwner σ x := by unfold rOwner; rw [pif_f (fun z => c8 (bt999.mpr z))]
    exact g_iret F hr rfl (Nat.le_of_ble_eq_true rfl) (Nat.le_of_ble_eq_true rfl) dX2_owner_12 (fun h hs => by rw [← hT]; exact ⟨congrArg (fun z => some (Value.int z)) hv, (hσ ▸ hs)⟩)

set_option maxRecDepth 100000 in
theorem ct_X2_isSuch {l : Launch} {D : va_G} {E : State → Prop} {B : Nat} (hE : Stab E) {ad : Nat → Nat} {h0 : AH} (σ : MSt)  (b : Int32) (t : Int32) (w : Int32) (kd : Int32) (hno : σ.1 0 < 2 ^ 30) : Ct l D E B yX2_isSuch cX2_isSuch 5 (some .boolean) 2 43 0 0 [.ref (ad 0), .int b, .int t, .int w, .int kd] (MH D ad h0 σ) (RI (bI (suchP (σ.1 0) b t w kd)) (MH D ad h0 σ)) := by
  refine Ct.of (nL := 5) (lv := [some (.ref (ad 0)), some (.int b), some (.int t), some (.int w), some (.int kd)]) (by decide) (Nat.le_of_ble_eq_true rfl) hE 0 rfl ?_
  generalize hT : RI (bI (suchP (σ.1 0) b t w kd)) (MH D ad h0 σ) = T
  intro zp ze zs zm zb zt zc F hr hnm
  generalize ([.ref (ad 0), .int b, .int t, .int w, .int kd] : List Value).toArray = za at F ⊢
  refine g_aload_n F dX2_isSuch_0 rfl rfl (np := 1) rfl ?_
  refine g_iload_n F dX2_isSuch_1 rfl rfl (np := 2) rfl ?_
  refine g_runV F (C := RX2) (ci := 2) (T0 := TX2) (N := 42) (rest := []) (ct_X2_isOwner hE σ b (by first | assumption | omega)) (lw_V q1688 q1690 qs54 q102 q1691) hcV_X2_isOwner ⟨Nat.le_of_ble_eq_true rfl, Nat.le_of_ble_eq_true rfl⟩ rfl (fun h hs => hs.obj) rfl rfl (Nat.le_of_ble_eq_true rfl) dX2_isSuch_2 ⟨Nat.le_of_ble_eq_true rfl, Nat.le_of_ble_eq_true rfl⟩ (np := 5) rfl (k_RI ?_)
  refine g_if_eqB F dX2_isSuch_5 (tp := 50) (by decide) (np := 8) rfl (fun c5 => ?_) (fun c5 => ?_)
  · refine g_iconst F (v := (nI 0)) dX2_isSuch_50 (by decide) (np := 51) rfl ?_
    have hv : (nI (0) : Int32) = bI (suchP (σ.1 0) b t w kd) := (show (0 : Int32) = _ from (bI_f (by unfold suchP; simp_all [bt99, bt2])).symm)
    exact g_iret F hr rfl (Nat.le_of_ble_eq_true rfl) (Nat.le_of_ble_eq_true rfl) dX2_isSuch_51 (fun h hs => by rw [← hT]; exact ⟨congrArg (fun z => some (Value.int z)) hv, hs⟩)
  · refine g_iload_n F dX2_isSuch_8 rfl rfl (np := 9) rfl ?_
    refine g_iconst F (v := (-1)) dX2_isSuch_9 (by decide) (np := 10) rfl ?_
    refine g_icmp_eq F dX2_isSuch_10 (tp := 26) (by decide) (np := 13) rfl (fun c10 => ?_) (fun c10 => ?_)
    · refine g_iload_n F dX2_isSuch_26 rfl rfl (np := 27) rfl ?_
      refine g_iconst F (v := (nI 0)) dX2_isSuch_27 (by decide) (np := 28) rfl ?_
      refine g_bipush F (v := (nI 99)) dX2_isSuch_28 (by decide) (np := 30) rfl ?_
      refine g_runS F (rest := []) (ct_X2_within hE w (nI (0)) (nI (99)) ) (lw_S q1677 q1678 q102 q1679) hcS_X2_within ⟨Nat.le_of_ble_eq_true rfl, Nat.le_of_ble_eq_true rfl⟩ rfl rfl (Nat.le_of_ble_eq_true rfl) dX2_isSuch_30 ⟨Nat.le_of_ble_eq_true rfl, Nat.le_of_ble_eq_true rfl⟩ (np := 33) rfl (k_RI ?_)
      refine g_if_eqB F dX2_isSuch_33 (tp := 50) (by decide) (np := 36) rfl (fun c33 => ?_) (fun c33 => ?_)
      · refine g_iconst F (v := (nI 0)) dX2_isSuch_50 (by decide) (np := 51) rfl ?_
        have hv : (nI (0) : Int32) = bI (suchP (σ.1 0) b t w kd) := (show (0 : Int32) = _ from (bI_f (by unfold suchP; simp_all [bt99, bt2])).symm)
        exact g_iret F hr rfl (Nat.le_of_ble_eq_true rfl) (Nat.le_of_ble_eq_true rfl) dX2_isSuch_51 (fun h hs => by rw [← hT]; exact ⟨congrArg (fun z => some (Value.int z)) hv, hs⟩)
      · refine g_iload F dX2_isSuch_36 rfl (np := 38) rfl ?_
        refine g_iconst F (v := (nI 0)) dX2_isSuch_38 (by decide) (np := 39) rfl ?_
        refine g_iconst F (v := (nI 2)) dX2_isSuch_39 (by decide) (np := 40) rfl ?_
        refine g_runS F (rest := []) (ct_X2_within hE kd (nI (0)) (nI (2)) ) (lw_S q1677 q1678 q102 q1679) hcS_X2_within ⟨Nat.le_of_ble_eq_true rfl, Nat.le_of_ble_eq_true rfl⟩ rfl rfl (Nat.le_of_ble_eq_true rfl) dX2_isSuch_40 ⟨Nat.le_of_ble_eq_true rfl, Nat.le_of_ble_eq_true rfl⟩ (np := 43) rfl (k_RI ?_)
        refine g_if_eqB F dX2_isSuch_43 (tp := 50) (by decide) (np := 46) rfl (fun c43 => ?_) (fun c43 => ?_)
        · refine g_iconst F (v := (nI 0)) dX2_isSuch_50 (by decide) (np := 51) rfl ?_
          have hv : (nI (0) : Int32) = bI (suchP (σ.1 0) b t w kd) := (show (0 : Int32) = _ from (bI_f (by unfold suchP; simp_all [bt99, bt2])).symm)
          exact g_iret F hr rfl (Nat.le_of_ble_eq_true rfl) (Nat.le_of_ble_eq_true rfl) dX2_isSuch_51 (fun h hs => by rw [← hT]; exact ⟨congrArg (fun z => some (Value.int z)) hv, hs⟩)
        · refine g_iconst F (v := (nI 1)) dX2_isSuch_46 (by decide) (np := 47) rfl ?_
          refine g_goto F dX2_isSuch_47 (np := 51) (by decide) ?_
          have hv : (nI (1) : Int32) = bI (suchP (σ.1 0) b t w kd) := (show (1 : Int32) = _ from (bI_t (by unfold suchP; simp_all [bt99, bt2])).symm)
          exact g_iret F hr rfl (Nat.le_of_ble_eq_true rfl) (Nat.le_of_ble_eq_true rfl) dX2_isSuch_51 (fun h hs => by rw [← hT]; exact ⟨congrArg (fun z => some (Value.int z)) hv, hs⟩)
    · refine g_aload_n F dX2_isSuch_13 rfl rfl (np := 14) rfl ?_
      refine g_iload_n F dX2_isSuch_14 rfl rfl (np := 15) rfl ?_
      refine g_runV F (C := RX2) (ci := 2) (T0 := TX2) (N := 42) (rest := []) (ct_X2_isOwner hE σ t (by first | assumption | omega)) (lw_V q1688 q1690 qs54 q102 q1691) hcV_X2_isOwner ⟨Nat.le_of_ble_eq_true rfl, Nat.le_of_ble_eq_true rfl⟩ rfl (fun h hs => hs.obj) rfl rfl (Nat.le_of_ble_eq_true rfl) dX2_isSuch_15 ⟨Nat.le_of_ble_eq_true rfl, Nat.le_of_ble_eq_true rfl⟩ (np := 18) rfl (k_RI ?_)
      refine g_if_eqB F dX2_isSuch_18 (tp := 50) (by decide) (np := 21) rfl (fun c18 => ?_) (fun c18 => ?_)
      · refine g_iconst F (v := (nI 0)) dX2_isSuch_50 (by decide) (np := 51) rfl ?_
        have hv : (nI (0) : Int32) = bI (suchP (σ.1 0) b t w kd) := (show (0 : Int32) = _ from (bI_f (by unfold suchP; simp_all [bt99, bt2])).symm)
        exact g_iret F hr rfl (Nat.le_of_ble_eq_true rfl) (Nat.le_of_ble_eq_true rfl) dX2_isSuch_51 (fun h hs => by rw [← hT]; exact ⟨congrArg (fun z => some (Value.int z)) hv, hs⟩)
      · refine g_iload_n F dX2_isSuch_21 rfl rfl (np := 22) rfl ?_
        refine g_iload_n F dX2_isSuch_22 rfl rfl (np := 23) rfl ?_
        refine g_icmp_eq F dX2_isSuch_23 (tp := 50) (by decide) (np := 26) rfl (fun c23 => ?_) (fun c23 => ?_)
        · refine g_iconst F (v := (nI 0)) dX2_isSuch_50 (by decide) (np := 51) rfl ?_
          have hv : (nI (0) : Int32) = bI (suchP (σ.1 0) b t w kd) := (show (0 : Int32) = _ from (bI_f (by unfold suchP; simp_all [bt99, bt2])).symm)
          exact g_iret F hr rfl (Nat.le_of_ble_eq_true rfl) (Nat.le_of_ble_eq_true rfl) dX2_isSuch_51 (fun h hs => by rw [← hT]; exact ⟨congrArg (fun z => some (Value.int z)) hv, hs⟩)
        · refine g_iload_n F dX2_isSuch_26 rfl rfl (np := 27) rfl ?_
          refine g_iconst F (v := (nI 0)) dX2_isSuch_27 (by decide) (np := 28) rfl ?_
          refine g_bipush F (v := (nI 99)) dX2_isSuch_28 (by decide) (np := 30) rfl ?_
          refine g_runS F (rest := []) (ct_X2_within hE w (nI (0)) (nI (99)) ) (lw_S q1677 q1678 q102 q1679) hcS_X2_within ⟨Nat.le_of_ble_eq_true rfl, Nat.le_of_ble_eq_true rfl⟩ rfl rfl (Nat.le_of_ble_eq_true rfl) dX2_isSuch_30 ⟨Nat.le_of_ble_eq_true rfl, Nat.le_of_ble_eq_true rfl⟩ (np := 33) rfl (k_RI ?_)
          refine g_if_eqB F dX2_isSuch_33 (tp := 50) (by decide) (np := 36) rfl (fun c33 => ?_) (fun c33 => ?_)
          · refine g_iconst F (v := (nI 0)) dX2_isSuch_50 (by decide) (np := 51) rfl ?_
            have hv : (nI (0) : Int32) = bI (suchP (σ.1 0) b t w kd) := (show (0 : Int32) = _ from (bI_f (by unfold suchP; simp_all [bt99, bt2])).symm)
            exact g_iret F hr rfl (Nat.le_of_ble_eq_true rfl) (Nat.le_of_ble_eq_true rfl) dX2_isSuch_51 (fun h hs => by rw [← hT]; exact ⟨congrArg (fun z => some (Value.int z)) hv, hs⟩)
          · refine g_iload F dX2_isSuch_36 rfl (np := 38) rfl ?_
            refine g_iconst F (v := (nI 0)) dX2_isSuch_38 (by decide) (np := 39) rfl ?_
            refine g_iconst F (v := (nI 2)) dX2_isSuch_39 (by decide) (np := 40) rfl ?_
            refine g_runS F (rest := []) (ct_X2_within hE kd (nI (0)) (nI (2)) ) (lw_S q1677 q1678 q102 q1679) hcS_X2_within ⟨Nat.le_of_ble_eq_true rfl, Nat.le_of_ble_eq_true rfl⟩ rfl rfl (Nat.le_of_ble_eq_true rfl) dX2_isSuch_40 ⟨Nat.le_of_ble_eq_true rfl, Nat.le_of_ble_eq_true rfl⟩ (np := 43) rfl (k_RI ?_)
            refine g_if_eqB F dX2_isSuch_43 (tp := 50) (by decide) (np := 46) rfl (fun c43 => ?_) (fun c43 => ?_)
            · refine g_iconst F (v := (nI 0)) dX2_isSuch_50 (by decide) (np := 51) rfl ?_
              have hv : (nI (0) : Int32) = bI (suchP (σ.1 0) b t w kd) := (show (0 : Int32) = _ from (bI_f (by unfold suchP; simp_all [bt99, bt2])).symm)
              exact g_iret F hr rfl (Nat.le_of_ble_eq_true rfl) (Nat.le_of_ble_eq_true rfl) dX2_isSuch_51 (fun h hs => by rw [← hT]; exact ⟨congrArg (fun z => some (Value.int z)) hv, hs⟩)
            · refine g_iconst F (v := (nI 1)) dX2_isSuch_46 (by decide) (np := 47) rfl ?_
              refine g_goto F dX2_isSuch_47 (np := 51) (by decide) ?_
              have hv : (nI (1) : Int32) = bI (suchP (σ.1 0) b t w kd) := (show (1 : Int32) = _ from (bI_t (by unfold suchP; simp_all [bt99, bt2])).symm)
              exact g_iret F hr rfl (Nat.le_of_ble_eq_true rfl) (Nat.le_of_ble_eq_true rfl) dX2_isSuch_51 (fun h hs => by rw [← hT]; exact ⟨congrArg (fun z => some (Value.int z)) hv, hs⟩)

set_option maxRecDepth 100000 in
theorem ct_X2_newOne {l : Launch} {D : va_G} {E : State → Prop} {B : Nat} (hE : Stab E) {ad : Nat → Nat} {h0 : AH} (σ : MSt)  (b : Int32) (t : Int32) (w : Int32) (kd : Int32) (hm14 : σ.1 2 ≤ 14) : Ct l D E B yX2_newOne cX2_newOne 5 (some .int) 1 26 0 0 [.ref (ad 0), .int b, .int t, .int w, .int kd] (MH D ad h0 σ) (RI (nI (σ.1 2)) (MH D ad h0 (newS σ b t w kd))) := by
  refine Ct.of (nL := 5) (lv := [some (.ref (ad 0)), some (.int b), some (.int t), some (.int w), some (.int kd)]) (by decide) (Nat.le_of_ble_eq_true rfl) hE 0 rfl ?_
  generalize hT : RI (nI (σ.1 2)) (MH D ad h0 (newS σ b t w kd)) = T
  intro zp ze zs zm zb zt zc F hr hnm
  generalize ([.ref (ad 0), .int b, .int t, .int w, .int kd] : List Value).toArray = za at F ⊢
  refine g_aload_n F dX2_newOne_0 rfl rfl (np := 1) rfl ?_
  refine g_aload_n F dX2_newOne_1 rfl rfl (np := 2) rfl ?_
  refine h_get F (k := 2) (v := .int (nI (σ.1 2))) (by decide) rfl q1548 dX2_newOne_2 (np := 5) rfl ?_
  refine g_iload_n F dX2_newOne_5 rfl rfl (np := 6) rfl ?_
  refine g_iload_n F dX2_newOne_6 rfl rfl (np := 7) rfl ?_
  refine g_iload_n F dX2_newOne_7 rfl rfl (np := 8) rfl ?_
  refine g_iload F dX2_newOne_8 rfl (np := 10) rfl ?_
  refine g_bipush F (v := (nI 30)) dX2_newOne_10 (by decide) (np := 12) rfl ?_
  refine g_runV F (C := RX2) (ci := 2) (T0 := TX2) (N := 42) (rest := []) (ct_X2_becomesOne hE σ (σ.1 2) b t w kd (nI (30)) (by omega)) (lw_V q1696 q1698 qs56 q102 q1699) hcV_X2_becomesOne ⟨Nat.le_of_ble_eq_true rfl, Nat.le_of_ble_eq_true rfl⟩ rfl (fun h hs => hs.obj) rfl rfl (Nat.le_of_ble_eq_true rfl) dX2_newOne_12 ⟨Nat.le_of_ble_eq_true rfl, Nat.le_of_ble_eq_true rfl⟩ (np := 15) rfl (k_RV ?_)
  refine g_aload_n F dX2_newOne_15 rfl rfl (np := 16) rfl ?_
  refine h_get F (k := 25) (v := .ref (ad 25)) (by decide) rfl q1571 dX2_newOne_16 (np := 19) rfl ?_
  refine g_iconst F (v := (nI 0)) dX2_newOne_19 (by decide) (np := 20) rfl ?_
  refine g_dup2 F dX2_newOne_20 rfl rfl (np := 21) rfl ?_
  refine h_ald F (k := 25) (i := 0) (L := 5) (v := σ.2.1 25 0) rfl rfl (by decide) (by decide) rfl rfl dX2_newOne_21 (by decide) (by decide) (np := 22) rfl ?_
  refine g_iconst F (v := (nI 1)) dX2_newOne_22 (by decide) (np := 23) rfl ?_
  refine g_iadd F dX2_newOne_23 (np := 24) rfl ?_
  refine h_ast F (k := 25) (i := 0) (L := 5) rfl rfl (by decide) (by decide) rfl dX2_newOne_24 (by decide) (by decide) (np := 25) rfl ?_
  refine g_aload_n F dX2_newOne_25 rfl rfl (np := 26) rfl ?_
  refine g_dup F dX2_newOne_26 rfl (np := 27) rfl ?_
  refine h_get F (k := 2) (v := .int (nI (σ.1 2))) (by decide) rfl q1548 dX2_newOne_27 (np := 30) rfl ?_
  refine g_dup_x1 F dX2_newOne_30 rfl rfl (np := 31) rfl ?_
  refine g_iconst F (v := (nI 1)) dX2_newOne_31 (by decide) (np := 32) rfl ?_
  refine g_iaddN F dX2_newOne_32 (np := 33) rfl ?_
  refine h_put F (k := 2) (n := (σ.1 2) + 1) (ty := .int) rfl (by decide) (mset_2 _ _ _) rfl rfl rfl rfl q1548 dX2_newOne_33 (np := 36) rfl ?_
  have hσ : (sN (sA (bOne σ (σ.1 2) b t w kd (nI (30))) 25 0 ((σ.2.1 25 0) + (nI (1)))) 2 ((σ.1 2) + 1)) = (newS σ b t w kd) := by rfl
  have hv : nI (σ.1 2) = nI (σ.1 2) := congrArg nI (by rfl)
  exact g_iret F hr rfl (Nat.le_of_ble_eq_true rfl) (Nat.le_of_ble_eq_true rfl) dX2_newOne_36 (fun h hs => by rw [← hT]; exact ⟨congrArg (fun z => some (Value.int z)) hv, (hσ ▸ hs)⟩)

set_option maxRecDepth 100000 in
theorem ct_X2_promise {l : Launch} {D : va_G} {E : State → Prop} {B : Nat} (hE : Stab E) {ad : Nat → Nat} {h0 : AH} (σ : MSt)  (b : Int32) (t : Int32) (wk : Int32) (hno : σ.1 0 ≤ 8) (hm14 : σ.1 2 ≤ 14) : Ct l D E B yX2_promise cX2_promise 4 (some .int) 3 67 0 0 [.ref (ad 0), .int b, .int t, .int wk] (MH D ad h0 σ) (RI (rPromise σ b t wk) (MH D ad h0 (gPromise σ b t wk))) := by
  refine Ct.of (nL := 4) (lv := [some (.ref (ad 0)), some (.int b), some (.int t), some (.int wk)]) (by decide) (Nat.le_of_ble_eq_true rfl) hE 0 rfl ?_
  generalize hT : RI (rPromise σ b t wk) (MH D ad h0 (gPromise σ b t wk)) = T
  intro zp ze zs zm zb zt zc F hr hnm
  generalize ([.ref (ad 0), .int b, .int t, .int wk] : List Value).toArray = za at F ⊢
  refine g_iload_n F dX2_promise_0 rfl rfl (np := 1) rfl ?_
  refine g_if_lt F dX2_promise_1 (tp := 21) (by decide) (np := 4) rfl (fun c1 => ?_) (fun c1 => ?_)
  · refine g_iconst F (v := (-1)) dX2_promise_21 (by decide) (np := 22) rfl ?_
    have hσ : σ = (gPromise σ b t wk) := by unfold gPromise; first | (rw [pif_f (fun z => z.1.1 c1)]; done) | (rw [pif_f (fun z => c18 z.1.2)]; done)
    have hv : -1 = rPromise σ b t wk := by unfold rPromise; first | (rw [pif_f (fun z => z.1 c1)]; done) | (rw [pif_f (fun z => c18 z.2)]; done)
    exact g_iret F hr rfl (Nat.le_of_ble_eq_true rfl) (Nat.le_of_ble_eq_true rfl) dX2_promise_22 (fun h hs => by rw [← hT]; exact ⟨congrArg (fun z => some (Value.int z)) hv, (hσ ▸ hs)⟩)
  · obtain ⟨hke, hkl⟩ := nI_cl c1
    refine WG.eqv (lv' := [some (.ref (ad 0)), some (.int b), some (.int t), some (.int (nI (wk.toNatClampNeg)))]) rfl (congrArg (fun z => ([some (.ref (ad 0)), some (.int b), some (.int t), some (.int z)] : List (Option Value))) (show wk = (nI (wk.toNatClampNeg)) from by exact hke)) ?_
    refine g_aload_n F dX2_promise_4 rfl rfl (np := 5) rfl ?_
    refine g_iload_n F dX2_promise_5 rfl rfl (np := 6) rfl ?_
    refine g_iload_n F dX2_promise_6 rfl rfl (np := 7) rfl ?_
    refine g_iload_n F dX2_promise_7 rfl rfl (np := 8) rfl ?_
    refine g_bipush F (v := (nI 10)) dX2_promise_8 (by decide) (np := 10) rfl ?_
    refine g_idivN F (by omega) (by decide) (by decide) dX2_promise_10 (np := 11) rfl ?_
    refine g_iload_n F dX2_promise_11 rfl rfl (np := 12) rfl ?_
    refine g_bipush F (v := (nI 10)) dX2_promise_12 (by decide) (np := 14) rfl ?_
    refine g_iremN F (by omega) (by decide) (by decide) dX2_promise_14 (np := 15) rfl ?_
    refine g_runV F (C := RX2) (ci := 2) (T0 := TX2) (N := 42) (rest := []) (ct_X2_isSuch hE σ b t (nI (wk.toNatClampNeg / 10)) (nI (wk.toNatClampNeg % 10)) (by omega)) (lw_V q1684 q1686 qs53 q102 q1687) hcV_X2_isSuch ⟨Nat.le_of_ble_eq_true rfl, Nat.le_of_ble_eq_true rfl⟩ rfl (fun h hs => hs.obj) rfl rfl (Nat.le_of_ble_eq_true rfl) dX2_promise_15 ⟨Nat.le_of_ble_eq_true rfl, Nat.le_of_ble_eq_true rfl⟩ (np := 18) rfl (k_RI ?_)
    refine g_if_neB F dX2_promise_18 (tp := 23) (by decide) (np := 21) rfl (fun c18 => ?_) (fun c18 => ?_)
    · refine g_aload_n F dX2_promise_23 rfl rfl (np := 24) rfl ?_
      refine h_get F (k := 2) (v := .int (nI (σ.1 2))) (by decide) rfl q1548 dX2_promise_24 (np := 27) rfl ?_
      refine g_bipush F (v := (nI 14)) dX2_promise_27 (by decide) (np := 29) rfl ?_
      refine g_icmp_neN F (by omega) (by decide) dX2_promise_29 (tp := 37) (by decide) (np := 32) rfl (fun c29 => ?_) (fun c29 => ?_)
      · refine g_aload_n F dX2_promise_37 rfl rfl (np := 38) rfl ?_
        refine g_iload_n F dX2_promise_38 rfl rfl (np := 39) rfl ?_
        refine g_iload_n F dX2_promise_39 rfl rfl (np := 40) rfl ?_
        refine g_iload_n F dX2_promise_40 rfl rfl (np := 41) rfl ?_
        refine g_bipush F (v := (nI 10)) dX2_promise_41 (by decide) (np := 43) rfl ?_
        refine g_idivN F (by omega) (by decide) (by decide) dX2_promise_43 (np := 44) rfl ?_
        refine g_iload_n F dX2_promise_44 rfl rfl (np := 45) rfl ?_
        refine g_bipush F (v := (nI 10)) dX2_promise_45 (by decide) (np := 47) rfl ?_
        refine g_iremN F (by omega) (by decide) (by decide) dX2_promise_47 (np := 48) rfl ?_
        refine g_runV F (C := RX2) (ci := 2) (T0 := TX2) (N := 42) (rest := []) (ct_X2_newOne hE σ b t (nI (wk.toNatClampNeg / 10)) (nI (wk.toNatClampNeg % 10)) (by first | assumption | omega)) (lw_V q1692 q1694 qs55 q102 q1695) hcV_X2_newOne ⟨Nat.le_of_ble_eq_true rfl, Nat.le_of_ble_eq_true rfl⟩ rfl (fun h hs => hs.obj) rfl rfl (Nat.le_of_ble_eq_true rfl) dX2_promise_48 ⟨Nat.le_of_ble_eq_true rfl, Nat.le_of_ble_eq_true rfl⟩ (np := 51) rfl (k_RI ?_)
        have hσ : (newS σ b t (nI (wk.toNatClampNeg / 10)) (nI (wk.toNatClampNeg % 10))) = (gPromise σ b t wk) := by unfold gPromise; first | (rw [pif_f (fun z => z.2 c29)]; done) | (rw [pif_t ⟨⟨c1, c18⟩, c29⟩])
        have hv : nI (σ.1 2) = rPromise σ b t wk := by unfold rPromise; rw [pif_t ⟨c1, c18⟩]; first | (rw [if_pos c29]; try rfl) | (rw [if_neg c29]; done)
        exact g_iret F hr rfl (Nat.le_of_ble_eq_true rfl) (Nat.le_of_ble_eq_true rfl) dX2_promise_51 (fun h hs => by rw [← hT]; exact ⟨congrArg (fun z => some (Value.int z)) hv, (hσ ▸ hs)⟩)
      · refine g_bipush F (v := (-3)) dX2_promise_32 (by decide) (np := 34) rfl ?_
        refine g_goto F dX2_promise_34 (np := 51) (by decide) ?_
        have hσ : σ = (gPromise σ b t wk) := by unfold gPromise; first | (rw [pif_f (fun z => z.2 c29)]; done) | (rw [pif_t ⟨⟨c1, c18⟩, c29⟩])
        have hv : -3 = rPromise σ b t wk := by unfold rPromise; rw [pif_t ⟨c1, c18⟩]; first | (rw [if_pos c29]; try rfl) | (rw [if_neg c29]; done)
        exact g_iret F hr rfl (Nat.le_of_ble_eq_true rfl) (Nat.le_of_ble_eq_true rfl) dX2_promise_51 (fun h hs => by rw [← hT]; exact ⟨congrArg (fun z => some (Value.int z)) hv, (hσ ▸ hs)⟩)
    · refine g_iconst F (v := (-1)) dX2_promise_21 (by decide) (np := 22) rfl ?_
      have hσ : σ = (gPromise σ b t wk) := by unfold gPromise; first | (rw [pif_f (fun z => z.1.1 c1)]; done) | (rw [pif_f (fun z => c18 z.1.2)]; done)
      have hv : -1 = rPromise σ b t wk := by unfold rPromise; first | (rw [pif_f (fun z => z.1 c1)]; done) | (rw [pif_f (fun z => c18 z.2)]; done)
      exact g_iret F hr rfl (Nat.le_of_ble_eq_true rfl) (Nat.le_of_ble_eq_true rfl) dX2_promise_22 (fun h hs => by rw [← hT]; exact ⟨congrArg (fun z => some (Value.int z)) hv, (hσ ▸ hs)⟩)

set_option maxRecDepth 100000 in
theorem ct_X2_isOf {l : Launch} {D : va_G} {E : State → Prop} {B : Nat} (hE : Stab E) {ad : Nat → Nat} {h0 : AH} (σ : MSt)  (n : Int32) (w : Int32) (hno : σ.1 0 ≤ 8) (hm : σ.1 2 ≤ 15) : Ct l D E B yX2_isOf cX2_isOf 3 (some .boolean) 2 43 0 0 [.ref (ad 0), .int n, .int w] (MH D ad h0 σ) (RI (bI (ofP (σ.1 0) (σ.1 2) n w)) (MH D ad h0 σ)) := by
  refine Ct.of (nL := 3) (lv := [some (.ref (ad 0)), some (.int n), some (.int w)]) (by decide) (Nat.le_of_ble_eq_true rfl) hE 0 rfl ?_
  generalize hT : RI (bI (ofP (σ.1 0) (σ.1 2) n w)) (MH D ad h0 σ) = T
  intro zp ze zs zm zb zt zc F hr hnm
  generalize ([.ref (ad 0), .int n, .int w] : List Value).toArray = za at F ⊢
  refine g_iload_n F dX2_isOf_0 rfl rfl (np := 1) rfl ?_
  refine g_if_ne F dX2_isOf_1 (tp := 12) (by decide) (np := 4) rfl (fun c1 => ?_) (fun c1 => ?_)
  · refine g_iload_n F dX2_isOf_12 rfl rfl (np := 13) rfl ?_
    refine g_iconst F (v := (nI 1)) dX2_isOf_13 (by decide) (np := 14) rfl ?_
    refine g_iconst F (v := (nI 5)) dX2_isOf_14 (by decide) (np := 15) rfl ?_
    refine g_runS F (rest := []) (ct_X2_within hE w (nI (1)) (nI (5)) ) (lw_S q1677 q1678 q102 q1679) hcS_X2_within ⟨Nat.le_of_ble_eq_true rfl, Nat.le_of_ble_eq_true rfl⟩ rfl rfl (Nat.le_of_ble_eq_true rfl) dX2_isOf_15 ⟨Nat.le_of_ble_eq_true rfl, Nat.le_of_ble_eq_true rfl⟩ (np := 18) rfl (k_RI ?_)
    refine g_if_eqB F dX2_isOf_18 (tp := 29) (by decide) (np := 21) rfl (fun c18 => ?_) (fun c18 => ?_)
    · refine g_iload_n F dX2_isOf_29 rfl rfl (np := 30) rfl ?_
      refine g_bipush F (v := (nI 6)) dX2_isOf_30 (by decide) (np := 32) rfl ?_
      refine g_icmp_ne F dX2_isOf_32 (tp := 43) (by decide) (np := 35) rfl (fun c32 => ?_) (fun c32 => ?_)
      · refine g_iconst F (v := (nI 0)) dX2_isOf_43 (by decide) (np := 44) rfl ?_
        have hv : (nI (0) : Int32) = bI (ofP (σ.1 0) (σ.1 2) n w) := (show (0 : Int32) = _ from (bI_f (by first | exact ofP_0 c1 | exact ofP_b c18 | exact (ofP_6 c32).mp c36 | exact fun z => c36 ((ofP_6 c32).mpr z) | exact ofP_n c1 c18 c32)).symm)
        exact g_iret F hr rfl (Nat.le_of_ble_eq_true rfl) (Nat.le_of_ble_eq_true rfl) dX2_isOf_44 (fun h hs => by rw [← hT]; exact ⟨congrArg (fun z => some (Value.int z)) hv, hs⟩)
      · refine g_iload_n F dX2_isOf_35 rfl rfl (np := 36) rfl ?_
        refine g_if_ne F dX2_isOf_36 (tp := 43) (by decide) (np := 39) rfl (fun c36 => ?_) (fun c36 => ?_)
        · refine g_iconst F (v := (nI 0)) dX2_isOf_43 (by decide) (np := 44) rfl ?_
          have hv : (nI (0) : Int32) = bI (ofP (σ.1 0) (σ.1 2) n w) := (show (0 : Int32) = _ from (bI_f (by first | exact ofP_0 c1 | exact ofP_b c18 | exact (ofP_6 c32).mp c36 | exact fun z => c36 ((ofP_6 c32).mpr z) | exact ofP_n c1 c18 c32)).symm)
          exact g_iret F hr rfl (Nat.le_of_ble_eq_true rfl) (Nat.le_of_ble_eq_true rfl) dX2_isOf_44 (fun h hs => by rw [← hT]; exact ⟨congrArg (fun z => some (Value.int z)) hv, hs⟩)
        · refine g_iconst F (v := (nI 1)) dX2_isOf_39 (by decide) (np := 40) rfl ?_
          refine g_goto F dX2_isOf_40 (np := 44) (by decide) ?_
          have hv : (nI (1) : Int32) = bI (ofP (σ.1 0) (σ.1 2) n w) := (show (1 : Int32) = _ from (bI_t (by first | exact ofP_0 c1 | exact ofP_b c18 | exact (ofP_6 c32).mp c36 | exact fun z => c36 ((ofP_6 c32).mpr z) | exact ofP_n c1 c18 c32)).symm)
          exact g_iret F hr rfl (Nat.le_of_ble_eq_true rfl) (Nat.le_of_ble_eq_true rfl) dX2_isOf_44 (fun h hs => by rw [← hT]; exact ⟨congrArg (fun z => some (Value.int z)) hv, hs⟩)
    · refine g_aload_n F dX2_isOf_21 rfl rfl (np := 22) rfl ?_
      refine g_iload_n F dX2_isOf_22 rfl rfl (np := 23) rfl ?_
      refine g_runV F (C := RX2) (ci := 2) (T0 := TX2) (N := 42) (rest := []) (ct_X2_isOne hE σ n (by omega)) (lw_V q1720 q1722 qs59 q102 q1723) hcV_X2_isOne ⟨Nat.le_of_ble_eq_true rfl, Nat.le_of_ble_eq_true rfl⟩ rfl (fun h hs => hs.obj) rfl rfl (Nat.le_of_ble_eq_true rfl) dX2_isOf_23 ⟨Nat.le_of_ble_eq_true rfl, Nat.le_of_ble_eq_true rfl⟩ (np := 26) rfl (k_RI ?_)
      refine g_goto F dX2_isOf_26 (np := 44) (by decide) ?_
      have hv : bI (inN n (σ.1 2)) = bI (ofP (σ.1 0) (σ.1 2) n w) := bI_c (by first | exact ofP_0 c1 | exact ofP_b c18 | exact (ofP_6 c32).mp c36 | exact fun z => c36 ((ofP_6 c32).mpr z) | exact ofP_n c1 c18 c32)
      exact g_iret F hr bI_nar (Nat.le_of_ble_eq_true rfl) (Nat.le_of_ble_eq_true rfl) dX2_isOf_44 (fun h hs => by rw [← hT]; exact ⟨congrArg (fun z => some (Value.int z)) hv, hs⟩)
  · refine g_aload_n F dX2_isOf_4 rfl rfl (np := 5) rfl ?_
    refine g_iload_n F dX2_isOf_5 rfl rfl (np := 6) rfl ?_
    refine g_runV F (C := RX2) (ci := 2) (T0 := TX2) (N := 42) (rest := []) (ct_X2_isOwner hE σ n (by omega)) (lw_V q1688 q1690 qs54 q102 q1691) hcV_X2_isOwner ⟨Nat.le_of_ble_eq_true rfl, Nat.le_of_ble_eq_true rfl⟩ rfl (fun h hs => hs.obj) rfl rfl (Nat.le_of_ble_eq_true rfl) dX2_isOf_6 ⟨Nat.le_of_ble_eq_true rfl, Nat.le_of_ble_eq_true rfl⟩ (np := 9) rfl (k_RI ?_)
    refine g_goto F dX2_isOf_9 (np := 44) (by decide) ?_
    have hv : bI (inN n (σ.1 0)) = bI (ofP (σ.1 0) (σ.1 2) n w) := bI_c (by first | exact ofP_0 c1 | exact ofP_b c18 | exact (ofP_6 c32).mp c36 | exact fun z => c36 ((ofP_6 c32).mpr z) | exact ofP_n c1 c18 c32)
    exact g_iret F hr bI_nar (Nat.le_of_ble_eq_true rfl) (Nat.le_of_ble_eq_true rfl) dX2_isOf_44 (fun h hs => by rw [← hT]; exact ⟨congrArg (fun z => some (Value.int z)) hv, hs⟩)

set_option maxRecDepth 100000 in
theorem ct_X2_isFit {l : Launch} {D : va_G} {E : State → Prop} {B : Nat} (hE : Stab E) {S : AH → Prop}  (w : Int32) (v : Int32) : Ct l D E B yX2_isFit cX2_isFit 2 (some .boolean) 1 22 0 0 [.int w, .int v] (S) (RI (bI (fitP w v)) (S)) := by
  refine Ct.of (nL := 2) (lv := [some (.int w), some (.int v)]) (by decide) (Nat.le_of_ble_eq_true rfl) hE 0 rfl ?_
  generalize hT : RI (bI (fitP w v)) (S) = T
  intro zp ze zs zm zb zt zc F hr hnm
  generalize ([.int w, .int v] : List Value).toArray = za at F ⊢
  refine g_iload_n F dX2_isFit_0 rfl rfl (np := 1) rfl ?_
  by_cases k1_0 : w = 0
  · refine g_tabIn F (x := w) (v := 0) k1_0 (lo := 0) dX2_isFit_1 (j := 0) (by decide) (by decide) (by decide) rfl (np := 40) (by decide) ?_
    refine g_iload_n F dX2_isFit_40 rfl rfl (np := 41) rfl ?_
    refine g_iconst F (v := (nI 0)) dX2_isFit_41 (by decide) (np := 42) rfl ?_
    refine g_sipush F (v := (nI 999)) dX2_isFit_42 (by decide) (np := 45) rfl ?_
    refine g_runS F (rest := []) (ct_X2_within hE v (nI (0)) (nI (999)) ) (lw_S q1677 q1678 q102 q1679) hcS_X2_within ⟨Nat.le_of_ble_eq_true rfl, Nat.le_of_ble_eq_true rfl⟩ rfl rfl (Nat.le_of_ble_eq_true rfl) dX2_isFit_45 ⟨Nat.le_of_ble_eq_true rfl, Nat.le_of_ble_eq_true rfl⟩ (np := 48) rfl (k_RI ?_)
    have hv : bI (btw v (nI (0)) (nI (999))) = bI (fitP w v) := bI_c (by unfold fitP; first | (simp_all [bt999, bt2, bt1, bt99]; done) | (simp_all [bt999, bt2, bt1, bt99, nI_0]; done))
    exact g_iret F hr bI_nar (Nat.le_of_ble_eq_true rfl) (Nat.le_of_ble_eq_true rfl) dX2_isFit_48 (fun h hs => by rw [← hT]; exact ⟨congrArg (fun z => some (Value.int z)) hv, hs⟩)
  by_cases k1_1 : w = 1
  · refine g_tabIn F (x := w) (v := 1) k1_1 (lo := 0) dX2_isFit_1 (j := 1) (by decide) (by decide) (by decide) rfl (np := 71) (by decide) ?_
    refine g_iload_n F dX2_isFit_71 rfl rfl (np := 72) rfl ?_
    refine g_iconst F (v := (nI 0)) dX2_isFit_72 (by decide) (np := 73) rfl ?_
    refine g_bipush F (v := (nI 99)) dX2_isFit_73 (by decide) (np := 75) rfl ?_
    refine g_runS F (rest := []) (ct_X2_within hE v (nI (0)) (nI (99)) ) (lw_S q1677 q1678 q102 q1679) hcS_X2_within ⟨Nat.le_of_ble_eq_true rfl, Nat.le_of_ble_eq_true rfl⟩ rfl rfl (Nat.le_of_ble_eq_true rfl) dX2_isFit_75 ⟨Nat.le_of_ble_eq_true rfl, Nat.le_of_ble_eq_true rfl⟩ (np := 78) rfl (k_RI ?_)
    have hv : bI (btw v (nI (0)) (nI (99))) = bI (fitP w v) := bI_c (by unfold fitP; first | (simp_all [bt999, bt2, bt1, bt99]; done) | (simp_all [bt999, bt2, bt1, bt99, nI_0]; done))
    exact g_iret F hr bI_nar (Nat.le_of_ble_eq_true rfl) (Nat.le_of_ble_eq_true rfl) dX2_isFit_78 (fun h hs => by rw [← hT]; exact ⟨congrArg (fun z => some (Value.int z)) hv, hs⟩)
  by_cases k1_2 : w = 2
  · refine g_tabIn F (x := w) (v := 2) k1_2 (lo := 0) dX2_isFit_1 (j := 2) (by decide) (by decide) (by decide) rfl (np := 49) (by decide) ?_
    refine g_iload_n F dX2_isFit_49 rfl rfl (np := 50) rfl ?_
    refine g_iconst F (v := (nI 0)) dX2_isFit_50 (by decide) (np := 51) rfl ?_
    refine g_iconst F (v := (nI 2)) dX2_isFit_51 (by decide) (np := 52) rfl ?_
    refine g_runS F (rest := []) (ct_X2_within hE v (nI (0)) (nI (2)) ) (lw_S q1677 q1678 q102 q1679) hcS_X2_within ⟨Nat.le_of_ble_eq_true rfl, Nat.le_of_ble_eq_true rfl⟩ rfl rfl (Nat.le_of_ble_eq_true rfl) dX2_isFit_52 ⟨Nat.le_of_ble_eq_true rfl, Nat.le_of_ble_eq_true rfl⟩ (np := 55) rfl (k_RI ?_)
    have hv : bI (btw v (nI (0)) (nI (2))) = bI (fitP w v) := bI_c (by unfold fitP; first | (simp_all [bt999, bt2, bt1, bt99]; done) | (simp_all [bt999, bt2, bt1, bt99, nI_0]; done))
    exact g_iret F hr bI_nar (Nat.le_of_ble_eq_true rfl) (Nat.le_of_ble_eq_true rfl) dX2_isFit_55 (fun h hs => by rw [← hT]; exact ⟨congrArg (fun z => some (Value.int z)) hv, hs⟩)
  by_cases k1_3 : w = 3
  · refine g_tabIn F (x := w) (v := 3) k1_3 (lo := 0) dX2_isFit_1 (j := 3) (by decide) (by decide) (by decide) rfl (np := 56) (by decide) ?_
    refine g_iload_n F dX2_isFit_56 rfl rfl (np := 57) rfl ?_
    refine g_iconst F (v := (nI 1)) dX2_isFit_57 (by decide) (np := 58) rfl ?_
    refine g_bipush F (v := (nI 99)) dX2_isFit_58 (by decide) (np := 60) rfl ?_
    refine g_runS F (rest := []) (ct_X2_within hE v (nI (1)) (nI (99)) ) (lw_S q1677 q1678 q102 q1679) hcS_X2_within ⟨Nat.le_of_ble_eq_true rfl, Nat.le_of_ble_eq_true rfl⟩ rfl rfl (Nat.le_of_ble_eq_true rfl) dX2_isFit_60 ⟨Nat.le_of_ble_eq_true rfl, Nat.le_of_ble_eq_true rfl⟩ (np := 63) rfl (k_RI ?_)
    have hv : bI (btw v (nI (1)) (nI (99))) = bI (fitP w v) := bI_c (by unfold fitP; first | (simp_all [bt999, bt2, bt1, bt99]; done) | (simp_all [bt999, bt2, bt1, bt99, nI_0]; done))
    exact g_iret F hr bI_nar (Nat.le_of_ble_eq_true rfl) (Nat.le_of_ble_eq_true rfl) dX2_isFit_63 (fun h hs => by rw [← hT]; exact ⟨congrArg (fun z => some (Value.int z)) hv, hs⟩)
  by_cases k1_4 : w = 4
  · refine g_tabIn F (x := w) (v := 4) k1_4 (lo := 0) dX2_isFit_1 (j := 4) (by decide) (by decide) (by decide) rfl (np := 71) (by decide) ?_
    refine g_iload_n F dX2_isFit_71 rfl rfl (np := 72) rfl ?_
    refine g_iconst F (v := (nI 0)) dX2_isFit_72 (by decide) (np := 73) rfl ?_
    refine g_bipush F (v := (nI 99)) dX2_isFit_73 (by decide) (np := 75) rfl ?_
    refine g_runS F (rest := []) (ct_X2_within hE v (nI (0)) (nI (99)) ) (lw_S q1677 q1678 q102 q1679) hcS_X2_within ⟨Nat.le_of_ble_eq_true rfl, Nat.le_of_ble_eq_true rfl⟩ rfl rfl (Nat.le_of_ble_eq_true rfl) dX2_isFit_75 ⟨Nat.le_of_ble_eq_true rfl, Nat.le_of_ble_eq_true rfl⟩ (np := 78) rfl (k_RI ?_)
    have hv : bI (btw v (nI (0)) (nI (99))) = bI (fitP w v) := bI_c (by unfold fitP; first | (simp_all [bt999, bt2, bt1, bt99]; done) | (simp_all [bt999, bt2, bt1, bt99, nI_0]; done))
    exact g_iret F hr bI_nar (Nat.le_of_ble_eq_true rfl) (Nat.le_of_ble_eq_true rfl) dX2_isFit_78 (fun h hs => by rw [← hT]; exact ⟨congrArg (fun z => some (Value.int z)) hv, hs⟩)
  by_cases k1_5 : w = 5
  · refine g_tabIn F (x := w) (v := 5) k1_5 (lo := 0) dX2_isFit_1 (j := 5) (by decide) (by decide) (by decide) rfl (np := 64) (by decide) ?_
    refine g_iload_n F dX2_isFit_64 rfl rfl (np := 65) rfl ?_
    refine g_iconst F (v := (nI 0)) dX2_isFit_65 (by decide) (np := 66) rfl ?_
    refine g_iconst F (v := (nI 1)) dX2_isFit_66 (by decide) (np := 67) rfl ?_
    refine g_runS F (rest := []) (ct_X2_within hE v (nI (0)) (nI (1)) ) (lw_S q1677 q1678 q102 q1679) hcS_X2_within ⟨Nat.le_of_ble_eq_true rfl, Nat.le_of_ble_eq_true rfl⟩ rfl rfl (Nat.le_of_ble_eq_true rfl) dX2_isFit_67 ⟨Nat.le_of_ble_eq_true rfl, Nat.le_of_ble_eq_true rfl⟩ (np := 70) rfl (k_RI ?_)
    have hv : bI (btw v (nI (0)) (nI (1))) = bI (fitP w v) := bI_c (by unfold fitP; first | (simp_all [bt999, bt2, bt1, bt99]; done) | (simp_all [bt999, bt2, bt1, bt99, nI_0]; done))
    exact g_iret F hr bI_nar (Nat.le_of_ble_eq_true rfl) (Nat.le_of_ble_eq_true rfl) dX2_isFit_70 (fun h hs => by rw [← hT]; exact ⟨congrArg (fun z => some (Value.int z)) hv, hs⟩)
  refine g_tabOut F (x := w) dX2_isFit_1 (by
    have e0 : ¬ (w).toInt = 0 := fun q => k1_0 (Int32.toInt_inj.mp (q.trans (by decide)))
    have e1 : ¬ (w).toInt = 1 := fun q => k1_1 (Int32.toInt_inj.mp (q.trans (by decide)))
    have e2 : ¬ (w).toInt = 2 := fun q => k1_2 (Int32.toInt_inj.mp (q.trans (by decide)))
    have e3 : ¬ (w).toInt = 3 := fun q => k1_3 (Int32.toInt_inj.mp (q.trans (by decide)))
    have e4 : ¬ (w).toInt = 4 := fun q => k1_4 (Int32.toInt_inj.mp (q.trans (by decide)))
    have e5 : ¬ (w).toInt = 5 := fun q => k1_5 (Int32.toInt_inj.mp (q.trans (by decide)))
    omega) (np := 71) (by decide) ?_
  refine g_iload_n F dX2_isFit_71 rfl rfl (np := 72) rfl ?_
  refine g_iconst F (v := (nI 0)) dX2_isFit_72 (by decide) (np := 73) rfl ?_
  refine g_bipush F (v := (nI 99)) dX2_isFit_73 (by decide) (np := 75) rfl ?_
  refine g_runS F (rest := []) (ct_X2_within hE v (nI (0)) (nI (99)) ) (lw_S q1677 q1678 q102 q1679) hcS_X2_within ⟨Nat.le_of_ble_eq_true rfl, Nat.le_of_ble_eq_true rfl⟩ rfl rfl (Nat.le_of_ble_eq_true rfl) dX2_isFit_75 ⟨Nat.le_of_ble_eq_true rfl, Nat.le_of_ble_eq_true rfl⟩ (np := 78) rfl (k_RI ?_)
  have hv : bI (btw v (nI (0)) (nI (99))) = bI (fitP w v) := bI_c (by unfold fitP; first | (simp_all [bt999, bt2, bt1, bt99]; done) | (simp_all [bt999, bt2, bt1, bt99, nI_0]; done))
  exact g_iret F hr bI_nar (Nat.le_of_ble_eq_true rfl) (Nat.le_of_ble_eq_true rfl) dX2_isFit_78 (fun h hs => by rw [← hT]; exact ⟨congrArg (fun z => some (Value.int z)) hv, hs⟩)

set_option maxRecDepth 100000 in
theorem ct_X2_of {l : Launch} {D : va_G} {E : State → Prop} {B : Nat} (hE : Stab E) {ad : Nat → Nat} {h0 : AH} (σ : MSt)  (n : Int32) (w : Int32) (hno : σ.1 0 ≤ 8) (hm : σ.1 2 ≤ 15) : Ct l D E B yX2_of cX2_of 3 (some .int) 3 65 0 0 [.ref (ad 0), .int n, .int w] (MH D ad h0 σ) (RI (rOf σ n w) (MH D ad h0 σ)) := by
  refine Ct.of (nL := 3) (lv := [some (.ref (ad 0)), some (.int n), some (.int w)]) (by decide) (Nat.le_of_ble_eq_true rfl) hE 0 rfl ?_
  generalize hT : RI (rOf σ n w) (MH D ad h0 σ) = T
  intro zp ze zs zm zb zt zc F hr hnm
  generalize ([.ref (ad 0), .int n, .int w] : List Value).toArray = za at F ⊢
  refine g_iload_n F dX2_of_0 rfl rfl (np := 1) rfl ?_
  refine g_bipush F (v := (nI 7)) dX2_of_1 (by decide) (np := 3) rfl ?_
  refine g_bipush F (v := (nI 8)) dX2_of_3 (by decide) (np := 5) rfl ?_
  refine g_runS F (rest := []) (ct_X2_within hE w (nI (7)) (nI (8)) ) (lw_S q1677 q1678 q102 q1679) hcS_X2_within ⟨Nat.le_of_ble_eq_true rfl, Nat.le_of_ble_eq_true rfl⟩ rfl rfl (Nat.le_of_ble_eq_true rfl) dX2_of_5 ⟨Nat.le_of_ble_eq_true rfl, Nat.le_of_ble_eq_true rfl⟩ (np := 8) rfl (k_RI ?_)
  refine g_if_eqB F dX2_of_8 (tp := 46) (by decide) (np := 11) rfl (fun c8 => ?_) (fun c8 => ?_)
  · refine g_aload_n F dX2_of_46 rfl rfl (np := 47) rfl ?_
    refine g_iload_n F dX2_of_47 rfl rfl (np := 48) rfl ?_
    refine g_iload_n F dX2_of_48 rfl rfl (np := 49) rfl ?_
    refine g_runV F (C := RX2) (ci := 2) (T0 := TX2) (N := 42) (rest := []) (ct_X2_isOf hE σ n w (by first | assumption | omega) (by first | assumption | omega)) (lw_V q1716 q1718 qs58 q102 q1719) hcV_X2_isOf ⟨Nat.le_of_ble_eq_true rfl, Nat.le_of_ble_eq_true rfl⟩ rfl (fun h hs => hs.obj) rfl rfl (Nat.le_of_ble_eq_true rfl) dX2_of_49 ⟨Nat.le_of_ble_eq_true rfl, Nat.le_of_ble_eq_true rfl⟩ (np := 52) rfl (k_RI ?_)
    refine g_if_eqB F dX2_of_52 (tp := 64) (by decide) (np := 55) rfl (fun c52 => ?_) (fun c52 => ?_)
    · refine g_ldc F q1727 dX2_of_64 (np := 66) rfl ?_
      have hv : -2000000000 = rOf σ n w := by unfold rOf; rw [pif_f c8]; first | (rw [pif_f c52]; done) | (rw [pif_t c52]; done)
      exact g_iret F hr rfl (Nat.le_of_ble_eq_true rfl) (Nat.le_of_ble_eq_true rfl) dX2_of_66 (fun h hs => by rw [← hT]; exact ⟨congrArg (fun z => some (Value.int z)) hv, hs⟩)
    · obtain ⟨z1, z2, z3, z4, z5, z6⟩ := ofP_cl hno hm c52
      refine WG.eqv (lv' := [some (.ref (ad 0)), some (.int (nI (n.toNatClampNeg))), some (.int w)]) rfl (congrArg (fun z => ([some (.ref (ad 0)), some (.int z), some (.int w)] : List (Option Value))) (show n = (nI (n.toNatClampNeg)) from by exact z1)) ?_
      refine WG.eqv (lv' := [some (.ref (ad 0)), some (.int (nI (n.toNatClampNeg))), some (.int (nI (w.toNatClampNeg)))]) rfl (congrArg (fun z => ([some (.ref (ad 0)), some (.int (nI (n.toNatClampNeg))), some (.int z)] : List (Option Value))) (show w = (nI (w.toNatClampNeg)) from by exact z2)) ?_
      refine g_aload_n F dX2_of_55 rfl rfl (np := 56) rfl ?_
      refine g_iload_n F dX2_of_56 rfl rfl (np := 57) rfl ?_
      refine g_iload_n F dX2_of_57 rfl rfl (np := 58) rfl ?_
      refine g_runV F (C := RX2) (ci := 2) (T0 := TX2) (N := 42) (rest := []) (ct_X2_get hE σ n.toNatClampNeg w.toNatClampNeg (by exact z3) (by exact fun q => Nat.lt_of_lt_of_le (z4 q) hno) (by exact fun q1 q2 => Nat.lt_of_lt_of_le (z5 q1 q2) hm)) (lw_V q1728 q1730 qs60 q102 q1731) hcV_X2_get ⟨Nat.le_of_ble_eq_true rfl, Nat.le_of_ble_eq_true rfl⟩ rfl (fun h hs => hs.obj) rfl rfl (Nat.le_of_ble_eq_true rfl) dX2_of_58 ⟨Nat.le_of_ble_eq_true rfl, Nat.le_of_ble_eq_true rfl⟩ (np := 61) rfl (k_RI ?_)
      refine g_goto F dX2_of_61 (np := 66) (by decide) ?_
      have hv : sGet σ n.toNatClampNeg w.toNatClampNeg = rOf σ n w := by unfold rOf; rw [pif_f c8]; first | (rw [pif_f c52]; done) | (rw [pif_t c52]; done)
      exact g_iret F hr rfl (Nat.le_of_ble_eq_true rfl) (Nat.le_of_ble_eq_true rfl) dX2_of_66 (fun h hs => by rw [← hT]; exact ⟨congrArg (fun z => some (Value.int z)) hv, hs⟩)
  · refine g_aload_n F dX2_of_11 rfl rfl (np := 12) rfl ?_
    refine g_iload_n F dX2_of_12 rfl rfl (np := 13) rfl ?_
    refine g_runV F (C := RX2) (ci := 2) (T0 := TX2) (N := 42) (rest := []) (ct_X2_isOne hE σ n (by omega)) (lw_V q1720 q1722 qs59 q102 q1723) hcV_X2_isOne ⟨Nat.le_of_ble_eq_true rfl, Nat.le_of_ble_eq_true rfl⟩ rfl (fun h hs => hs.obj) rfl rfl (Nat.le_of_ble_eq_true rfl) dX2_of_13 ⟨Nat.le_of_ble_eq_true rfl, Nat.le_of_ble_eq_true rfl⟩ (np := 16) rfl (k_RI ?_)
    refine g_if_eqB F dX2_of_16 (tp := 43) (by decide) (np := 19) rfl (fun c16 => ?_) (fun c16 => ?_)
    · refine g_ldc F q1727 dX2_of_43 (np := 45) rfl ?_
      have hv : -2000000000 = rOf σ n w := by unfold rOf; rw [pif_t c8]; first | (rw [pif_f c16]; done) | (rw [pif_t c16, if_pos c22]; done) | (rw [pif_t c16, if_neg c22]; done)
      exact g_iret F hr rfl (Nat.le_of_ble_eq_true rfl) (Nat.le_of_ble_eq_true rfl) dX2_of_45 (fun h hs => by rw [← hT]; exact ⟨congrArg (fun z => some (Value.int z)) hv, hs⟩)
    · obtain ⟨hnl, hne⟩ := inN_cl (by omega) c16
      refine WG.eqv (lv' := [some (.ref (ad 0)), some (.int (nI (n.toNatClampNeg))), some (.int w)]) rfl (congrArg (fun z => ([some (.ref (ad 0)), some (.int z), some (.int w)] : List (Option Value))) (show n = (nI (n.toNatClampNeg)) from by exact hne)) ?_
      refine g_iload_n F dX2_of_19 rfl rfl (np := 20) rfl ?_
      refine g_bipush F (v := (nI 7)) dX2_of_20 (by decide) (np := 22) rfl ?_
      refine g_icmp_ne F dX2_of_22 (tp := 34) (by decide) (np := 25) rfl (fun c22 => ?_) (fun c22 => ?_)
      · refine g_aload_n F dX2_of_34 rfl rfl (np := 35) rfl ?_
        refine h_get F (k := 5) (v := .ref (ad 5)) (by decide) rfl q1551 dX2_of_35 (np := 38) rfl ?_
        refine g_iload_n F dX2_of_38 rfl rfl (np := 39) rfl ?_
        refine h_ald F (k := 5) (i := n.toNatClampNeg) (L := 15) (v := σ.2.1 5 n.toNatClampNeg) rfl rfl (by decide) (by omega) rfl rfl dX2_of_39 (by decide) (by decide) (np := 40) rfl ?_
        refine g_goto F dX2_of_40 (np := 45) (by decide) ?_
        have hv : σ.2.1 5 n.toNatClampNeg = rOf σ n w := by unfold rOf; rw [pif_t c8]; first | (rw [pif_f c16]; done) | (rw [pif_t c16, if_pos c22]; done) | (rw [pif_t c16, if_neg c22]; done)
        exact g_iret F hr rfl (Nat.le_of_ble_eq_true rfl) (Nat.le_of_ble_eq_true rfl) dX2_of_45 (fun h hs => by rw [← hT]; exact ⟨congrArg (fun z => some (Value.int z)) hv, hs⟩)
      · refine g_aload_n F dX2_of_25 rfl rfl (np := 26) rfl ?_
        refine h_get F (k := 4) (v := .ref (ad 4)) (by decide) rfl q1550 dX2_of_26 (np := 29) rfl ?_
        refine g_iload_n F dX2_of_29 rfl rfl (np := 30) rfl ?_
        refine h_ald F (k := 4) (i := n.toNatClampNeg) (L := 15) (v := σ.2.1 4 n.toNatClampNeg) rfl rfl (by decide) (by omega) rfl rfl dX2_of_30 (by decide) (by decide) (np := 31) rfl ?_
        refine g_goto F dX2_of_31 (np := 45) (by decide) ?_
        have hv : σ.2.1 4 n.toNatClampNeg = rOf σ n w := by unfold rOf; rw [pif_t c8]; first | (rw [pif_f c16]; done) | (rw [pif_t c16, if_pos c22]; done) | (rw [pif_t c16, if_neg c22]; done)
        exact g_iret F hr rfl (Nat.le_of_ble_eq_true rfl) (Nat.le_of_ble_eq_true rfl) dX2_of_45 (fun h hs => by rw [← hT]; exact ⟨congrArg (fun z => some (Value.int z)) hv, hs⟩)

set_option maxRecDepth 100000 in
theorem ct_X2_feed {l : Launch} {D : va_G} {E : State → Prop} {B : Nat} (hE : Stab E) {ad : Nat → Nat} {h0 : AH} (σ : MSt)  (x : Int32) (htp : σ.1 7 ≤ 120) : Ct l D E B yX2_feed cX2_feed 2 (some .int) 1 22 0 0 [.ref (ad 0), .int x] (MH D ad h0 σ) (RI (rFeed σ x) (MH D ad h0 (gFeed σ x))) := by
  refine Ct.of (nL := 2) (lv := [some (.ref (ad 0)), some (.int x)]) (by decide) (Nat.le_of_ble_eq_true rfl) hE 0 rfl ?_
  generalize hT : RI (rFeed σ x) (MH D ad h0 (gFeed σ x)) = T
  intro zp ze zs zm zb zt zc F hr hnm
  generalize ([.ref (ad 0), .int x] : List Value).toArray = za at F ⊢
  refine g_iload_n F dX2_feed_0 rfl rfl (np := 1) rfl ?_
  refine g_iconst F (v := (nI 0)) dX2_feed_1 (by decide) (np := 2) rfl ?_
  refine g_sipush F (v := (nI 255)) dX2_feed_2 (by decide) (np := 5) rfl ?_
  refine g_runS F (rest := []) (ct_X2_within hE x (nI (0)) (nI (255)) ) (lw_S q1677 q1678 q102 q1679) hcS_X2_within ⟨Nat.le_of_ble_eq_true rfl, Nat.le_of_ble_eq_true rfl⟩ rfl rfl (Nat.le_of_ble_eq_true rfl) dX2_feed_5 ⟨Nat.le_of_ble_eq_true rfl, Nat.le_of_ble_eq_true rfl⟩ (np := 8) rfl (k_RI ?_)
  refine g_if_neB F dX2_feed_8 (tp := 13) (by decide) (np := 11) rfl (fun c8 => ?_) (fun c8 => ?_)
  · refine g_aload_n F dX2_feed_13 rfl rfl (np := 14) rfl ?_
    refine h_get F (k := 7) (v := .int (nI (σ.1 7))) (by decide) rfl q1553 dX2_feed_14 (np := 17) rfl ?_
    refine g_bipush F (v := (nI 120)) dX2_feed_17 (by decide) (np := 19) rfl ?_
    refine g_icmp_neN F (by omega) (by decide) dX2_feed_19 (tp := 25) (by decide) (np := 22) rfl (fun c19 => ?_) (fun c19 => ?_)
    · refine g_aload_n F dX2_feed_25 rfl rfl (np := 26) rfl ?_
      refine h_get F (k := 8) (v := .ref (ad 8)) (by decide) rfl q1554 dX2_feed_26 (np := 29) rfl ?_
      refine g_aload_n F dX2_feed_29 rfl rfl (np := 30) rfl ?_
      refine g_dup F dX2_feed_30 rfl (np := 31) rfl ?_
      refine h_get F (k := 7) (v := .int (nI (σ.1 7))) (by decide) rfl q1553 dX2_feed_31 (np := 34) rfl ?_
      refine g_dup_x1 F dX2_feed_34 rfl rfl (np := 35) rfl ?_
      refine g_iconst F (v := (nI 1)) dX2_feed_35 (by decide) (np := 36) rfl ?_
      refine g_iaddN F dX2_feed_36 (np := 37) rfl ?_
      refine h_put F (k := 7) (n := (σ.1 7) + 1) (ty := .int) rfl (by decide) (mset_7 _ _ _) rfl rfl rfl rfl q1553 dX2_feed_37 (np := 40) rfl ?_
      refine g_iload_n F dX2_feed_40 rfl rfl (np := 41) rfl ?_
      refine h_ast F (k := 8) (i := σ.1 7) (L := 120) rfl rfl (by decide) (by omega) rfl dX2_feed_41 (by decide) (by decide) (np := 42) rfl ?_
      refine g_aload_n F dX2_feed_42 rfl rfl (np := 43) rfl ?_
      refine h_get F (k := 7) (v := .int (nI ((σ.1 7) + 1))) (by decide) rfl q1553 dX2_feed_43 (np := 46) rfl ?_
      have hσ : (sA (sN σ 7 ((σ.1 7) + 1)) 8 (σ.1 7) x) = (gFeed σ x) := by unfold gFeed; rw [pif_t ⟨bt255.mp c8, c19⟩]
      have hv : nI ((σ.1 7) + 1) = rFeed σ x := by unfold rFeed; rw [pif_t (bt255.mp c8), if_neg c19]
      exact g_iret F hr rfl (Nat.le_of_ble_eq_true rfl) (Nat.le_of_ble_eq_true rfl) dX2_feed_46 (fun h hs => by rw [← hT]; exact ⟨congrArg (fun z => some (Value.int z)) hv, (hσ ▸ hs)⟩)
    · refine g_bipush F (v := (-3)) dX2_feed_22 (by decide) (np := 24) rfl ?_
      have hσ : σ = (gFeed σ x) := by unfold gFeed; rw [pif_f (fun z => z.2 c19)]
      have hv : -3 = rFeed σ x := by unfold rFeed; rw [pif_t (bt255.mp c8), if_pos c19]; try rfl
      exact g_iret F hr rfl (Nat.le_of_ble_eq_true rfl) (Nat.le_of_ble_eq_true rfl) dX2_feed_24 (fun h hs => by rw [← hT]; exact ⟨congrArg (fun z => some (Value.int z)) hv, (hσ ▸ hs)⟩)
  · refine g_iconst F (v := (-1)) dX2_feed_11 (by decide) (np := 12) rfl ?_
    have hσ : σ = (gFeed σ x) := by unfold gFeed; rw [pif_f (fun z => c8 (bt255.mpr z.1))]
    have hv : -1 = rFeed σ x := by unfold rFeed; rw [pif_f (fun z => c8 (bt255.mpr z))]
    exact g_iret F hr rfl (Nat.le_of_ble_eq_true rfl) (Nat.le_of_ble_eq_true rfl) dX2_feed_12 (fun h hs => by rw [← hT]; exact ⟨congrArg (fun z => some (Value.int z)) hv, (hσ ▸ hs)⟩)

set_option maxRecDepth 100000 in
theorem ct_X2_undo {l : Launch} {D : va_G} {E : State → Prop} {B : Nat} (hE : Stab E) {ad : Nat → Nat} {h0 : AH} (σ : MSt)   (hno : σ.1 0 ≤ 8) (hm14 : σ.1 2 ≤ 14) (hch : chOK σ) : Ct l D E B yX2_undo cX2_undo 1 (some .int) 1 23 0 0 [.ref (ad 0)] (MH D ad h0 σ) (RI (rUndo σ) (MH D ad h0 (gUndo σ))) := by
  refine Ct.of (nL := 1) (lv := [some (.ref (ad 0))]) (by decide) (Nat.le_of_ble_eq_true rfl) hE 0 rfl ?_
  generalize hT : RI (rUndo σ) (MH D ad h0 (gUndo σ)) = T
  intro zp ze zs zm zb zt zc F hr hnm
  generalize ([.ref (ad 0)] : List Value).toArray = za at F ⊢
  obtain ⟨ch1, ch2, ch3⟩ := hch
  refine g_aload_n F dX2_undo_0 rfl rfl (np := 1) rfl ?_
  refine h_get F (k := 32) (v := .int (nI (σ.1 32))) (by decide) rfl q1578 dX2_undo_1 (np := 4) rfl ?_
  refine g_if_neN F (by omega) dX2_undo_4 (tp := 10) (by decide) (np := 7) rfl (fun c4 => ?_) (fun c4 => ?_)
  · obtain ⟨nn, ww, e1, e2, e3, e4, e5⟩ := ch3 (σ.1 32 - 1) (by omega)
    obtain ⟨s1, s2, s3, s4⟩ := slot_get e3 hno (by omega)
    refine g_aload_n F dX2_undo_10 rfl rfl (np := 11) rfl ?_
    refine g_dup F dX2_undo_11 rfl (np := 12) rfl ?_
    refine h_get F (k := 32) (v := .int (nI (σ.1 32))) (by decide) rfl q1578 dX2_undo_12 (np := 15) rfl ?_
    refine g_iconst F (v := (nI 1)) dX2_undo_15 (by decide) (np := 16) rfl ?_
    refine g_isubN F (by omega) dX2_undo_16 (np := 17) rfl ?_
    refine h_put F (k := 32) (n := (σ.1 32) - 1) (ty := .int) rfl (by decide) (mset_32 _ _ _) rfl rfl rfl rfl q1578 dX2_undo_17 (np := 20) rfl ?_
    refine g_aload_n F dX2_undo_20 rfl rfl (np := 21) rfl ?_
    refine g_aload_n F dX2_undo_21 rfl rfl (np := 22) rfl ?_
    refine h_get F (k := 33) (v := .ref (ad 33)) (by decide) rfl q1579 dX2_undo_22 (np := 25) rfl ?_
    refine g_iconst F (v := (nI 4)) dX2_undo_25 (by decide) (np := 26) rfl ?_
    refine g_aload_n F dX2_undo_26 rfl rfl (np := 27) rfl ?_
    refine h_get F (k := 32) (v := .int (nI ((σ.1 32) - 1))) (by decide) rfl q1578 dX2_undo_27 (np := 30) rfl ?_
    refine g_imulN F dX2_undo_30 (np := 31) rfl ?_
    refine h_ald F (k := 33) (i := 4 * ((σ.1 32) - 1)) (L := 160) (v := σ.2.1 33 (4 * ((σ.1 32) - 1))) rfl rfl (by decide) (by omega) rfl rfl dX2_undo_31 (by decide) (by decide) (np := 32) rfl ?_
    refine g_aload_n F dX2_undo_32 rfl rfl (np := 33) rfl ?_
    refine h_get F (k := 33) (v := .ref (ad 33)) (by decide) rfl q1579 dX2_undo_33 (np := 36) rfl ?_
    refine g_iconst F (v := (nI 4)) dX2_undo_36 (by decide) (np := 37) rfl ?_
    refine g_aload_n F dX2_undo_37 rfl rfl (np := 38) rfl ?_
    refine h_get F (k := 32) (v := .int (nI ((σ.1 32) - 1))) (by decide) rfl q1578 dX2_undo_38 (np := 41) rfl ?_
    refine g_imulN F dX2_undo_41 (np := 42) rfl ?_
    refine g_iconst F (v := (nI 1)) dX2_undo_42 (by decide) (np := 43) rfl ?_
    refine g_iaddN F dX2_undo_43 (np := 44) rfl ?_
    refine h_ald F (k := 33) (i := (4 * ((σ.1 32) - 1)) + 1) (L := 160) (v := σ.2.1 33 ((4 * ((σ.1 32) - 1)) + 1)) rfl rfl (by decide) (by omega) rfl rfl dX2_undo_44 (by decide) (by decide) (np := 45) rfl ?_
    refine g_aload_n F dX2_undo_45 rfl rfl (np := 46) rfl ?_
    refine h_get F (k := 33) (v := .ref (ad 33)) (by decide) rfl q1579 dX2_undo_46 (np := 49) rfl ?_
    refine g_iconst F (v := (nI 4)) dX2_undo_49 (by decide) (np := 50) rfl ?_
    refine g_aload_n F dX2_undo_50 rfl rfl (np := 51) rfl ?_
    refine h_get F (k := 32) (v := .int (nI ((σ.1 32) - 1))) (by decide) rfl q1578 dX2_undo_51 (np := 54) rfl ?_
    refine g_imulN F dX2_undo_54 (np := 55) rfl ?_
    refine g_iconst F (v := (nI 2)) dX2_undo_55 (by decide) (np := 56) rfl ?_
    refine g_iaddN F dX2_undo_56 (np := 57) rfl ?_
    refine h_ald F (k := 33) (i := (4 * ((σ.1 32) - 1)) + 2) (L := 160) (v := σ.2.1 33 ((4 * ((σ.1 32) - 1)) + 2)) rfl rfl (by decide) (by omega) rfl rfl dX2_undo_57 (by decide) (by decide) (np := 58) rfl ?_
    refine WG.eqv (st' := [.int (σ.2.1 33 ((4 * ((σ.1 32) - 1)) + 2)), .int (σ.2.1 33 ((4 * ((σ.1 32) - 1)) + 1)), .int (nI nn), .ref (ad 0)]) (congrArg (fun z => ([.int (σ.2.1 33 ((4 * ((σ.1 32) - 1)) + 2)), .int (σ.2.1 33 ((4 * ((σ.1 32) - 1)) + 1)), .int z, .ref (ad 0)] : List Value)) (show (σ.2.1 33 (4 * ((σ.1 32) - 1))) = (nI nn) from by exact e1)) rfl ?_
    refine WG.eqv (st' := [.int (σ.2.1 33 ((4 * ((σ.1 32) - 1)) + 2)), .int (nI ww), .int (nI nn), .ref (ad 0)]) (congrArg (fun z => ([.int (σ.2.1 33 ((4 * ((σ.1 32) - 1)) + 2)), .int z, .int (nI nn), .ref (ad 0)] : List Value)) (show (σ.2.1 33 ((4 * ((σ.1 32) - 1)) + 1)) = (nI ww) from by exact e2)) rfl ?_
    refine g_runV F (C := RX2) (ci := 2) (T0 := TX2) (N := 42) (rest := []) (ct_X2_becomes hE (sN σ 32 ((σ.1 32) - 1)) nn ww (σ.2.1 33 ((4 * ((σ.1 32) - 1)) + 2)) (by exact s1) (by exact s2) (by exact s3) (by intro hw; subst hw; exact (valOK_6 e4).1)) (lw_V q1732 q1734 qs61 q102 q1735) hcV_X2_becomes ⟨Nat.le_of_ble_eq_true rfl, Nat.le_of_ble_eq_true rfl⟩ rfl (fun h hs => hs.obj) rfl rfl (Nat.le_of_ble_eq_true rfl) dX2_undo_58 ⟨Nat.le_of_ble_eq_true rfl, Nat.le_of_ble_eq_true rfl⟩ (np := 61) rfl (k_RV ?_)
    refine g_aload_n F dX2_undo_61 rfl rfl (np := 62) rfl ?_
    refine h_get F (k := 32) (v := .int (nI ((sSet (sN σ 32 ((σ.1 32) - 1)) nn ww (σ.2.1 33 ((4 * ((σ.1 32) - 1)) + 2))).1 32))) (by decide) rfl q1578 dX2_undo_62 (np := 65) rfl ?_
    have hσ : (sSet (sN σ 32 ((σ.1 32) - 1)) nn ww (σ.2.1 33 ((4 * ((σ.1 32) - 1)) + 2))) = (gUndo σ) := by unfold gUndo; rw [if_neg c4]; unfold chE; simp only; rw [e1, e2, nI_clamp (by omega), nI_clamp (by omega)]
    have hv : nI ((sSet (sN σ 32 ((σ.1 32) - 1)) nn ww (σ.2.1 33 ((4 * ((σ.1 32) - 1)) + 2))).1 32) = rUndo σ := by unfold rUndo; rw [if_neg c4, sSet_n _ _ _ _ (by decide)]; rfl
    exact g_iret F hr rfl (Nat.le_of_ble_eq_true rfl) (Nat.le_of_ble_eq_true rfl) dX2_undo_65 (fun h hs => by rw [← hT]; exact ⟨congrArg (fun z => some (Value.int z)) hv, (hσ ▸ hs)⟩)
  · refine g_bipush F (v := (-5)) dX2_undo_7 (by decide) (np := 9) rfl ?_
    have hσ : σ = (gUndo σ) := by unfold gUndo; rw [if_pos c4]
    have hv : -5 = rUndo σ := by unfold rUndo; rw [if_pos c4]
    exact g_iret F hr rfl (Nat.le_of_ble_eq_true rfl) (Nat.le_of_ble_eq_true rfl) dX2_undo_9 (fun h hs => by rw [← hT]; exact ⟨congrArg (fun z => some (Value.int z)) hv, (hσ ▸ hs)⟩)

set_option maxRecDepth 100000 in
theorem ct_X2_redo {l : Launch} {D : va_G} {E : State → Prop} {B : Nat} (hE : Stab E) {ad : Nat → Nat} {h0 : AH} (σ : MSt)   (hno : σ.1 0 ≤ 8) (hm14 : σ.1 2 ≤ 14) (hch : chOK σ) : Ct l D E B yX2_redo cX2_redo 1 (some .int) 1 23 0 0 [.ref (ad 0)] (MH D ad h0 σ) (RI (rRedo σ) (MH D ad h0 (gRedo σ))) := by
  refine Ct.of (nL := 1) (lv := [some (.ref (ad 0))]) (by decide) (Nat.le_of_ble_eq_true rfl) hE 0 rfl ?_
  generalize hT : RI (rRedo σ) (MH D ad h0 (gRedo σ)) = T
  intro zp ze zs zm zb zt zc F hr hnm
  generalize ([.ref (ad 0)] : List Value).toArray = za at F ⊢
  obtain ⟨ch1, ch2, ch3⟩ := hch
  refine g_aload_n F dX2_redo_0 rfl rfl (np := 1) rfl ?_
  refine h_get F (k := 32) (v := .int (nI (σ.1 32))) (by decide) rfl q1578 dX2_redo_1 (np := 4) rfl ?_
  refine g_aload_n F dX2_redo_4 rfl rfl (np := 5) rfl ?_
  refine h_get F (k := 31) (v := .int (nI (σ.1 31))) (by decide) rfl q1577 dX2_redo_5 (np := 8) rfl ?_
  refine g_icmp_neN F (by omega) (by omega) dX2_redo_8 (tp := 14) (by decide) (np := 11) rfl (fun c8 => ?_) (fun c8 => ?_)
  · obtain ⟨nn, ww, e1, e2, e3, e4, e5⟩ := ch3 (σ.1 32) (by omega)
    obtain ⟨s1, s2, s3, s4⟩ := slot_get e3 hno (by omega)
    refine g_aload_n F dX2_redo_14 rfl rfl (np := 15) rfl ?_
    refine g_aload_n F dX2_redo_15 rfl rfl (np := 16) rfl ?_
    refine h_get F (k := 33) (v := .ref (ad 33)) (by decide) rfl q1579 dX2_redo_16 (np := 19) rfl ?_
    refine g_iconst F (v := (nI 4)) dX2_redo_19 (by decide) (np := 20) rfl ?_
    refine g_aload_n F dX2_redo_20 rfl rfl (np := 21) rfl ?_
    refine h_get F (k := 32) (v := .int (nI (σ.1 32))) (by decide) rfl q1578 dX2_redo_21 (np := 24) rfl ?_
    refine g_imulN F dX2_redo_24 (np := 25) rfl ?_
    refine h_ald F (k := 33) (i := 4 * (σ.1 32)) (L := 160) (v := σ.2.1 33 (4 * (σ.1 32))) rfl rfl (by decide) (by omega) rfl rfl dX2_redo_25 (by decide) (by decide) (np := 26) rfl ?_
    refine g_aload_n F dX2_redo_26 rfl rfl (np := 27) rfl ?_
    refine h_get F (k := 33) (v := .ref (ad 33)) (by decide) rfl q1579 dX2_redo_27 (np := 30) rfl ?_
    refine g_iconst F (v := (nI 4)) dX2_redo_30 (by decide) (np := 31) rfl ?_
    refine g_aload_n F dX2_redo_31 rfl rfl (np := 32) rfl ?_
    refine h_get F (k := 32) (v := .int (nI (σ.1 32))) (by decide) rfl q1578 dX2_redo_32 (np := 35) rfl ?_
    refine g_imulN F dX2_redo_35 (np := 36) rfl ?_
    refine g_iconst F (v := (nI 1)) dX2_redo_36 (by decide) (np := 37) rfl ?_
    refine g_iaddN F dX2_redo_37 (np := 38) rfl ?_
    refine h_ald F (k := 33) (i := (4 * (σ.1 32)) + 1) (L := 160) (v := σ.2.1 33 ((4 * (σ.1 32)) + 1)) rfl rfl (by decide) (by omega) rfl rfl dX2_redo_38 (by decide) (by decide) (np := 39) rfl ?_
    refine g_aload_n F dX2_redo_39 rfl rfl (np := 40) rfl ?_
    refine h_get F (k := 33) (v := .ref (ad 33)) (by decide) rfl q1579 dX2_redo_40 (np := 43) rfl ?_
    refine g_iconst F (v := (nI 4)) dX2_redo_43 (by decide) (np := 44) rfl ?_
    refine g_aload_n F dX2_redo_44 rfl rfl (np := 45) rfl ?_
    refine h_get F (k := 32) (v := .int (nI (σ.1 32))) (by decide) rfl q1578 dX2_redo_45 (np := 48) rfl ?_
    refine g_imulN F dX2_redo_48 (np := 49) rfl ?_
    refine g_iconst F (v := (nI 3)) dX2_redo_49 (by decide) (np := 50) rfl ?_
    refine g_iaddN F dX2_redo_50 (np := 51) rfl ?_
    refine h_ald F (k := 33) (i := (4 * (σ.1 32)) + 3) (L := 160) (v := σ.2.1 33 ((4 * (σ.1 32)) + 3)) rfl rfl (by decide) (by omega) rfl rfl dX2_redo_51 (by decide) (by decide) (np := 52) rfl ?_
    refine WG.eqv (st' := [.int (σ.2.1 33 ((4 * (σ.1 32)) + 3)), .int (σ.2.1 33 ((4 * (σ.1 32)) + 1)), .int (nI nn), .ref (ad 0)]) (congrArg (fun z => ([.int (σ.2.1 33 ((4 * (σ.1 32)) + 3)), .int (σ.2.1 33 ((4 * (σ.1 32)) + 1)), .int z, .ref (ad 0)] : List Value)) (show (σ.2.1 33 (4 * (σ.1 32))) = (nI nn) from by exact e1)) rfl ?_
    refine WG.eqv (st' := [.int (σ.2.1 33 ((4 * (σ.1 32)) + 3)), .int (nI ww), .int (nI nn), .ref (ad 0)]) (congrArg (fun z => ([.int (σ.2.1 33 ((4 * (σ.1 32)) + 3)), .int z, .int (nI nn), .ref (ad 0)] : List Value)) (show (σ.2.1 33 ((4 * (σ.1 32)) + 1)) = (nI ww) from by exact e2)) rfl ?_
    refine g_runV F (C := RX2) (ci := 2) (T0 := TX2) (N := 42) (rest := []) (ct_X2_becomes hE σ nn ww (σ.2.1 33 ((4 * (σ.1 32)) + 3)) (by exact s1) (by exact s2) (by exact s3) (by intro hw; subst hw; exact (valOK_6 e5).1)) (lw_V q1732 q1734 qs61 q102 q1735) hcV_X2_becomes ⟨Nat.le_of_ble_eq_true rfl, Nat.le_of_ble_eq_true rfl⟩ rfl (fun h hs => hs.obj) rfl rfl (Nat.le_of_ble_eq_true rfl) dX2_redo_52 ⟨Nat.le_of_ble_eq_true rfl, Nat.le_of_ble_eq_true rfl⟩ (np := 55) rfl (k_RV ?_)
    refine g_aload_n F dX2_redo_55 rfl rfl (np := 56) rfl ?_
    refine g_dup F dX2_redo_56 rfl (np := 57) rfl ?_
    refine h_get F (k := 32) (v := .int (nI ((sSet σ nn ww (σ.2.1 33 ((4 * (σ.1 32)) + 3))).1 32))) (by decide) rfl q1578 dX2_redo_57 (np := 60) rfl ?_
    refine g_iconst F (v := (nI 1)) dX2_redo_60 (by decide) (np := 61) rfl ?_
    refine g_iaddN F dX2_redo_61 (np := 62) rfl ?_
    refine h_put F (k := 32) (n := ((sSet σ nn ww (σ.2.1 33 ((4 * (σ.1 32)) + 3))).1 32) + 1) (ty := .int) rfl (by decide) (mset_32 _ _ _) rfl rfl rfl rfl q1578 dX2_redo_62 (np := 65) rfl ?_
    refine g_aload_n F dX2_redo_65 rfl rfl (np := 66) rfl ?_
    refine h_get F (k := 31) (v := .int (nI ((sSet σ nn ww (σ.2.1 33 ((4 * (σ.1 32)) + 3))).1 31))) (by decide) rfl q1577 dX2_redo_66 (np := 69) rfl ?_
    refine g_aload_n F dX2_redo_69 rfl rfl (np := 70) rfl ?_
    refine h_get F (k := 32) (v := .int (nI (((sSet σ nn ww (σ.2.1 33 ((4 * (σ.1 32)) + 3))).1 32) + 1))) (by decide) rfl q1578 dX2_redo_70 (np := 73) rfl ?_
    refine g_isubN F (by rw [sSet_n _ _ _ _ (by decide), sSet_n _ _ _ _ (by decide)]; show σ.1 32 + 1 ≤ σ.1 31; omega) dX2_redo_73 (np := 74) rfl ?_
    have hσ : (sN (sSet σ nn ww (σ.2.1 33 ((4 * (σ.1 32)) + 3))) 32 (((sSet σ nn ww (σ.2.1 33 ((4 * (σ.1 32)) + 3))).1 32) + 1)) = (gRedo σ) := by unfold gRedo; rw [if_neg c8, sSet_n _ _ _ _ (by decide)]; unfold chE; simp only; rw [e1, e2, nI_clamp (by omega), nI_clamp (by omega)]
    have hv : nI (((sSet σ nn ww (σ.2.1 33 ((4 * (σ.1 32)) + 3))).1 31) - (((sSet σ nn ww (σ.2.1 33 ((4 * (σ.1 32)) + 3))).1 32) + 1)) = rRedo σ := by unfold rRedo; rw [if_neg c8, sSet_n _ _ _ _ (by decide), sSet_n _ _ _ _ (by decide)]
    exact g_iret F hr rfl (Nat.le_of_ble_eq_true rfl) (Nat.le_of_ble_eq_true rfl) dX2_redo_74 (fun h hs => by rw [← hT]; exact ⟨congrArg (fun z => some (Value.int z)) hv, (hσ ▸ hs)⟩)
  · refine g_bipush F (v := (-5)) dX2_redo_11 (by decide) (np := 13) rfl ?_
    have hσ : σ = (gRedo σ) := by unfold gRedo; rw [if_pos c8]
    have hv : -5 = rRedo σ := by unfold rRedo; rw [if_pos c8]
    exact g_iret F hr rfl (Nat.le_of_ble_eq_true rfl) (Nat.le_of_ble_eq_true rfl) dX2_redo_13 (fun h hs => by rw [← hT]; exact ⟨congrArg (fun z => some (Value.int z)) hv, (hσ ▸ hs)⟩)

set_option maxRecDepth 100000 in
theorem ct_X2_mend {l : Launch} {D : va_G} {E : State → Prop} {B : Nat} (hE : Stab E) {ad : Nat → Nat} {h0 : AH} (σ : MSt)  (n : Int32) (w : Int32) (v : Int32) (hno : σ.1 0 ≤ 8) (hm14 : σ.1 2 ≤ 14) (hch : σ.1 32 ≤ 40) : Ct l D E B yX2_mend cX2_mend 6 (some .int) 3 65 0 0 [.ref (ad 0), .int n, .int w, .int v] (MH D ad h0 σ) (RI (rMend σ n w v) (MH D ad h0 (gMend σ n w v))) := by
  refine Ct.of (nL := 6) (lv := [some (.ref (ad 0)), some (.int n), some (.int w), some (.int v), none, none]) (by decide) (Nat.le_of_ble_eq_true rfl) hE 2 rfl ?_
  generalize hT : RI (rMend σ n w v) (MH D ad h0 (gMend σ n w v)) = T
  intro zp ze zs zm zb zt zc F hr hnm
  generalize ([.ref (ad 0), .int n, .int w, .int v] : List Value).toArray = za at F ⊢
  refine g_aload_n F dX2_mend_0 rfl rfl (np := 1) rfl ?_
  refine g_iload_n F dX2_mend_1 rfl rfl (np := 2) rfl ?_
  refine g_iload_n F dX2_mend_2 rfl rfl (np := 3) rfl ?_
  refine g_runV F (C := RX2) (ci := 2) (T0 := TX2) (N := 42) (rest := []) (ct_X2_isOf hE σ n w (by exact hno) (by omega)) (lw_V q1716 q1718 qs58 q102 q1719) hcV_X2_isOf ⟨Nat.le_of_ble_eq_true rfl, Nat.le_of_ble_eq_true rfl⟩ rfl (fun h hs => hs.obj) rfl rfl (Nat.le_of_ble_eq_true rfl) dX2_mend_3 ⟨Nat.le_of_ble_eq_true rfl, Nat.le_of_ble_eq_true rfl⟩ (np := 6) rfl (k_RI ?_)
  refine g_if_eqB F dX2_mend_6 (tp := 17) (by decide) (np := 9) rfl (fun c6 => ?_) (fun c6 => ?_)
  · refine g_ldc F q1727 dX2_mend_17 (np := 19) rfl ?_
    have hσ : σ = (gMend σ n w v) := by unfold gMend; first | (rw [pif_f (fun z => c6 z.1)]; done) | (rw [pif_f (fun z => c14 z.2.1)]; done)
    have hv : -2000000000 = rMend σ n w v := by unfold rMend; first | (rw [pif_f (fun z => c6 z.1)]; done) | (rw [pif_f (fun z => c14 z.2)]; done)
    exact g_iret F hr rfl (Nat.le_of_ble_eq_true rfl) (Nat.le_of_ble_eq_true rfl) dX2_mend_19 (fun h hs => by rw [← hT]; exact ⟨congrArg (fun z => some (Value.int z)) hv, (hσ ▸ hs)⟩)
  · refine g_iload_n F dX2_mend_9 rfl rfl (np := 10) rfl ?_
    refine g_iload_n F dX2_mend_10 rfl rfl (np := 11) rfl ?_
    refine g_runS F (rest := []) (ct_X2_isFit hE w v ) (lw_S q1724 q1725 q102 q1726) hcS_X2_isFit ⟨Nat.le_of_ble_eq_true rfl, Nat.le_of_ble_eq_true rfl⟩ rfl rfl (Nat.le_of_ble_eq_true rfl) dX2_mend_11 ⟨Nat.le_of_ble_eq_true rfl, Nat.le_of_ble_eq_true rfl⟩ (np := 14) rfl (k_RI ?_)
    refine g_if_neB F dX2_mend_14 (tp := 20) (by decide) (np := 17) rfl (fun c14 => ?_) (fun c14 => ?_)
    · obtain ⟨z1, z2, z3, z4, z5, z6⟩ := ofP_cl hno (by omega) c6
      refine WG.eqv (lv' := [some (.ref (ad 0)), some (.int (nI (n.toNatClampNeg))), some (.int w), some (.int v), none, none]) rfl (congrArg (fun z => ([some (.ref (ad 0)), some (.int z), some (.int w), some (.int v), none, none] : List (Option Value))) (show n = (nI (n.toNatClampNeg)) from by exact z1)) ?_
      refine WG.eqv (lv' := [some (.ref (ad 0)), some (.int (nI (n.toNatClampNeg))), some (.int (nI (w.toNatClampNeg))), some (.int v), none, none]) rfl (congrArg (fun z => ([some (.ref (ad 0)), some (.int (nI (n.toNatClampNeg))), some (.int z), some (.int v), none, none] : List (Option Value))) (show w = (nI (w.toNatClampNeg)) from by exact z2)) ?_
      refine g_aload_n F dX2_mend_20 rfl rfl (np := 21) rfl ?_
      refine g_iload_n F dX2_mend_21 rfl rfl (np := 22) rfl ?_
      refine g_iload_n F dX2_mend_22 rfl rfl (np := 23) rfl ?_
      refine g_runV F (C := RX2) (ci := 2) (T0 := TX2) (N := 42) (rest := []) (ct_X2_get hE σ n.toNatClampNeg w.toNatClampNeg (by exact z3) (by exact fun q => Nat.lt_of_lt_of_le (z4 q) hno) (by exact fun q1 q2 => Nat.lt_of_lt_of_le (z5 q1 q2) (by omega))) (lw_V q1728 q1730 qs60 q102 q1731) hcV_X2_get ⟨Nat.le_of_ble_eq_true rfl, Nat.le_of_ble_eq_true rfl⟩ rfl (fun h hs => hs.obj) rfl rfl (Nat.le_of_ble_eq_true rfl) dX2_mend_23 ⟨Nat.le_of_ble_eq_true rfl, Nat.le_of_ble_eq_true rfl⟩ (np := 26) rfl (k_RI ?_)
      refine g_istore F (lv' := [some (.ref (ad 0)), some (.int (nI (n.toNatClampNeg))), some (.int (nI (w.toNatClampNeg))), some (.int v), some (.int (sGet σ n.toNatClampNeg w.toNatClampNeg)), none]) dX2_mend_26 (by decide) rfl rfl (np := 28) rfl ?_
      refine g_iload F dX2_mend_28 rfl (np := 30) rfl ?_
      refine g_iload_n F dX2_mend_30 rfl rfl (np := 31) rfl ?_
      refine g_icmp_ne F dX2_mend_31 (tp := 37) (by decide) (np := 34) rfl (fun c31 => ?_) (fun c31 => ?_)
      · refine g_aload_n F dX2_mend_37 rfl rfl (np := 38) rfl ?_
        refine g_iload_n F dX2_mend_38 rfl rfl (np := 39) rfl ?_
        refine g_iload_n F dX2_mend_39 rfl rfl (np := 40) rfl ?_
        refine g_iload_n F dX2_mend_40 rfl rfl (np := 41) rfl ?_
        refine g_runV F (C := RX2) (ci := 2) (T0 := TX2) (N := 42) (rest := []) (ct_X2_becomes hE σ n.toNatClampNeg w.toNatClampNeg v (by exact z3) (by exact fun q => Nat.lt_of_lt_of_le (z4 q) hno) (by exact fun q1 q2 => Nat.lt_of_lt_of_le (z5 q1 q2) (by omega)) (by intro hw; rw [z2, hw] at c14; exact (valOK_6 c14).1)) (lw_V q1732 q1734 qs61 q102 q1735) hcV_X2_becomes ⟨Nat.le_of_ble_eq_true rfl, Nat.le_of_ble_eq_true rfl⟩ rfl (fun h hs => hs.obj) rfl rfl (Nat.le_of_ble_eq_true rfl) dX2_mend_41 ⟨Nat.le_of_ble_eq_true rfl, Nat.le_of_ble_eq_true rfl⟩ (np := 44) rfl (k_RV ?_)
        have h32 : (sSet σ n.toNatClampNeg w.toNatClampNeg v).1 32 = σ.1 32 := sSet_n _ _ _ _ (by decide)
        refine g_aload_n F dX2_mend_44 rfl rfl (np := 45) rfl ?_
        refine h_get F (k := 32) (v := .int (nI ((sSet σ n.toNatClampNeg w.toNatClampNeg v).1 32))) (by decide) rfl q1578 dX2_mend_45 (np := 48) rfl ?_
        refine g_bipush F (v := (nI 40)) dX2_mend_48 (by decide) (np := 50) rfl ?_
        refine g_icmp_neN F (by omega) (by decide) dX2_mend_50 (tp := 96) (by decide) (np := 53) rfl (fun c50 => ?_) (fun c50 => ?_)
        · refine g_aload_n F dX2_mend_96 rfl rfl (np := 97) rfl ?_
          refine h_get F (k := 33) (v := .ref (ad 33)) (by decide) rfl q1579 dX2_mend_97 (np := 100) rfl ?_
          refine g_iconst F (v := (nI 4)) dX2_mend_100 (by decide) (np := 101) rfl ?_
          refine g_aload_n F dX2_mend_101 rfl rfl (np := 102) rfl ?_
          refine h_get F (k := 32) (v := .int (nI ((sSet σ n.toNatClampNeg w.toNatClampNeg v).1 32))) (by decide) rfl q1578 dX2_mend_102 (np := 105) rfl ?_
          refine g_imulN F dX2_mend_105 (np := 106) rfl ?_
          refine g_iload_n F dX2_mend_106 rfl rfl (np := 107) rfl ?_
          refine h_ast F (k := 33) (i := 4 * ((sSet σ n.toNatClampNeg w.toNatClampNeg v).1 32)) (L := 160) rfl rfl (by decide) (by omega) rfl dX2_mend_107 (by decide) (by decide) (np := 108) rfl ?_
          refine g_aload_n F dX2_mend_108 rfl rfl (np := 109) rfl ?_
          refine h_get F (k := 33) (v := .ref (ad 33)) (by decide) rfl q1579 dX2_mend_109 (np := 112) rfl ?_
          refine g_iconst F (v := (nI 4)) dX2_mend_112 (by decide) (np := 113) rfl ?_
          refine g_aload_n F dX2_mend_113 rfl rfl (np := 114) rfl ?_
          refine h_get F (k := 32) (v := .int (nI ((sSet σ n.toNatClampNeg w.toNatClampNeg v).1 32))) (by decide) rfl q1578 dX2_mend_114 (np := 117) rfl ?_
          refine g_imulN F dX2_mend_117 (np := 118) rfl ?_
          refine g_iconst F (v := (nI 1)) dX2_mend_118 (by decide) (np := 119) rfl ?_
          refine g_iaddN F dX2_mend_119 (np := 120) rfl ?_
          refine g_iload_n F dX2_mend_120 rfl rfl (np := 121) rfl ?_
          refine h_ast F (k := 33) (i := (4 * ((sSet σ n.toNatClampNeg w.toNatClampNeg v).1 32)) + 1) (L := 160) rfl rfl (by decide) (by omega) rfl dX2_mend_121 (by decide) (by decide) (np := 122) rfl ?_
          refine g_aload_n F dX2_mend_122 rfl rfl (np := 123) rfl ?_
          refine h_get F (k := 33) (v := .ref (ad 33)) (by decide) rfl q1579 dX2_mend_123 (np := 126) rfl ?_
          refine g_iconst F (v := (nI 4)) dX2_mend_126 (by decide) (np := 127) rfl ?_
          refine g_aload_n F dX2_mend_127 rfl rfl (np := 128) rfl ?_
          refine h_get F (k := 32) (v := .int (nI ((sSet σ n.toNatClampNeg w.toNatClampNeg v).1 32))) (by decide) rfl q1578 dX2_mend_128 (np := 131) rfl ?_
          refine g_imulN F dX2_mend_131 (np := 132) rfl ?_
          refine g_iconst F (v := (nI 2)) dX2_mend_132 (by decide) (np := 133) rfl ?_
          refine g_iaddN F dX2_mend_133 (np := 134) rfl ?_
          refine g_iload F dX2_mend_134 rfl (np := 136) rfl ?_
          refine h_ast F (k := 33) (i := (4 * ((sSet σ n.toNatClampNeg w.toNatClampNeg v).1 32)) + 2) (L := 160) rfl rfl (by decide) (by omega) rfl dX2_mend_136 (by decide) (by decide) (np := 137) rfl ?_
          refine g_aload_n F dX2_mend_137 rfl rfl (np := 138) rfl ?_
          refine h_get F (k := 33) (v := .ref (ad 33)) (by decide) rfl q1579 dX2_mend_138 (np := 141) rfl ?_
          refine g_iconst F (v := (nI 4)) dX2_mend_141 (by decide) (np := 142) rfl ?_
          refine g_aload_n F dX2_mend_142 rfl rfl (np := 143) rfl ?_
          refine h_get F (k := 32) (v := .int (nI ((sSet σ n.toNatClampNeg w.toNatClampNeg v).1 32))) (by decide) rfl q1578 dX2_mend_143 (np := 146) rfl ?_
          refine g_imulN F dX2_mend_146 (np := 147) rfl ?_
          refine g_iconst F (v := (nI 3)) dX2_mend_147 (by decide) (np := 148) rfl ?_
          refine g_iaddN F dX2_mend_148 (np := 149) rfl ?_
          refine g_iload_n F dX2_mend_149 rfl rfl (np := 150) rfl ?_
          refine h_ast F (k := 33) (i := (4 * ((sSet σ n.toNatClampNeg w.toNatClampNeg v).1 32)) + 3) (L := 160) rfl rfl (by decide) (by omega) rfl dX2_mend_150 (by decide) (by decide) (np := 151) rfl ?_
          refine g_aload_n F dX2_mend_151 rfl rfl (np := 152) rfl ?_
          refine g_dup F dX2_mend_152 rfl (np := 153) rfl ?_
          refine h_get F (k := 32) (v := .int (nI ((sSet σ n.toNatClampNeg w.toNatClampNeg v).1 32))) (by decide) rfl q1578 dX2_mend_153 (np := 156) rfl ?_
          refine g_iconst F (v := (nI 1)) dX2_mend_156 (by decide) (np := 157) rfl ?_
          refine g_iaddN F dX2_mend_157 (np := 158) rfl ?_
          refine h_put F (k := 32) (n := ((sSet σ n.toNatClampNeg w.toNatClampNeg v).1 32) + 1) (ty := .int) rfl (by decide) (mset_32 _ _ _) rfl rfl rfl rfl q1578 dX2_mend_158 (np := 161) rfl ?_
          refine g_aload_n F dX2_mend_161 rfl rfl (np := 162) rfl ?_
          refine g_aload_n F dX2_mend_162 rfl rfl (np := 163) rfl ?_
          refine h_get F (k := 32) (v := .int (nI (((sSet σ n.toNatClampNeg w.toNatClampNeg v).1 32) + 1))) (by decide) rfl q1578 dX2_mend_163 (np := 166) rfl ?_
          refine h_put F (k := 31) (n := ((sSet σ n.toNatClampNeg w.toNatClampNeg v).1 32) + 1) (ty := .int) rfl (by decide) (mset_31 _ _ _) rfl rfl rfl rfl q1577 dX2_mend_166 (np := 169) rfl ?_
          refine g_iload F dX2_mend_169 rfl (np := 171) rfl ?_
          have hσ : (sN (sN (sA (sA (sA (sA (sSet σ n.toNatClampNeg w.toNatClampNeg v) 33 (4 * ((sSet σ n.toNatClampNeg w.toNatClampNeg v).1 32)) (nI (n.toNatClampNeg))) 33 ((4 * ((sSet σ n.toNatClampNeg w.toNatClampNeg v).1 32)) + 1) (nI (w.toNatClampNeg))) 33 ((4 * ((sSet σ n.toNatClampNeg w.toNatClampNeg v).1 32)) + 2) (sGet σ n.toNatClampNeg w.toNatClampNeg)) 33 ((4 * ((sSet σ n.toNatClampNeg w.toNatClampNeg v).1 32)) + 3) v) 32 (((sSet σ n.toNatClampNeg w.toNatClampNeg v).1 32) + 1)) 31 (((sSet σ n.toNatClampNeg w.toNatClampNeg v).1 32) + 1)) = (gMend σ n w v) := by unfold gMend; rw [pif_t ⟨c6, c14, c31⟩]; unfold mendS; first | (rw [if_neg (fun z => c50 (h32.trans z))]; rfl) | (rw [if_pos (h32.symm.trans c50), hf]; rfl)
          have hv : sGet σ n.toNatClampNeg w.toNatClampNeg = rMend σ n w v := by unfold rMend; rw [pif_t ⟨c6, c14⟩]
          exact g_iret F hr rfl (Nat.le_of_ble_eq_true rfl) (Nat.le_of_ble_eq_true rfl) dX2_mend_171 (fun h hs => by rw [← hT]; exact ⟨congrArg (fun z => some (Value.int z)) hv, (hσ ▸ hs)⟩)
        · refine g_iconst F (v := (nI 0)) dX2_mend_53 (by decide) (np := 54) rfl ?_
          refine g_istore F (lv' := [some (.ref (ad 0)), some (.int (nI (n.toNatClampNeg))), some (.int (nI (w.toNatClampNeg))), some (.int v), some (.int (sGet σ n.toNatClampNeg w.toNatClampNeg)), some (.int (nI 0))]) dX2_mend_54 (by decide) rfl rfl (np := 56) rfl ?_
          have L56 : ∀ (zn : Nat) (i : Nat) (f : Nat → Int32), (∀ j, f j = if j < i then (sSet σ n.toNatClampNeg w.toNatClampNeg v).2.1 33 (j + 4) else (sSet σ n.toNatClampNeg w.toNatClampNeg v).2.1 33 j) → (i ≤ 156) → 156 - i < zn → WG zp l ze ({ frames := 3, cells := 0, slots := 0, locals := 65 } : Room) zs zm za zb zt zc D B 6 (MQ zb (QT D B T) za zs 0 0 (zA B)) (MH D ad h0 (cpS (sSet σ n.toNatClampNeg w.toNatClampNeg v) 33 f)) 0 0 56 [some (.ref (ad 0)), some (.int (nI (n.toNatClampNeg))), some (.int (nI (w.toNatClampNeg))), some (.int v), some (.int (sGet σ n.toNatClampNeg w.toNatClampNeg)), some (.int (nI i))] [] := by
            intro zn
            induction zn with
            | zero => intro i f h1 h2 hm; exact absurd hm (Nat.not_lt_zero _)
            | succ zn ih56 =>
              intro i f h1 h2 hm
              refine g_iload F dX2_mend_56 rfl (np := 58) rfl ?_
              refine g_sipush F (v := (nI 156)) dX2_mend_58 (by decide) (np := 61) rfl ?_
              refine g_icmp_geN F (by omega) (by decide) dX2_mend_61 (tp := 86) (by decide) (np := 64) rfl (fun c61 => ?_) (fun c61 => ?_)
              · have hf : f = fun j => if j < 156 then (sSet σ n.toNatClampNeg w.toNatClampNeg v).2.1 33 (j + 4) else (sSet σ n.toNatClampNeg w.toNatClampNeg v).2.1 33 j := by funext j; rw [h1, show i = 156 by omega]
                refine g_aload_n F dX2_mend_86 rfl rfl (np := 87) rfl ?_
                refine g_dup F dX2_mend_87 rfl (np := 88) rfl ?_
                refine h_get F (k := 32) (v := .int (nI ((sSet σ n.toNatClampNeg w.toNatClampNeg v).1 32))) (by decide) rfl q1578 dX2_mend_88 (np := 91) rfl ?_
                refine g_iconst F (v := (nI 1)) dX2_mend_91 (by decide) (np := 92) rfl ?_
                refine g_isubN F (by omega) dX2_mend_92 (np := 93) rfl ?_
                refine h_put F (k := 32) (n := ((sSet σ n.toNatClampNeg w.toNatClampNeg v).1 32) - 1) (ty := .int) rfl (by decide) (mset_32 _ _ _) rfl rfl rfl rfl q1578 dX2_mend_93 (np := 96) rfl ?_
                refine g_aload_n F dX2_mend_96 rfl rfl (np := 97) rfl ?_
                refine h_get F (k := 33) (v := .ref (ad 33)) (by decide) rfl q1579 dX2_mend_97 (np := 100) rfl ?_
                refine g_iconst F (v := (nI 4)) dX2_mend_100 (by decide) (np := 101) rfl ?_
                refine g_aload_n F dX2_mend_101 rfl rfl (np := 102) rfl ?_
                refine h_get F (k := 32) (v := .int (nI (((sSet σ n.toNatClampNeg w.toNatClampNeg v).1 32) - 1))) (by decide) rfl q1578 dX2_mend_102 (np := 105) rfl ?_
                refine g_imulN F dX2_mend_105 (np := 106) rfl ?_
                refine g_iload_n F dX2_mend_106 rfl rfl (np := 107) rfl ?_
                refine h_ast F (k := 33) (i := 4 * (((sSet σ n.toNatClampNeg w.toNatClampNeg v).1 32) - 1)) (L := 160) rfl rfl (by decide) (by omega) rfl dX2_mend_107 (by decide) (by decide) (np := 108) rfl ?_
                refine g_aload_n F dX2_mend_108 rfl rfl (np := 109) rfl ?_
                refine h_get F (k := 33) (v := .ref (ad 33)) (by decide) rfl q1579 dX2_mend_109 (np := 112) rfl ?_
                refine g_iconst F (v := (nI 4)) dX2_mend_112 (by decide) (np := 113) rfl ?_
                refine g_aload_n F dX2_mend_113 rfl rfl (np := 114) rfl ?_
                refine h_get F (k := 32) (v := .int (nI (((sSet σ n.toNatClampNeg w.toNatClampNeg v).1 32) - 1))) (by decide) rfl q1578 dX2_mend_114 (np := 117) rfl ?_
                refine g_imulN F dX2_mend_117 (np := 118) rfl ?_
                refine g_iconst F (v := (nI 1)) dX2_mend_118 (by decide) (np := 119) rfl ?_
                refine g_iaddN F dX2_mend_119 (np := 120) rfl ?_
                refine g_iload_n F dX2_mend_120 rfl rfl (np := 121) rfl ?_
                refine h_ast F (k := 33) (i := (4 * (((sSet σ n.toNatClampNeg w.toNatClampNeg v).1 32) - 1)) + 1) (L := 160) rfl rfl (by decide) (by omega) rfl dX2_mend_121 (by decide) (by decide) (np := 122) rfl ?_
                refine g_aload_n F dX2_mend_122 rfl rfl (np := 123) rfl ?_
                refine h_get F (k := 33) (v := .ref (ad 33)) (by decide) rfl q1579 dX2_mend_123 (np := 126) rfl ?_
                refine g_iconst F (v := (nI 4)) dX2_mend_126 (by decide) (np := 127) rfl ?_
                refine g_aload_n F dX2_mend_127 rfl rfl (np := 128) rfl ?_
                refine h_get F (k := 32) (v := .int (nI (((sSet σ n.toNatClampNeg w.toNatClampNeg v).1 32) - 1))) (by decide) rfl q1578 dX2_mend_128 (np := 131) rfl ?_
                refine g_imulN F dX2_mend_131 (np := 132) rfl ?_
                refine g_iconst F (v := (nI 2)) dX2_mend_132 (by decide) (np := 133) rfl ?_
                refine g_iaddN F dX2_mend_133 (np := 134) rfl ?_
                refine g_iload F dX2_mend_134 rfl (np := 136) rfl ?_
                refine h_ast F (k := 33) (i := (4 * (((sSet σ n.toNatClampNeg w.toNatClampNeg v).1 32) - 1)) + 2) (L := 160) rfl rfl (by decide) (by omega) rfl dX2_mend_136 (by decide) (by decide) (np := 137) rfl ?_
                refine g_aload_n F dX2_mend_137 rfl rfl (np := 138) rfl ?_
                refine h_get F (k := 33) (v := .ref (ad 33)) (by decide) rfl q1579 dX2_mend_138 (np := 141) rfl ?_
                refine g_iconst F (v := (nI 4)) dX2_mend_141 (by decide) (np := 142) rfl ?_
                refine g_aload_n F dX2_mend_142 rfl rfl (np := 143) rfl ?_
                refine h_get F (k := 32) (v := .int (nI (((sSet σ n.toNatClampNeg w.toNatClampNeg v).1 32) - 1))) (by decide) rfl q1578 dX2_mend_143 (np := 146) rfl ?_
                refine g_imulN F dX2_mend_146 (np := 147) rfl ?_
                refine g_iconst F (v := (nI 3)) dX2_mend_147 (by decide) (np := 148) rfl ?_
                refine g_iaddN F dX2_mend_148 (np := 149) rfl ?_
                refine g_iload_n F dX2_mend_149 rfl rfl (np := 150) rfl ?_
                refine h_ast F (k := 33) (i := (4 * (((sSet σ n.toNatClampNeg w.toNatClampNeg v).1 32) - 1)) + 3) (L := 160) rfl rfl (by decide) (by omega) rfl dX2_mend_150 (by decide) (by decide) (np := 151) rfl ?_
                refine g_aload_n F dX2_mend_151 rfl rfl (np := 152) rfl ?_
                refine g_dup F dX2_mend_152 rfl (np := 153) rfl ?_
                refine h_get F (k := 32) (v := .int (nI (((sSet σ n.toNatClampNeg w.toNatClampNeg v).1 32) - 1))) (by decide) rfl q1578 dX2_mend_153 (np := 156) rfl ?_
                refine g_iconst F (v := (nI 1)) dX2_mend_156 (by decide) (np := 157) rfl ?_
                refine g_iaddN F dX2_mend_157 (np := 158) rfl ?_
                refine h_put F (k := 32) (n := (((sSet σ n.toNatClampNeg w.toNatClampNeg v).1 32) - 1) + 1) (ty := .int) rfl (by decide) (mset_32 _ _ _) rfl rfl rfl rfl q1578 dX2_mend_158 (np := 161) rfl ?_
                refine g_aload_n F dX2_mend_161 rfl rfl (np := 162) rfl ?_
                refine g_aload_n F dX2_mend_162 rfl rfl (np := 163) rfl ?_
                refine h_get F (k := 32) (v := .int (nI ((((sSet σ n.toNatClampNeg w.toNatClampNeg v).1 32) - 1) + 1))) (by decide) rfl q1578 dX2_mend_163 (np := 166) rfl ?_
                refine h_put F (k := 31) (n := (((sSet σ n.toNatClampNeg w.toNatClampNeg v).1 32) - 1) + 1) (ty := .int) rfl (by decide) (mset_31 _ _ _) rfl rfl rfl rfl q1577 dX2_mend_166 (np := 169) rfl ?_
                refine g_iload F dX2_mend_169 rfl (np := 171) rfl ?_
                have hσ : (sN (sN (sA (sA (sA (sA (sN (cpS (sSet σ n.toNatClampNeg w.toNatClampNeg v) 33 f) 32 (((sSet σ n.toNatClampNeg w.toNatClampNeg v).1 32) - 1)) 33 (4 * (((sSet σ n.toNatClampNeg w.toNatClampNeg v).1 32) - 1)) (nI (n.toNatClampNeg))) 33 ((4 * (((sSet σ n.toNatClampNeg w.toNatClampNeg v).1 32) - 1)) + 1) (nI (w.toNatClampNeg))) 33 ((4 * (((sSet σ n.toNatClampNeg w.toNatClampNeg v).1 32) - 1)) + 2) (sGet σ n.toNatClampNeg w.toNatClampNeg)) 33 ((4 * (((sSet σ n.toNatClampNeg w.toNatClampNeg v).1 32) - 1)) + 3) v) 32 ((((sSet σ n.toNatClampNeg w.toNatClampNeg v).1 32) - 1) + 1)) 31 ((((sSet σ n.toNatClampNeg w.toNatClampNeg v).1 32) - 1) + 1)) = (gMend σ n w v) := by unfold gMend; rw [pif_t ⟨c6, c14, c31⟩]; unfold mendS; first | (rw [if_neg (fun z => c50 (h32.trans z))]; rfl) | (rw [if_pos (h32.symm.trans c50), hf]; rfl)
                have hv : sGet σ n.toNatClampNeg w.toNatClampNeg = rMend σ n w v := by unfold rMend; rw [pif_t ⟨c6, c14⟩]
                exact g_iret F hr rfl (Nat.le_of_ble_eq_true rfl) (Nat.le_of_ble_eq_true rfl) dX2_mend_171 (fun h hs => by rw [← hT]; exact ⟨congrArg (fun z => some (Value.int z)) hv, (hσ ▸ hs)⟩)
              · refine g_aload_n F dX2_mend_64 rfl rfl (np := 65) rfl ?_
                refine h_get F (k := 33) (v := .ref (ad 33)) (by decide) rfl q1579 dX2_mend_65 (np := 68) rfl ?_
                refine g_iload F dX2_mend_68 rfl (np := 70) rfl ?_
                refine g_aload_n F dX2_mend_70 rfl rfl (np := 71) rfl ?_
                refine h_get F (k := 33) (v := .ref (ad 33)) (by decide) rfl q1579 dX2_mend_71 (np := 74) rfl ?_
                refine g_iload F dX2_mend_74 rfl (np := 76) rfl ?_
                refine g_iconst F (v := (nI 4)) dX2_mend_76 (by decide) (np := 77) rfl ?_
                refine g_iaddN F dX2_mend_77 (np := 78) rfl ?_
                refine h_ald F (k := 33) (i := i + 4) (L := 160) (v := f (i + 4)) rfl rfl (by decide) (by omega) rfl rfl dX2_mend_78 (by decide) (by decide) (np := 79) rfl ?_
                refine h_ast F (k := 33) (i := i) (L := 160) rfl rfl (by decide) (by omega) rfl dX2_mend_79 (by decide) (by decide) (np := 80) rfl ?_
                refine WG.weak (S' := MH D ad h0 (cpS (sSet σ n.toNatClampNeg w.toNatClampNeg v) 33 (va_up f i (f (i + 4))))) (fun h hs => by rw [cpS_sA]; exact hs) ?_
                refine g_iinc F (v := (nI (i + 1))) (lv' := [some (.ref (ad 0)), some (.int (nI (n.toNatClampNeg))), some (.int (nI (w.toNatClampNeg))), some (.int v), some (.int (sGet σ n.toNatClampNeg w.toNatClampNeg)), some (.int (nI (i + 1)))]) dX2_mend_80 rfl (nI_add _ _) (by decide) rfl rfl (np := 83) rfl ?_
                refine g_goto F dX2_mend_83 (np := 56) (by decide) ?_
                exact ih56 (i + 1) ((va_up f i (f (i + 4)))) (by exact cp_step (P := fun j => (sSet σ n.toNatClampNeg w.toNatClampNeg v).2.1 33 (j + 4)) h1 (by rw [h1, if_neg (by omega)])) (by omega) (by omega)
          refine WG.weak (S' := MH D ad h0 (cpS (sSet σ n.toNatClampNeg w.toNatClampNeg v) 33 ((sSet σ n.toNatClampNeg w.toNatClampNeg v).2.1 33))) (fun h hs => by rw [cpS_id]; exact hs) ?_
          exact L56 _ 0 (((sSet σ n.toNatClampNeg w.toNatClampNeg v).2.1 33)) (by intro j; rw [if_neg (Nat.not_lt_zero j)]) (by omega) (Nat.lt_succ_self _)
      · refine g_iload F dX2_mend_34 rfl (np := 36) rfl ?_
        have hσ : σ = (gMend σ n w v) := by unfold gMend; rw [pif_f (fun z => z.2.2 c31)]
        have hv : sGet σ n.toNatClampNeg w.toNatClampNeg = rMend σ n w v := by unfold rMend; rw [pif_t ⟨c6, c14⟩]
        exact g_iret F hr rfl (Nat.le_of_ble_eq_true rfl) (Nat.le_of_ble_eq_true rfl) dX2_mend_36 (fun h hs => by rw [← hT]; exact ⟨congrArg (fun z => some (Value.int z)) hv, (hσ ▸ hs)⟩)
    · refine g_ldc F q1727 dX2_mend_17 (np := 19) rfl ?_
      have hσ : σ = (gMend σ n w v) := by unfold gMend; first | (rw [pif_f (fun z => c6 z.1)]; done) | (rw [pif_f (fun z => c14 z.2.1)]; done)
      have hv : -2000000000 = rMend σ n w v := by unfold rMend; first | (rw [pif_f (fun z => c6 z.1)]; done) | (rw [pif_f (fun z => c14 z.2)]; done)
      exact g_iret F hr rfl (Nat.le_of_ble_eq_true rfl) (Nat.le_of_ble_eq_true rfl) dX2_mend_19 (fun h hs => by rw [← hT]; exact ⟨congrArg (fun z => some (Value.int z)) hv, (hσ ▸ hs)⟩)

set_option maxRecDepth 100000 in
theorem ct_X2_image {l : Launch} {D : va_G} {E : State → Prop} {B : Nat} (hE : Stab E) {ad : Nat → Nat} {h0 : AH} (σ : MSt)   (ht : σ.1 6 < 2 ^ 30) : Ct l D E B yX2_image cX2_image 2 (some .int) 0 0 0 0 [.ref (ad 0)] (MH D ad h0 σ) (RI (σ.2.1 25 4) (MH D ad h0 (imgS σ))) := by
  refine Ct.of (nL := 2) (lv := [some (.ref (ad 0)), none]) (by decide) (Nat.le_of_ble_eq_true rfl) hE 1 rfl ?_
  generalize hT : RI (σ.2.1 25 4) (MH D ad h0 (imgS σ)) = T
  intro zp ze zs zm zb zt zc F hr hnm
  generalize ([.ref (ad 0)] : List Value).toArray = za at F ⊢
  refine g_aload_n F dX2_image_0 rfl rfl (np := 1) rfl ?_
  refine g_iconst F (v := (nI 1)) dX2_image_1 (by decide) (np := 2) rfl ?_
  refine h_put F (k := 26) (n := 1) (ty := .boolean) rfl (by decide) (mset_26 _ _ _) rfl rfl rfl rfl q1572 dX2_image_2 (np := 5) rfl ?_
  refine g_aload_n F dX2_image_5 rfl rfl (np := 6) rfl ?_
  refine g_aload_n F dX2_image_6 rfl rfl (np := 7) rfl ?_
  refine h_get F (k := 0) (v := .int (nI (σ.1 0))) (by decide) rfl q1546 dX2_image_7 (np := 10) rfl ?_
  refine h_put F (k := 27) (n := σ.1 0) (ty := .int) rfl (by decide) (mset_27 _ _ _) rfl rfl rfl rfl q1573 dX2_image_10 (np := 13) rfl ?_
  refine g_aload_n F dX2_image_13 rfl rfl (np := 14) rfl ?_
  refine g_aload_n F dX2_image_14 rfl rfl (np := 15) rfl ?_
  refine h_get F (k := 2) (v := .int (nI (σ.1 2))) (by decide) rfl q1548 dX2_image_15 (np := 18) rfl ?_
  refine h_put F (k := 28) (n := σ.1 2) (ty := .int) rfl (by decide) (mset_28 _ _ _) rfl rfl rfl rfl q1574 dX2_image_18 (np := 21) rfl ?_
  refine g_iconst F (v := (nI 0)) dX2_image_21 (by decide) (np := 22) rfl ?_
  refine g_istore_n F (lv' := [some (.ref (ad 0)), some (.int (nI 0))]) dX2_image_22 rfl (by decide) rfl rfl (np := 23) rfl ?_
  have L23 : ∀ (zn : Nat) (i : Nat) (f : Nat → Int32), (∀ j, f j = if j < i then σ.2.1 1 j else σ.2.1 29 j) → (i ≤ 8) → 8 - i < zn → WG zp l ze ({ frames := 0, cells := 0, slots := 0, locals := 0 } : Room) zs zm za zb zt zc D B 2 (MQ zb (QT D B T) za zs 0 0 (zA B)) (MH D ad h0 (cpS (sN (sN (sN σ 26 1) 27 (σ.1 0)) 28 (σ.1 2)) 29 f)) 0 0 23 [some (.ref (ad 0)), some (.int (nI i))] [] := by
    intro zn
    induction zn with
    | zero => intro i f h1 h2 hm; exact absurd hm (Nat.not_lt_zero _)
    | succ zn ih23 =>
      intro i f h1 h2 hm
      refine g_iload_n F dX2_image_23 rfl rfl (np := 24) rfl ?_
      refine g_bipush F (v := (nI 8)) dX2_image_24 (by decide) (np := 26) rfl ?_
      refine g_icmp_geN F (by omega) (by decide) dX2_image_26 (tp := 47) (by decide) (np := 29) rfl (fun c26 => ?_) (fun c26 => ?_)
      · refine g_iconst F (v := (nI 0)) dX2_image_47 (by decide) (np := 48) rfl ?_
        refine g_istore_n F (lv' := [some (.ref (ad 0)), some (.int (nI 0))]) dX2_image_48 rfl (by decide) rfl rfl (np := 49) rfl ?_
        have L49 : ∀ (zn : Nat) (k : Nat) (g : Nat → Int32), (∀ j, g j = if 8 ≤ j ∧ j < 8 + k then σ.2.1 3 (60 + (j - 8)) else f j) → (k ≤ 14) → 14 - k < zn → WG zp l ze ({ frames := 0, cells := 0, slots := 0, locals := 0 } : Room) zs zm za zb zt zc D B 2 (MQ zb (QT D B T) za zs 0 0 (zA B)) (MH D ad h0 (cpS (sN (sN (sN σ 26 1) 27 (σ.1 0)) 28 (σ.1 2)) 29 g)) 0 0 49 [some (.ref (ad 0)), some (.int (nI k))] [] := by
          intro zn
          induction zn with
          | zero => intro k g g1 g2 hm; exact absurd hm (Nat.not_lt_zero _)
          | succ zn ih49 =>
            intro k g g1 g2 hm
            refine g_iload_n F dX2_image_49 rfl rfl (np := 50) rfl ?_
            refine g_bipush F (v := (nI 14)) dX2_image_50 (by decide) (np := 52) rfl ?_
            refine g_icmp_geN F (by omega) (by decide) dX2_image_52 (tp := 79) (by decide) (np := 55) rfl (fun c52 => ?_) (fun c52 => ?_)
            · refine g_aload_n F dX2_image_79 rfl rfl (np := 80) rfl ?_
              refine h_get F (k := 29) (v := .ref (ad 29)) (by decide) rfl q1575 dX2_image_80 (np := 83) rfl ?_
              refine g_bipush F (v := (nI 22)) dX2_image_83 (by decide) (np := 85) rfl ?_
              refine g_aload_n F dX2_image_85 rfl rfl (np := 86) rfl ?_
              refine h_get F (k := 6) (v := .int (nI (σ.1 6))) (by decide) rfl q1552 dX2_image_86 (np := 89) rfl ?_
              refine h_ast F (k := 29) (i := 22) (L := 23) rfl rfl (by decide) (by decide) rfl dX2_image_89 (by decide) (by decide) (np := 90) rfl ?_
              refine WG.weak (S' := MH D ad h0 (cpS (sN (sN (sN σ 26 1) 27 (σ.1 0)) 28 (σ.1 2)) 29 (va_up g 22 (nI (σ.1 6))))) (fun h hs => by rw [cpS_sA]; exact hs) ?_
              refine g_iconst F (v := (nI 0)) dX2_image_90 (by decide) (np := 91) rfl ?_
              refine g_istore_n F (lv' := [some (.ref (ad 0)), some (.int (nI 0))]) dX2_image_91 rfl (by decide) rfl rfl (np := 92) rfl ?_
              have L92 : ∀ (zn : Nat) (b : Nat) (e : Nat → Int32), (∀ j, e j = if j < b then σ.2.1 25 j else σ.2.1 30 j) → (b ≤ 5) → 5 - b < zn → WG zp l ze ({ frames := 0, cells := 0, slots := 0, locals := 0 } : Room) zs zm za zb zt zc D B 2 (MQ zb (QT D B T) za zs 0 0 (zA B)) (MH D ad h0 (cpS (cpS (sN (sN (sN σ 26 1) 27 (σ.1 0)) 28 (σ.1 2)) 29 (va_up g 22 (nI (σ.1 6)))) 30 e)) 0 0 92 [some (.ref (ad 0)), some (.int (nI b))] [] := by
                intro zn
                induction zn with
                | zero => intro b e e1 e2 hm; exact absurd hm (Nat.not_lt_zero _)
                | succ zn ih92 =>
                  intro b e e1 e2 hm
                  refine g_iload_n F dX2_image_92 rfl rfl (np := 93) rfl ?_
                  refine g_iconst F (v := (nI 5)) dX2_image_93 (by decide) (np := 94) rfl ?_
                  refine g_icmp_geN F (by omega) (by decide) dX2_image_94 (tp := 115) (by decide) (np := 97) rfl (fun c94 => ?_) (fun c94 => ?_)
                  · have he : e = fun j => if j < 5 then σ.2.1 25 j else σ.2.1 30 j := by funext j; rw [e1, show b = 5 by omega]
                    have hg : va_up g 22 (nI (σ.1 6)) = fun j => if j < 8 then σ.2.1 1 j else if j < 22 then σ.2.1 3 (60 + (j - 8)) else if j = 22 then nI (σ.1 6) else σ.2.1 29 j := by
                      funext j
                      by_cases q : j = 22
                      · subst q; rw [va_up_self]; rfl
                      · rw [va_up_ne _ _ q, g1, h1, show k = 14 by omega, show i = 8 by omega]
                        by_cases q8 : j < 8
                        · rw [if_neg (by omega), if_pos q8, if_pos q8]
                        · rw [if_neg q8, if_neg q8, if_neg q]
                          by_cases q9 : j < 22
                          · rw [if_pos ⟨by omega, q9⟩, if_pos q9]
                          · rw [if_neg (by omega), if_neg q9]
                    refine g_aload_n F dX2_image_115 rfl rfl (np := 116) rfl ?_
                    refine h_get F (k := 25) (v := .ref (ad 25)) (by decide) rfl q1571 dX2_image_116 (np := 119) rfl ?_
                    refine g_iconst F (v := (nI 4)) dX2_image_119 (by decide) (np := 120) rfl ?_
                    refine h_ald F (k := 25) (i := 4) (L := 5) (v := σ.2.1 25 4) rfl rfl (by decide) (by decide) rfl rfl dX2_image_120 (by decide) (by decide) (np := 121) rfl ?_
                    have hσ : (cpS (cpS (sN (sN (sN σ 26 1) 27 (σ.1 0)) 28 (σ.1 2)) 29 (va_up g 22 (nI (σ.1 6)))) 30 e) = (imgS σ) := by rw [he, hg]; rfl
                    have hv : σ.2.1 25 4 = σ.2.1 25 4 := by rfl
                    exact g_iret F hr rfl (Nat.le_of_ble_eq_true rfl) (Nat.le_of_ble_eq_true rfl) dX2_image_121 (fun h hs => by rw [← hT]; exact ⟨congrArg (fun z => some (Value.int z)) hv, (hσ ▸ hs)⟩)
                  · refine g_aload_n F dX2_image_97 rfl rfl (np := 98) rfl ?_
                    refine h_get F (k := 30) (v := .ref (ad 30)) (by decide) rfl q1576 dX2_image_98 (np := 101) rfl ?_
                    refine g_iload_n F dX2_image_101 rfl rfl (np := 102) rfl ?_
                    refine g_aload_n F dX2_image_102 rfl rfl (np := 103) rfl ?_
                    refine h_get F (k := 25) (v := .ref (ad 25)) (by decide) rfl q1571 dX2_image_103 (np := 106) rfl ?_
                    refine g_iload_n F dX2_image_106 rfl rfl (np := 107) rfl ?_
                    refine h_ald F (k := 25) (i := b) (L := 5) (v := σ.2.1 25 b) rfl rfl (by decide) (by omega) rfl rfl dX2_image_107 (by decide) (by decide) (np := 108) rfl ?_
                    refine h_ast F (k := 30) (i := b) (L := 5) rfl rfl (by decide) (by omega) rfl dX2_image_108 (by decide) (by decide) (np := 109) rfl ?_
                    refine WG.weak (S' := MH D ad h0 (cpS (cpS (sN (sN (sN σ 26 1) 27 (σ.1 0)) 28 (σ.1 2)) 29 (va_up g 22 (nI (σ.1 6)))) 30 (va_up e b (σ.2.1 25 b)))) (fun h hs => by rw [cpS_sA]; exact hs) ?_
                    refine g_iinc F (v := (nI (b + 1))) (lv' := [some (.ref (ad 0)), some (.int (nI (b + 1)))]) dX2_image_109 rfl (nI_add _ _) (by decide) rfl rfl (np := 112) rfl ?_
                    refine g_goto F dX2_image_112 (np := 92) (by decide) ?_
                    exact ih92 (b + 1) ((va_up e b (σ.2.1 25 b))) (by exact cp_step (P := fun j => σ.2.1 25 j) e1 rfl) (by omega) (by omega)
              refine WG.weak (S' := MH D ad h0 (cpS (cpS (sN (sN (sN σ 26 1) 27 (σ.1 0)) 28 (σ.1 2)) 29 (va_up g 22 (nI (σ.1 6)))) 30 (σ.2.1 30))) (fun h hs => by rw [show σ.2.1 30 = ((cpS (sN (sN (sN σ 26 1) 27 (σ.1 0)) 28 (σ.1 2)) 29 (va_up g 22 (nI (σ.1 6))))).2.1 30 from rfl, cpS_id]; exact hs) ?_
              exact L92 _ 0 ((σ.2.1 30)) (by intro j; rw [if_neg (Nat.not_lt_zero j)]) (by omega) (Nat.lt_succ_self _)
            · refine g_aload_n F dX2_image_55 rfl rfl (np := 56) rfl ?_
              refine h_get F (k := 29) (v := .ref (ad 29)) (by decide) rfl q1575 dX2_image_56 (np := 59) rfl ?_
              refine g_bipush F (v := (nI 8)) dX2_image_59 (by decide) (np := 61) rfl ?_
              refine g_iload_n F dX2_image_61 rfl rfl (np := 62) rfl ?_
              refine g_iaddN F dX2_image_62 (np := 63) rfl ?_
              refine g_aload_n F dX2_image_63 rfl rfl (np := 64) rfl ?_
              refine h_get F (k := 3) (v := .ref (ad 3)) (by decide) rfl q1549 dX2_image_64 (np := 67) rfl ?_
              refine g_bipush F (v := (nI 60)) dX2_image_67 (by decide) (np := 69) rfl ?_
              refine g_iload_n F dX2_image_69 rfl rfl (np := 70) rfl ?_
              refine g_iaddN F dX2_image_70 (np := 71) rfl ?_
              refine h_ald F (k := 3) (i := 60 + k) (L := 75) (v := σ.2.1 3 (60 + k)) rfl rfl (by decide) (by omega) rfl rfl dX2_image_71 (by decide) (by decide) (np := 72) rfl ?_
              refine h_ast F (k := 29) (i := 8 + k) (L := 23) rfl rfl (by decide) (by omega) rfl dX2_image_72 (by decide) (by decide) (np := 73) rfl ?_
              refine WG.weak (S' := MH D ad h0 (cpS (sN (sN (sN σ 26 1) 27 (σ.1 0)) 28 (σ.1 2)) 29 (va_up g (8 + k) (σ.2.1 3 (60 + k))))) (fun h hs => by rw [cpS_sA]; exact hs) ?_
              refine g_iinc F (v := (nI (k + 1))) (lv' := [some (.ref (ad 0)), some (.int (nI (k + 1)))]) dX2_image_73 rfl (nI_add _ _) (by decide) rfl rfl (np := 76) rfl ?_
              refine g_goto F dX2_image_76 (np := 49) (by decide) ?_
              exact ih49 (k + 1) ((va_up g (8 + k) (σ.2.1 3 (60 + k)))) (by exact cp_step2 (P := fun j => σ.2.1 3 (60 + (j - 8))) g1 (by show σ.2.1 3 (60 + k) = σ.2.1 3 (60 + (8 + k - 8)); rw [Nat.add_sub_cancel_left])) (by omega) (by omega)
        exact L49 _ 0 f (by intro j; rw [if_neg (by omega)]) (by omega) (Nat.lt_succ_self _)
      · refine g_aload_n F dX2_image_29 rfl rfl (np := 30) rfl ?_
        refine h_get F (k := 29) (v := .ref (ad 29)) (by decide) rfl q1575 dX2_image_30 (np := 33) rfl ?_
        refine g_iload_n F dX2_image_33 rfl rfl (np := 34) rfl ?_
        refine g_aload_n F dX2_image_34 rfl rfl (np := 35) rfl ?_
        refine h_get F (k := 1) (v := .ref (ad 1)) (by decide) rfl q1547 dX2_image_35 (np := 38) rfl ?_
        refine g_iload_n F dX2_image_38 rfl rfl (np := 39) rfl ?_
        refine h_ald F (k := 1) (i := i) (L := 8) (v := σ.2.1 1 i) rfl rfl (by decide) (by omega) rfl rfl dX2_image_39 (by decide) (by decide) (np := 40) rfl ?_
        refine h_ast F (k := 29) (i := i) (L := 23) rfl rfl (by decide) (by omega) rfl dX2_image_40 (by decide) (by decide) (np := 41) rfl ?_
        refine WG.weak (S' := MH D ad h0 (cpS (sN (sN (sN σ 26 1) 27 (σ.1 0)) 28 (σ.1 2)) 29 (va_up f i (σ.2.1 1 i)))) (fun h hs => by rw [cpS_sA]; exact hs) ?_
        refine g_iinc F (v := (nI (i + 1))) (lv' := [some (.ref (ad 0)), some (.int (nI (i + 1)))]) dX2_image_41 rfl (nI_add _ _) (by decide) rfl rfl (np := 44) rfl ?_
        refine g_goto F dX2_image_44 (np := 23) (by decide) ?_
        exact ih23 (i + 1) ((va_up f i (σ.2.1 1 i))) (by exact cp_step (P := fun j => σ.2.1 1 j) h1 rfl) (by omega) (by omega)
  refine WG.weak (S' := MH D ad h0 (cpS (sN (sN (sN σ 26 1) 27 (σ.1 0)) 28 (σ.1 2)) 29 (σ.2.1 29))) (fun h hs => by rw [show σ.2.1 29 = ((sN (sN (sN σ 26 1) 27 (σ.1 0)) 28 (σ.1 2))).2.1 29 from rfl, cpS_id]; exact hs) ?_
  exact L23 _ 0 ((σ.2.1 29)) (by intro j; rw [if_neg (Nat.not_lt_zero j)]) (by omega) (Nat.lt_succ_self _)

set_option maxRecDepth 100000 in
theorem ct_X2_back {l : Launch} {D : va_G} {E : State → Prop} {B : Nat} (hE : Stab E) {ad : Nat → Nat} {h0 : AH} (σ : MSt)   (him : imOK σ) : Ct l D E B yX2_back cX2_back 2 (some .int) 0 0 0 0 [.ref (ad 0)] (MH D ad h0 σ) (RI (rBack σ) (MH D ad h0 (gBack σ))) := by
  refine Ct.of (nL := 2) (lv := [some (.ref (ad 0)), none]) (by decide) (Nat.le_of_ble_eq_true rfl) hE 1 rfl ?_
  generalize hT : RI (rBack σ) (MH D ad h0 (gBack σ)) = T
  intro zp ze zs zm zb zt zc F hr hnm
  generalize ([.ref (ad 0)] : List Value).toArray = za at F ⊢
  obtain ⟨i0, i1, i2, td, i3, i4⟩ := him
  refine g_aload_n F dX2_back_0 rfl rfl (np := 1) rfl ?_
  refine h_get F (k := 26) (v := .int (nI (σ.1 26))) (by decide) rfl q1572 dX2_back_1 (np := 4) rfl ?_
  refine g_if_neN F (by omega) dX2_back_4 (tp := 10) (by decide) (np := 7) rfl (fun c4 => ?_) (fun c4 => ?_)
  · refine g_iconst F (v := (nI 0)) dX2_back_10 (by decide) (np := 11) rfl ?_
    refine g_istore_n F (lv' := [some (.ref (ad 0)), some (.int (nI 0))]) dX2_back_11 rfl (by decide) rfl rfl (np := 12) rfl ?_
    have L12 : ∀ (zn : Nat) (i : Nat) (f : Nat → Int32), (∀ j, f j = if j < i then σ.2.1 29 j else σ.2.1 1 j) → (i ≤ σ.1 27) → σ.1 27 - i < zn → WG zp l ze ({ frames := 0, cells := 0, slots := 0, locals := 0 } : Room) zs zm za zb zt zc D B 2 (MQ zb (QT D B T) za zs 0 0 (zA B)) (MH D ad h0 (cpS σ 1 f)) 0 0 12 [some (.ref (ad 0)), some (.int (nI i))] [] := by
      intro zn
      induction zn with
      | zero => intro i f h1 h2 hm; exact absurd hm (Nat.not_lt_zero _)
      | succ zn ih12 =>
        intro i f h1 h2 hm
        refine g_iload_n F dX2_back_12 rfl rfl (np := 13) rfl ?_
        refine g_aload_n F dX2_back_13 rfl rfl (np := 14) rfl ?_
        refine h_get F (k := 27) (v := .int (nI (σ.1 27))) (by decide) rfl q1573 dX2_back_14 (np := 17) rfl ?_
        refine g_icmp_geN F (by omega) (by omega) dX2_back_17 (tp := 38) (by decide) (np := 20) rfl (fun c17 => ?_) (fun c17 => ?_)
        · refine g_iconst F (v := (nI 0)) dX2_back_38 (by decide) (np := 39) rfl ?_
          refine g_istore_n F (lv' := [some (.ref (ad 0)), some (.int (nI 0))]) dX2_back_39 rfl (by decide) rfl rfl (np := 40) rfl ?_
          have L40 : ∀ (zn : Nat) (k : Nat) (g : Nat → Int32), (∀ j, g j = if 60 ≤ j ∧ j < 60 + k then σ.2.1 29 (8 + (j - 60)) else σ.2.1 3 j) → (k ≤ σ.1 28) → σ.1 28 - k < zn → WG zp l ze ({ frames := 0, cells := 0, slots := 0, locals := 0 } : Room) zs zm za zb zt zc D B 2 (MQ zb (QT D B T) za zs 0 0 (zA B)) (MH D ad h0 (cpS (cpS σ 1 f) 3 g)) 0 0 40 [some (.ref (ad 0)), some (.int (nI k))] [] := by
            intro zn
            induction zn with
            | zero => intro k g g1 g2 hm; exact absurd hm (Nat.not_lt_zero _)
            | succ zn ih40 =>
              intro k g g1 g2 hm
              refine g_iload_n F dX2_back_40 rfl rfl (np := 41) rfl ?_
              refine g_aload_n F dX2_back_41 rfl rfl (np := 42) rfl ?_
              refine h_get F (k := 28) (v := .int (nI (σ.1 28))) (by decide) rfl q1574 dX2_back_42 (np := 45) rfl ?_
              refine g_icmp_geN F (by omega) (by omega) dX2_back_45 (tp := 72) (by decide) (np := 48) rfl (fun c45 => ?_) (fun c45 => ?_)
              · refine g_aload_n F dX2_back_72 rfl rfl (np := 73) rfl ?_
                refine g_aload_n F dX2_back_73 rfl rfl (np := 74) rfl ?_
                refine h_get F (k := 29) (v := .ref (ad 29)) (by decide) rfl q1575 dX2_back_74 (np := 77) rfl ?_
                refine g_bipush F (v := (nI 22)) dX2_back_77 (by decide) (np := 79) rfl ?_
                refine h_ald F (k := 29) (i := 22) (L := 23) (v := σ.2.1 29 22) rfl rfl (by decide) (by decide) rfl rfl dX2_back_79 (by decide) (by decide) (np := 80) rfl ?_
                refine WG.eqv (st' := [.int (nI td), .ref (ad 0)]) (congrArg (fun z => ([.int z, .ref (ad 0)] : List Value)) (show (σ.2.1 29 22) = (nI td) from by exact i4)) rfl ?_
                refine h_put F (k := 6) (n := td) (ty := .int) rfl (by decide) (mset_6 _ _ _) rfl rfl rfl rfl q1552 dX2_back_80 (np := 83) rfl ?_
                refine g_iconst F (v := (nI 0)) dX2_back_83 (by decide) (np := 84) rfl ?_
                refine g_istore_n F (lv' := [some (.ref (ad 0)), some (.int (nI 0))]) dX2_back_84 rfl (by decide) rfl rfl (np := 85) rfl ?_
                have L85 : ∀ (zn : Nat) (b : Nat) (e : Nat → Int32), (∀ j, e j = if j < b then σ.2.1 30 j else σ.2.1 25 j) → (b ≤ 5) → 5 - b < zn → WG zp l ze ({ frames := 0, cells := 0, slots := 0, locals := 0 } : Room) zs zm za zb zt zc D B 2 (MQ zb (QT D B T) za zs 0 0 (zA B)) (MH D ad h0 (cpS (sN (cpS (cpS σ 1 f) 3 g) 6 td) 25 e)) 0 0 85 [some (.ref (ad 0)), some (.int (nI b))] [] := by
                  intro zn
                  induction zn with
                  | zero => intro b e e1 e2 hm; exact absurd hm (Nat.not_lt_zero _)
                  | succ zn ih85 =>
                    intro b e e1 e2 hm
                    refine g_iload_n F dX2_back_85 rfl rfl (np := 86) rfl ?_
                    refine g_iconst F (v := (nI 5)) dX2_back_86 (by decide) (np := 87) rfl ?_
                    refine g_icmp_geN F (by omega) (by decide) dX2_back_87 (tp := 108) (by decide) (np := 90) rfl (fun c87 => ?_) (fun c87 => ?_)
                    · have he : e = fun j => if j < 5 then σ.2.1 30 j else σ.2.1 25 j := by funext j; rw [e1, show b = 5 by omega]
                      have hg : g = fun j => if 60 ≤ j ∧ j < 60 + σ.1 28 then σ.2.1 29 (8 + (j - 60)) else σ.2.1 3 j := by funext j; rw [g1, show k = σ.1 28 by omega]
                      have hf : f = fun j => if j < σ.1 27 then σ.2.1 29 j else σ.2.1 1 j := by funext j; rw [h1, show i = σ.1 27 by omega]
                      refine g_aload_n F dX2_back_108 rfl rfl (np := 109) rfl ?_
                      refine h_get F (k := 25) (v := .ref (ad 25)) (by decide) rfl q1571 dX2_back_109 (np := 112) rfl ?_
                      refine g_iconst F (v := (nI 4)) dX2_back_112 (by decide) (np := 113) rfl ?_
                      refine h_ald F (k := 25) (i := 4) (L := 5) (v := e 4) rfl rfl (by decide) (by decide) rfl rfl dX2_back_113 (by decide) (by decide) (np := 114) rfl ?_
                      have hσ : (cpS (sN (cpS (cpS σ 1 f) 3 g) 6 td) 25 e) = (gBack σ) := by unfold gBack; rw [if_neg c4, he, hg, hf]; unfold backS; rw [i4, nI_clamp (by omega)]; rfl
                      have hv : e 4 = rBack σ := by unfold rBack; rw [if_neg c4, he]; rfl
                      exact g_iret F hr rfl (Nat.le_of_ble_eq_true rfl) (Nat.le_of_ble_eq_true rfl) dX2_back_114 (fun h hs => by rw [← hT]; exact ⟨congrArg (fun z => some (Value.int z)) hv, (hσ ▸ hs)⟩)
                    · refine g_aload_n F dX2_back_90 rfl rfl (np := 91) rfl ?_
                      refine h_get F (k := 25) (v := .ref (ad 25)) (by decide) rfl q1571 dX2_back_91 (np := 94) rfl ?_
                      refine g_iload_n F dX2_back_94 rfl rfl (np := 95) rfl ?_
                      refine g_aload_n F dX2_back_95 rfl rfl (np := 96) rfl ?_
                      refine h_get F (k := 30) (v := .ref (ad 30)) (by decide) rfl q1576 dX2_back_96 (np := 99) rfl ?_
                      refine g_iload_n F dX2_back_99 rfl rfl (np := 100) rfl ?_
                      refine h_ald F (k := 30) (i := b) (L := 5) (v := σ.2.1 30 b) rfl rfl (by decide) (by omega) rfl rfl dX2_back_100 (by decide) (by decide) (np := 101) rfl ?_
                      refine h_ast F (k := 25) (i := b) (L := 5) rfl rfl (by decide) (by omega) rfl dX2_back_101 (by decide) (by decide) (np := 102) rfl ?_
                      refine WG.weak (S' := MH D ad h0 (cpS (sN (cpS (cpS σ 1 f) 3 g) 6 td) 25 (va_up e b (σ.2.1 30 b)))) (fun h hs => by rw [cpS_sA]; exact hs) ?_
                      refine g_iinc F (v := (nI (b + 1))) (lv' := [some (.ref (ad 0)), some (.int (nI (b + 1)))]) dX2_back_102 rfl (nI_add _ _) (by decide) rfl rfl (np := 105) rfl ?_
                      refine g_goto F dX2_back_105 (np := 85) (by decide) ?_
                      exact ih85 (b + 1) ((va_up e b (σ.2.1 30 b))) (by exact cp_step (P := fun j => σ.2.1 30 j) e1 rfl) (by omega) (by omega)
                refine WG.weak (S' := MH D ad h0 (cpS (sN (cpS (cpS σ 1 f) 3 g) 6 td) 25 (σ.2.1 25))) (fun h hs => by rw [show σ.2.1 25 = ((sN (cpS (cpS σ 1 f) 3 g) 6 td)).2.1 25 from rfl, cpS_id]; exact hs) ?_
                exact L85 _ 0 ((σ.2.1 25)) (by intro j; rw [if_neg (Nat.not_lt_zero j)]) (by omega) (Nat.lt_succ_self _)
              · refine g_aload_n F dX2_back_48 rfl rfl (np := 49) rfl ?_
                refine h_get F (k := 3) (v := .ref (ad 3)) (by decide) rfl q1549 dX2_back_49 (np := 52) rfl ?_
                refine g_bipush F (v := (nI 60)) dX2_back_52 (by decide) (np := 54) rfl ?_
                refine g_iload_n F dX2_back_54 rfl rfl (np := 55) rfl ?_
                refine g_iaddN F dX2_back_55 (np := 56) rfl ?_
                refine g_aload_n F dX2_back_56 rfl rfl (np := 57) rfl ?_
                refine h_get F (k := 29) (v := .ref (ad 29)) (by decide) rfl q1575 dX2_back_57 (np := 60) rfl ?_
                refine g_bipush F (v := (nI 8)) dX2_back_60 (by decide) (np := 62) rfl ?_
                refine g_iload_n F dX2_back_62 rfl rfl (np := 63) rfl ?_
                refine g_iaddN F dX2_back_63 (np := 64) rfl ?_
                refine h_ald F (k := 29) (i := 8 + k) (L := 23) (v := σ.2.1 29 (8 + k)) rfl rfl (by decide) (by omega) rfl rfl dX2_back_64 (by decide) (by decide) (np := 65) rfl ?_
                refine h_ast F (k := 3) (i := 60 + k) (L := 75) rfl rfl (by decide) (by omega) rfl dX2_back_65 (by decide) (by decide) (np := 66) rfl ?_
                refine WG.weak (S' := MH D ad h0 (cpS (cpS σ 1 f) 3 (va_up g (60 + k) (σ.2.1 29 (8 + k))))) (fun h hs => by rw [cpS_sA]; exact hs) ?_
                refine g_iinc F (v := (nI (k + 1))) (lv' := [some (.ref (ad 0)), some (.int (nI (k + 1)))]) dX2_back_66 rfl (nI_add _ _) (by decide) rfl rfl (np := 69) rfl ?_
                refine g_goto F dX2_back_69 (np := 40) (by decide) ?_
                exact ih40 (k + 1) ((va_up g (60 + k) (σ.2.1 29 (8 + k)))) (by exact cp_step2 (P := fun j => σ.2.1 29 (8 + (j - 60))) g1 (by show σ.2.1 29 (8 + k) = σ.2.1 29 (8 + (60 + k - 60)); rw [Nat.add_sub_cancel_left])) (by omega) (by omega)
          refine WG.weak (S' := MH D ad h0 (cpS (cpS σ 1 f) 3 (σ.2.1 3))) (fun h hs => by rw [show σ.2.1 3 = ((cpS σ 1 f)).2.1 3 from rfl, cpS_id]; exact hs) ?_
          exact L40 _ 0 ((σ.2.1 3)) (by intro j; rw [if_neg (by omega)]) (by omega) (Nat.lt_succ_self _)
        · refine g_aload_n F dX2_back_20 rfl rfl (np := 21) rfl ?_
          refine h_get F (k := 1) (v := .ref (ad 1)) (by decide) rfl q1547 dX2_back_21 (np := 24) rfl ?_
          refine g_iload_n F dX2_back_24 rfl rfl (np := 25) rfl ?_
          refine g_aload_n F dX2_back_25 rfl rfl (np := 26) rfl ?_
          refine h_get F (k := 29) (v := .ref (ad 29)) (by decide) rfl q1575 dX2_back_26 (np := 29) rfl ?_
          refine g_iload_n F dX2_back_29 rfl rfl (np := 30) rfl ?_
          refine h_ald F (k := 29) (i := i) (L := 23) (v := σ.2.1 29 i) rfl rfl (by decide) (by omega) rfl rfl dX2_back_30 (by decide) (by decide) (np := 31) rfl ?_
          refine h_ast F (k := 1) (i := i) (L := 8) rfl rfl (by decide) (by omega) rfl dX2_back_31 (by decide) (by decide) (np := 32) rfl ?_
          refine WG.weak (S' := MH D ad h0 (cpS σ 1 (va_up f i (σ.2.1 29 i)))) (fun h hs => by rw [cpS_sA]; exact hs) ?_
          refine g_iinc F (v := (nI (i + 1))) (lv' := [some (.ref (ad 0)), some (.int (nI (i + 1)))]) dX2_back_32 rfl (nI_add _ _) (by decide) rfl rfl (np := 35) rfl ?_
          refine g_goto F dX2_back_35 (np := 12) (by decide) ?_
          exact ih12 (i + 1) ((va_up f i (σ.2.1 29 i))) (by exact cp_step (P := fun j => σ.2.1 29 j) h1 rfl) (by omega) (by omega)
    refine WG.weak (S' := MH D ad h0 (cpS σ 1 (σ.2.1 1))) (fun h hs => by rw [cpS_id]; exact hs) ?_
    exact L12 _ 0 ((σ.2.1 1)) (by intro j; rw [if_neg (Nat.not_lt_zero j)]) (by omega) (Nat.lt_succ_self _)
  · refine g_bipush F (v := (-5)) dX2_back_7 (by decide) (np := 9) rfl ?_
    have hσ : σ = (gBack σ) := by unfold gBack; rw [if_pos c4]
    have hv : -5 = rBack σ := by unfold rBack; rw [if_pos c4]
    exact g_iret F hr rfl (Nat.le_of_ble_eq_true rfl) (Nat.le_of_ble_eq_true rfl) dX2_back_9 (fun h hs => by rw [← hT]; exact ⟨congrArg (fun z => some (Value.int z)) hv, (hσ ▸ hs)⟩)
