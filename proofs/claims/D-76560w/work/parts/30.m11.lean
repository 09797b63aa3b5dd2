/-! WALKS (printed by walk.py): ran, swearsBy, fallsBy, buildsBy, tells, act -/
set_option maxRecDepth 100000
set_option maxRecDepth 100000 in
theorem ct_X2_ran {l : Launch} {D : va_G} {E : State → Prop} {B : Nat} (hE : Stab E) {ad : Nat → Nat} {h0 : AH} (σ : MSt)  (c : Nat) (htr : σ.1 36 < 2 ^ 30) : Ct l D E B yX2_ran cX2_ran 2 none 0 0 0 0 [.ref (ad 0), .int (nI c)] (MH D ad h0 σ) (RV (MH D ad h0 (logS σ [c]))) := by
  refine Ct.of (nL := 2) (lv := [some (.ref (ad 0)), some (.int (nI c))]) (by decide) (Nat.le_of_ble_eq_true rfl) hE 0 rfl ?_
  generalize hT : RV (MH D ad h0 (logS σ [c])) = T
  intro zp ze zs zm zb zt zc F hr hnm
  generalize ([.ref (ad 0), .int (nI c)] : List Value).toArray = za at F ⊢
  refine g_aload_n F dX2_ran_0 rfl rfl (np := 1) rfl ?_
  refine h_get F (k := 36) (v := .int (nI (σ.1 36))) (by decide) rfl q1582 dX2_ran_1 (np := 4) rfl ?_
  refine g_bipush F (v := (nI 24)) dX2_ran_4 (by decide) (np := 6) rfl ?_
  refine g_icmp_geN F (by omega) (by decide) dX2_ran_6 (tp := 19) (by decide) (np := 9) rfl (fun c6 => ?_) (fun c6 => ?_)
  · refine g_aload_n F dX2_ran_19 rfl rfl (np := 20) rfl ?_
    refine g_dup F dX2_ran_20 rfl (np := 21) rfl ?_
    refine h_get F (k := 36) (v := .int (nI (σ.1 36))) (by decide) rfl q1582 dX2_ran_21 (np := 24) rfl ?_
    refine g_iconst F (v := (nI 1)) dX2_ran_24 (by decide) (np := 25) rfl ?_
    refine g_iaddN F dX2_ran_25 (np := 26) rfl ?_
    refine h_put F (k := 36) (n := (σ.1 36) + 1) (ty := .int) rfl (by decide) (mset_36 _ _ _) rfl rfl rfl rfl q1582 dX2_ran_26 (np := 29) rfl ?_
    have hσ : (sN σ 36 ((σ.1 36) + 1)) = (logS σ [c]) := by first | exact log1_t (by omega) | exact log1_f (by omega)
    exact g_vret F hr (Nat.le_of_ble_eq_true rfl) (Nat.le_of_ble_eq_true rfl) dX2_ran_29 (fun h hs => by rw [← hT]; exact ⟨rfl, (hσ ▸ hs)⟩)
  · refine g_aload_n F dX2_ran_9 rfl rfl (np := 10) rfl ?_
    refine h_get F (k := 37) (v := .ref (ad 37)) (by decide) rfl q1583 dX2_ran_10 (np := 13) rfl ?_
    refine g_aload_n F dX2_ran_13 rfl rfl (np := 14) rfl ?_
    refine h_get F (k := 36) (v := .int (nI (σ.1 36))) (by decide) rfl q1582 dX2_ran_14 (np := 17) rfl ?_
    refine g_iload_n F dX2_ran_17 rfl rfl (np := 18) rfl ?_
    refine h_ast F (k := 37) (i := σ.1 36) (L := 24) rfl rfl (by decide) (by omega) rfl dX2_ran_18 (by decide) (by decide) (np := 19) rfl ?_
    refine g_aload_n F dX2_ran_19 rfl rfl (np := 20) rfl ?_
    refine g_dup F dX2_ran_20 rfl (np := 21) rfl ?_
    refine h_get F (k := 36) (v := .int (nI (σ.1 36))) (by decide) rfl q1582 dX2_ran_21 (np := 24) rfl ?_
    refine g_iconst F (v := (nI 1)) dX2_ran_24 (by decide) (np := 25) rfl ?_
    refine g_iaddN F dX2_ran_25 (np := 26) rfl ?_
    refine h_put F (k := 36) (n := (σ.1 36) + 1) (ty := .int) rfl (by decide) (mset_36 _ _ _) rfl rfl rfl rfl q1582 dX2_ran_26 (np := 29) rfl ?_
    have hσ : (sN (sA σ 37 (σ.1 36) (nI (c))) 36 ((σ.1 36) + 1)) = (logS σ [c]) := by first | exact log1_t (by omega) | exact log1_f (by omega)
    exact g_vret F hr (Nat.le_of_ble_eq_true rfl) (Nat.le_of_ble_eq_true rfl) dX2_ran_29 (fun h hs => by rw [← hT]; exact ⟨rfl, (hσ ▸ hs)⟩)

set_option maxRecDepth 100000 in
theorem ct_X2_swearsBy_0 {l : Launch} {D : va_G} {E : State → Prop} {B : Nat} (hE : Stab E) {ad : Nat → Nat} {h0 : AH} (σ : MSt)  (b : Nat) (x : Int32) (htr : σ.1 36 ≤ 2000) : Ct l D E B yX2_swearsBy cX2_swearsBy 4 (some .int) 1 21 0 0 [.ref (ad 0), .int (nI b), .int (nI 0), .int x] (MH D ad h0 σ) (RI (swV 0 b x) (MH D ad h0 (logS σ (swL 0)))) := by
  refine Ct.of (nL := 4) (lv := [some (.ref (ad 0)), some (.int (nI b)), some (.int (nI 0)), some (.int x)]) (by decide) (Nat.le_of_ble_eq_true rfl) hE 0 rfl ?_
  generalize hT : RI (swV 0 b x) (MH D ad h0 (logS σ (swL 0))) = T
  intro zp ze zs zm zb zt zc F hr hnm
  generalize ([.ref (ad 0), .int (nI b), .int (nI 0), .int x] : List Value).toArray = za at F ⊢
  refine g_iload_n F dX2_swearsBy_0 rfl rfl (np := 1) rfl ?_
  refine g_lookup F (x := (nI (0))) dX2_swearsBy_1 (by decide) (off := 35) (by decide) (np := 36) (by decide) ?_
  refine g_aload_n F dX2_swearsBy_36 rfl rfl (np := 37) rfl ?_
  refine g_iconst F (v := (nI 1)) dX2_swearsBy_37 (by decide) (np := 38) rfl ?_
  refine g_runV F (C := RX2) (ci := 2) (T0 := TX2) (N := 42) (rest := []) (ct_X2_ran hE σ 1 (by first | assumption | omega)) (lw_V q1987 q1989 qs94 q102 q1990) hcV_X2_ran ⟨Nat.le_of_ble_eq_true rfl, Nat.le_of_ble_eq_true rfl⟩ rfl (fun h hs => hs.obj) rfl rfl (Nat.le_of_ble_eq_true rfl) dX2_swearsBy_38 ⟨Nat.le_of_ble_eq_true rfl, Nat.le_of_ble_eq_true rfl⟩ (np := 41) rfl (k_RV ?_)
  refine g_iload_n F dX2_swearsBy_41 rfl rfl (np := 42) rfl ?_
  refine g_iload_n F dX2_swearsBy_42 rfl rfl (np := 43) rfl ?_
  refine g_iadd F dX2_swearsBy_43 (np := 44) rfl ?_
  have hσ : (logS σ [1]) = (logS σ (swL 0)) := by rfl
  have hv : x + (nI (b)) = swV 0 b x := by rfl
  exact g_iret F hr rfl (Nat.le_of_ble_eq_true rfl) (Nat.le_of_ble_eq_true rfl) dX2_swearsBy_44 (fun h hs => by rw [← hT]; exact ⟨congrArg (fun z => some (Value.int z)) hv, (hσ ▸ hs)⟩)

set_option maxRecDepth 100000 in
theorem ct_X2_swearsBy_1 {l : Launch} {D : va_G} {E : State → Prop} {B : Nat} (hE : Stab E) {ad : Nat → Nat} {h0 : AH} (σ : MSt)  (b : Nat) (x : Int32) (htr : σ.1 36 ≤ 1999) : Ct l D E B yX2_swearsBy cX2_swearsBy 4 (some .int) 2 44 0 0 [.ref (ad 0), .int (nI b), .int (nI 1), .int x] (MH D ad h0 σ) (RI (swV 1 b x) (MH D ad h0 (logS σ (swL 1)))) := by
  refine Ct.of (nL := 4) (lv := [some (.ref (ad 0)), some (.int (nI b)), some (.int (nI 1)), some (.int x)]) (by decide) (Nat.le_of_ble_eq_true rfl) hE 0 rfl ?_
  generalize hT : RI (swV 1 b x) (MH D ad h0 (logS σ (swL 1))) = T
  intro zp ze zs zm zb zt zc F hr hnm
  generalize ([.ref (ad 0), .int (nI b), .int (nI 1), .int x] : List Value).toArray = za at F ⊢
  refine g_iload_n F dX2_swearsBy_0 rfl rfl (np := 1) rfl ?_
  refine g_lookup F (x := (nI (1))) dX2_swearsBy_1 (by decide) (off := 44) (by decide) (np := 45) (by decide) ?_
  refine g_aload_n F dX2_swearsBy_45 rfl rfl (np := 46) rfl ?_
  refine g_bipush F (v := (nI 20)) dX2_swearsBy_46 (by decide) (np := 48) rfl ?_
  refine g_runV F (C := RX2) (ci := 2) (T0 := TX2) (N := 42) (rest := []) (ct_X2_ran hE σ 20 (by first | assumption | omega)) (lw_V q1987 q1989 qs94 q102 q1990) hcV_X2_ran ⟨Nat.le_of_ble_eq_true rfl, Nat.le_of_ble_eq_true rfl⟩ rfl (fun h hs => hs.obj) rfl rfl (Nat.le_of_ble_eq_true rfl) dX2_swearsBy_48 ⟨Nat.le_of_ble_eq_true rfl, Nat.le_of_ble_eq_true rfl⟩ (np := 51) rfl (k_RV ?_)
  refine g_aload_n F dX2_swearsBy_51 rfl rfl (np := 52) rfl ?_
  refine g_iload_n F dX2_swearsBy_52 rfl rfl (np := 53) rfl ?_
  refine g_iconst F (v := (nI 0)) dX2_swearsBy_53 (by decide) (np := 54) rfl ?_
  refine g_iload_n F dX2_swearsBy_54 rfl rfl (np := 55) rfl ?_
  refine g_runV F (C := RX2) (ci := 2) (T0 := TX2) (N := 42) (rest := []) (ct_X2_swearsBy_0 hE (logS σ [20]) b x (by first | assumption | (first | omega | (rw [logS_36]; simp only [List.length_append, List.length_cons, List.length_nil]; omega) | (rw [logS_36]; simp only [List.length_append, List.length_cons, List.length_nil]; have q1 := swL_len kd; have q2 := faL_len kd kd; have q3 := buL_len kd kd; have q4 := buL_len kd 4; have q5 := faL_len kd 1; omega)) | exact hek)) (lw_V q1983 q1985 qs93 q102 q1986) hcV_X2_swearsBy ⟨Nat.le_of_ble_eq_true rfl, Nat.le_of_ble_eq_true rfl⟩ rfl (fun h hs => hs.obj) rfl rfl (Nat.le_of_ble_eq_true rfl) dX2_swearsBy_55 ⟨Nat.le_of_ble_eq_true rfl, Nat.le_of_ble_eq_true rfl⟩ (np := 58) rfl (k_RI ?_)
  refine WG.weak (S' := MH D ad h0 (logS σ ([20] ++ (swL 0)))) (fun h hs => by rw [← logS_app]; exact hs) ?_
  refine g_iconst F (v := (nI 3)) dX2_swearsBy_58 (by decide) (np := 59) rfl ?_
  refine g_iadd F dX2_swearsBy_59 (np := 60) rfl ?_
  have hσ : (logS σ ([20] ++ (swL 0))) = (logS σ (swL 1)) := by rfl
  have hv : (swV 0 b x) + (nI (3)) = swV 1 b x := by rfl
  exact g_iret F hr rfl (Nat.le_of_ble_eq_true rfl) (Nat.le_of_ble_eq_true rfl) dX2_swearsBy_60 (fun h hs => by rw [← hT]; exact ⟨congrArg (fun z => some (Value.int z)) hv, (hσ ▸ hs)⟩)

set_option maxRecDepth 100000 in
theorem ct_X2_swearsBy_2 {l : Launch} {D : va_G} {E : State → Prop} {B : Nat} (hE : Stab E) {ad : Nat → Nat} {h0 : AH} (σ : MSt)  (b : Nat) (x : Int32) (htr : σ.1 36 ≤ 2000) : Ct l D E B yX2_swearsBy cX2_swearsBy 4 (some .int) 2 44 0 0 [.ref (ad 0), .int (nI b), .int (nI 2), .int x] (MH D ad h0 σ) (RI (swV 2 b x) (MH D ad h0 (logS σ (swL 2)))) := by
  refine Ct.of (nL := 4) (lv := [some (.ref (ad 0)), some (.int (nI b)), some (.int (nI 2)), some (.int x)]) (by decide) (Nat.le_of_ble_eq_true rfl) hE 0 rfl ?_
  generalize hT : RI (swV 2 b x) (MH D ad h0 (logS σ (swL 2))) = T
  intro zp ze zs zm zb zt zc F hr hnm
  generalize ([.ref (ad 0), .int (nI b), .int (nI 2), .int x] : List Value).toArray = za at F ⊢
  refine g_iload_n F dX2_swearsBy_0 rfl rfl (np := 1) rfl ?_
  refine g_lookup F (x := (nI (2))) dX2_swearsBy_1 (by decide) (off := 76) (by decide) (np := 77) (by decide) ?_
  refine g_aload_n F dX2_swearsBy_77 rfl rfl (np := 78) rfl ?_
  refine g_iload_n F dX2_swearsBy_78 rfl rfl (np := 79) rfl ?_
  refine g_iload_n F dX2_swearsBy_79 rfl rfl (np := 80) rfl ?_
  refine g_runS F (rest := [.int (nI b), .ref (ad 0)]) (ct_X2_above hE 2 (by first | assumption | omega)) (lw_S q1991 q1992 q102 q1993) hcS_X2_above ⟨Nat.le_of_ble_eq_true rfl, Nat.le_of_ble_eq_true rfl⟩ rfl rfl (Nat.le_of_ble_eq_true rfl) dX2_swearsBy_80 ⟨Nat.le_of_ble_eq_true rfl, Nat.le_of_ble_eq_true rfl⟩ (np := 83) rfl (k_RI ?_)
  refine WG.eqv (st' := [.int (nI 0), .int (nI b), .ref (ad 0)]) (congrArg (fun z => ([.int z, .int (nI b), .ref (ad 0)] : List Value)) (show (nI (abv 2)) = (nI 0) from by rfl)) rfl ?_
  refine g_iload_n F dX2_swearsBy_83 rfl rfl (np := 84) rfl ?_
  refine g_runV F (C := RX2) (ci := 2) (T0 := TX2) (N := 42) (rest := []) (ct_X2_swearsBy_0 hE σ b x (by first | assumption | (first | omega | (rw [logS_36]; simp only [List.length_append, List.length_cons, List.length_nil]; omega) | (rw [logS_36]; simp only [List.length_append, List.length_cons, List.length_nil]; have q1 := swL_len kd; have q2 := faL_len kd kd; have q3 := buL_len kd kd; have q4 := buL_len kd 4; have q5 := faL_len kd 1; omega)) | exact hek)) (lw_V q1983 q1985 qs93 q102 q1986) hcV_X2_swearsBy ⟨Nat.le_of_ble_eq_true rfl, Nat.le_of_ble_eq_true rfl⟩ rfl (fun h hs => hs.obj) rfl rfl (Nat.le_of_ble_eq_true rfl) dX2_swearsBy_84 ⟨Nat.le_of_ble_eq_true rfl, Nat.le_of_ble_eq_true rfl⟩ (np := 87) rfl (k_RI ?_)
  have hσ : (logS σ (swL 0)) = (logS σ (swL 2)) := by rfl
  have hv : swV 0 b x = swV 2 b x := by rfl
  exact g_iret F hr rfl (Nat.le_of_ble_eq_true rfl) (Nat.le_of_ble_eq_true rfl) dX2_swearsBy_87 (fun h hs => by rw [← hT]; exact ⟨congrArg (fun z => some (Value.int z)) hv, (hσ ▸ hs)⟩)

set_option maxRecDepth 100000 in
theorem ct_X2_swearsBy_6 {l : Launch} {D : va_G} {E : State → Prop} {B : Nat} (hE : Stab E) {ad : Nat → Nat} {h0 : AH} (σ : MSt)  (b : Nat) (x : Int32) (htr : σ.1 36 ≤ 1999) : Ct l D E B yX2_swearsBy cX2_swearsBy 4 (some .int) 2 44 0 0 [.ref (ad 0), .int (nI b), .int (nI 6), .int x] (MH D ad h0 σ) (RI (swV 6 b x) (MH D ad h0 (logS σ (swL 6)))) := by
  refine Ct.of (nL := 4) (lv := [some (.ref (ad 0)), some (.int (nI b)), some (.int (nI 6)), some (.int x)]) (by decide) (Nat.le_of_ble_eq_true rfl) hE 0 rfl ?_
  generalize hT : RI (swV 6 b x) (MH D ad h0 (logS σ (swL 6))) = T
  intro zp ze zs zm zb zt zc F hr hnm
  generalize ([.ref (ad 0), .int (nI b), .int (nI 6), .int x] : List Value).toArray = za at F ⊢
  refine g_iload_n F dX2_swearsBy_0 rfl rfl (np := 1) rfl ?_
  refine g_lookup F (x := (nI (6))) dX2_swearsBy_1 (by decide) (off := 60) (by decide) (np := 61) (by decide) ?_
  refine g_aload_n F dX2_swearsBy_61 rfl rfl (np := 62) rfl ?_
  refine g_bipush F (v := (nI 70)) dX2_swearsBy_62 (by decide) (np := 64) rfl ?_
  refine g_runV F (C := RX2) (ci := 2) (T0 := TX2) (N := 42) (rest := []) (ct_X2_ran hE σ 70 (by first | assumption | omega)) (lw_V q1987 q1989 qs94 q102 q1990) hcV_X2_ran ⟨Nat.le_of_ble_eq_true rfl, Nat.le_of_ble_eq_true rfl⟩ rfl (fun h hs => hs.obj) rfl rfl (Nat.le_of_ble_eq_true rfl) dX2_swearsBy_64 ⟨Nat.le_of_ble_eq_true rfl, Nat.le_of_ble_eq_true rfl⟩ (np := 67) rfl (k_RV ?_)
  refine g_aload_n F dX2_swearsBy_67 rfl rfl (np := 68) rfl ?_
  refine g_iload_n F dX2_swearsBy_68 rfl rfl (np := 69) rfl ?_
  refine g_iconst F (v := (nI 0)) dX2_swearsBy_69 (by decide) (np := 70) rfl ?_
  refine g_iload_n F dX2_swearsBy_70 rfl rfl (np := 71) rfl ?_
  refine g_runV F (C := RX2) (ci := 2) (T0 := TX2) (N := 42) (rest := []) (ct_X2_swearsBy_0 hE (logS σ [70]) b x (by first | assumption | (first | omega | (rw [logS_36]; simp only [List.length_append, List.length_cons, List.length_nil]; omega) | (rw [logS_36]; simp only [List.length_append, List.length_cons, List.length_nil]; have q1 := swL_len kd; have q2 := faL_len kd kd; have q3 := buL_len kd kd; have q4 := buL_len kd 4; have q5 := faL_len kd 1; omega)) | exact hek)) (lw_V q1983 q1985 qs93 q102 q1986) hcV_X2_swearsBy ⟨Nat.le_of_ble_eq_true rfl, Nat.le_of_ble_eq_true rfl⟩ rfl (fun h hs => hs.obj) rfl rfl (Nat.le_of_ble_eq_true rfl) dX2_swearsBy_71 ⟨Nat.le_of_ble_eq_true rfl, Nat.le_of_ble_eq_true rfl⟩ (np := 74) rfl (k_RI ?_)
  refine WG.weak (S' := MH D ad h0 (logS σ ([70] ++ (swL 0)))) (fun h hs => by rw [← logS_app]; exact hs) ?_
  refine g_iconst F (v := (nI 2)) dX2_swearsBy_74 (by decide) (np := 75) rfl ?_
  refine g_imul F dX2_swearsBy_75 (np := 76) rfl ?_
  have hσ : (logS σ ([70] ++ (swL 0))) = (logS σ (swL 6)) := by rfl
  have hv : (swV 0 b x) * (nI (2)) = swV 6 b x := by rfl
  exact g_iret F hr rfl (Nat.le_of_ble_eq_true rfl) (Nat.le_of_ble_eq_true rfl) dX2_swearsBy_76 (fun h hs => by rw [← hT]; exact ⟨congrArg (fun z => some (Value.int z)) hv, (hσ ▸ hs)⟩)

set_option maxRecDepth 100000 in
theorem ct_X2_swearsBy_3 {l : Launch} {D : va_G} {E : State → Prop} {B : Nat} (hE : Stab E) {ad : Nat → Nat} {h0 : AH} (σ : MSt)  (b : Nat) (x : Int32) (htr : σ.1 36 ≤ 2000) : Ct l D E B yX2_swearsBy cX2_swearsBy 4 (some .int) 3 67 0 0 [.ref (ad 0), .int (nI b), .int (nI 3), .int x] (MH D ad h0 σ) (RI (swV 3 b x) (MH D ad h0 (logS σ (swL 3)))) := by
  refine Ct.of (nL := 4) (lv := [some (.ref (ad 0)), some (.int (nI b)), some (.int (nI 3)), some (.int x)]) (by decide) (Nat.le_of_ble_eq_true rfl) hE 0 rfl ?_
  generalize hT : RI (swV 3 b x) (MH D ad h0 (logS σ (swL 3))) = T
  intro zp ze zs zm zb zt zc F hr hnm
  generalize ([.ref (ad 0), .int (nI b), .int (nI 3), .int x] : List Value).toArray = za at F ⊢
  refine g_iload_n F dX2_swearsBy_0 rfl rfl (np := 1) rfl ?_
  refine g_lookup F (x := (nI (3))) dX2_swearsBy_1 (by decide) (off := 76) (by decide) (np := 77) (by decide) ?_
  refine g_aload_n F dX2_swearsBy_77 rfl rfl (np := 78) rfl ?_
  refine g_iload_n F dX2_swearsBy_78 rfl rfl (np := 79) rfl ?_
  refine g_iload_n F dX2_swearsBy_79 rfl rfl (np := 80) rfl ?_
  refine g_runS F (rest := [.int (nI b), .ref (ad 0)]) (ct_X2_above hE 3 (by first | assumption | omega)) (lw_S q1991 q1992 q102 q1993) hcS_X2_above ⟨Nat.le_of_ble_eq_true rfl, Nat.le_of_ble_eq_true rfl⟩ rfl rfl (Nat.le_of_ble_eq_true rfl) dX2_swearsBy_80 ⟨Nat.le_of_ble_eq_true rfl, Nat.le_of_ble_eq_true rfl⟩ (np := 83) rfl (k_RI ?_)
  refine WG.eqv (st' := [.int (nI 2), .int (nI b), .ref (ad 0)]) (congrArg (fun z => ([.int z, .int (nI b), .ref (ad 0)] : List Value)) (show (nI (abv 3)) = (nI 2) from by rfl)) rfl ?_
  refine g_iload_n F dX2_swearsBy_83 rfl rfl (np := 84) rfl ?_
  refine g_runV F (C := RX2) (ci := 2) (T0 := TX2) (N := 42) (rest := []) (ct_X2_swearsBy_2 hE σ b x (by first | assumption | (first | omega | (rw [logS_36]; simp only [List.length_append, List.length_cons, List.length_nil]; omega) | (rw [logS_36]; simp only [List.length_append, List.length_cons, List.length_nil]; have q1 := swL_len kd; have q2 := faL_len kd kd; have q3 := buL_len kd kd; have q4 := buL_len kd 4; have q5 := faL_len kd 1; omega)) | exact hek)) (lw_V q1983 q1985 qs93 q102 q1986) hcV_X2_swearsBy ⟨Nat.le_of_ble_eq_true rfl, Nat.le_of_ble_eq_true rfl⟩ rfl (fun h hs => hs.obj) rfl rfl (Nat.le_of_ble_eq_true rfl) dX2_swearsBy_84 ⟨Nat.le_of_ble_eq_true rfl, Nat.le_of_ble_eq_true rfl⟩ (np := 87) rfl (k_RI ?_)
  have hσ : (logS σ (swL 2)) = (logS σ (swL 3)) := by rfl
  have hv : swV 2 b x = swV 3 b x := by rfl
  exact g_iret F hr rfl (Nat.le_of_ble_eq_true rfl) (Nat.le_of_ble_eq_true rfl) dX2_swearsBy_87 (fun h hs => by rw [← hT]; exact ⟨congrArg (fun z => some (Value.int z)) hv, (hσ ▸ hs)⟩)

set_option maxRecDepth 100000 in
theorem ct_X2_swearsBy_4 {l : Launch} {D : va_G} {E : State → Prop} {B : Nat} (hE : Stab E) {ad : Nat → Nat} {h0 : AH} (σ : MSt)  (b : Nat) (x : Int32) (htr : σ.1 36 ≤ 1999) : Ct l D E B yX2_swearsBy cX2_swearsBy 4 (some .int) 3 67 0 0 [.ref (ad 0), .int (nI b), .int (nI 4), .int x] (MH D ad h0 σ) (RI (swV 4 b x) (MH D ad h0 (logS σ (swL 4)))) := by
  refine Ct.of (nL := 4) (lv := [some (.ref (ad 0)), some (.int (nI b)), some (.int (nI 4)), some (.int x)]) (by decide) (Nat.le_of_ble_eq_true rfl) hE 0 rfl ?_
  generalize hT : RI (swV 4 b x) (MH D ad h0 (logS σ (swL 4))) = T
  intro zp ze zs zm zb zt zc F hr hnm
  generalize ([.ref (ad 0), .int (nI b), .int (nI 4), .int x] : List Value).toArray = za at F ⊢
  refine g_iload_n F dX2_swearsBy_0 rfl rfl (np := 1) rfl ?_
  refine g_lookup F (x := (nI (4))) dX2_swearsBy_1 (by decide) (off := 76) (by decide) (np := 77) (by decide) ?_
  refine g_aload_n F dX2_swearsBy_77 rfl rfl (np := 78) rfl ?_
  refine g_iload_n F dX2_swearsBy_78 rfl rfl (np := 79) rfl ?_
  refine g_iload_n F dX2_swearsBy_79 rfl rfl (np := 80) rfl ?_
  refine g_runS F (rest := [.int (nI b), .ref (ad 0)]) (ct_X2_above hE 4 (by first | assumption | omega)) (lw_S q1991 q1992 q102 q1993) hcS_X2_above ⟨Nat.le_of_ble_eq_true rfl, Nat.le_of_ble_eq_true rfl⟩ rfl rfl (Nat.le_of_ble_eq_true rfl) dX2_swearsBy_80 ⟨Nat.le_of_ble_eq_true rfl, Nat.le_of_ble_eq_true rfl⟩ (np := 83) rfl (k_RI ?_)
  refine WG.eqv (st' := [.int (nI 1), .int (nI b), .ref (ad 0)]) (congrArg (fun z => ([.int z, .int (nI b), .ref (ad 0)] : List Value)) (show (nI (abv 4)) = (nI 1) from by rfl)) rfl ?_
  refine g_iload_n F dX2_swearsBy_83 rfl rfl (np := 84) rfl ?_
  refine g_runV F (C := RX2) (ci := 2) (T0 := TX2) (N := 42) (rest := []) (ct_X2_swearsBy_1 hE σ b x (by first | assumption | (first | omega | (rw [logS_36]; simp only [List.length_append, List.length_cons, List.length_nil]; omega) | (rw [logS_36]; simp only [List.length_append, List.length_cons, List.length_nil]; have q1 := swL_len kd; have q2 := faL_len kd kd; have q3 := buL_len kd kd; have q4 := buL_len kd 4; have q5 := faL_len kd 1; omega)) | exact hek)) (lw_V q1983 q1985 qs93 q102 q1986) hcV_X2_swearsBy ⟨Nat.le_of_ble_eq_true rfl, Nat.le_of_ble_eq_true rfl⟩ rfl (fun h hs => hs.obj) rfl rfl (Nat.le_of_ble_eq_true rfl) dX2_swearsBy_84 ⟨Nat.le_of_ble_eq_true rfl, Nat.le_of_ble_eq_true rfl⟩ (np := 87) rfl (k_RI ?_)
  have hσ : (logS σ (swL 1)) = (logS σ (swL 4)) := by rfl
  have hv : swV 1 b x = swV 4 b x := by rfl
  exact g_iret F hr rfl (Nat.le_of_ble_eq_true rfl) (Nat.le_of_ble_eq_true rfl) dX2_swearsBy_87 (fun h hs => by rw [← hT]; exact ⟨congrArg (fun z => some (Value.int z)) hv, (hσ ▸ hs)⟩)

set_option maxRecDepth 100000 in
theorem ct_X2_swearsBy_5 {l : Launch} {D : va_G} {E : State → Prop} {B : Nat} (hE : Stab E) {ad : Nat → Nat} {h0 : AH} (σ : MSt)  (b : Nat) (x : Int32) (htr : σ.1 36 ≤ 2000) : Ct l D E B yX2_swearsBy cX2_swearsBy 4 (some .int) 4 90 0 0 [.ref (ad 0), .int (nI b), .int (nI 5), .int x] (MH D ad h0 σ) (RI (swV 5 b x) (MH D ad h0 (logS σ (swL 5)))) := by
  refine Ct.of (nL := 4) (lv := [some (.ref (ad 0)), some (.int (nI b)), some (.int (nI 5)), some (.int x)]) (by decide) (Nat.le_of_ble_eq_true rfl) hE 0 rfl ?_
  generalize hT : RI (swV 5 b x) (MH D ad h0 (logS σ (swL 5))) = T
  intro zp ze zs zm zb zt zc F hr hnm
  generalize ([.ref (ad 0), .int (nI b), .int (nI 5), .int x] : List Value).toArray = za at F ⊢
  refine g_iload_n F dX2_swearsBy_0 rfl rfl (np := 1) rfl ?_
  refine g_lookup F (x := (nI (5))) dX2_swearsBy_1 (by decide) (off := 76) (by decide) (np := 77) (by decide) ?_
  refine g_aload_n F dX2_swearsBy_77 rfl rfl (np := 78) rfl ?_
  refine g_iload_n F dX2_swearsBy_78 rfl rfl (np := 79) rfl ?_
  refine g_iload_n F dX2_swearsBy_79 rfl rfl (np := 80) rfl ?_
  refine g_runS F (rest := [.int (nI b), .ref (ad 0)]) (ct_X2_above hE 5 (by first | assumption | omega)) (lw_S q1991 q1992 q102 q1993) hcS_X2_above ⟨Nat.le_of_ble_eq_true rfl, Nat.le_of_ble_eq_true rfl⟩ rfl rfl (Nat.le_of_ble_eq_true rfl) dX2_swearsBy_80 ⟨Nat.le_of_ble_eq_true rfl, Nat.le_of_ble_eq_true rfl⟩ (np := 83) rfl (k_RI ?_)
  refine WG.eqv (st' := [.int (nI 3), .int (nI b), .ref (ad 0)]) (congrArg (fun z => ([.int z, .int (nI b), .ref (ad 0)] : List Value)) (show (nI (abv 5)) = (nI 3) from by rfl)) rfl ?_
  refine g_iload_n F dX2_swearsBy_83 rfl rfl (np := 84) rfl ?_
  refine g_runV F (C := RX2) (ci := 2) (T0 := TX2) (N := 42) (rest := []) (ct_X2_swearsBy_3 hE σ b x (by first | assumption | (first | omega | (rw [logS_36]; simp only [List.length_append, List.length_cons, List.length_nil]; omega) | (rw [logS_36]; simp only [List.length_append, List.length_cons, List.length_nil]; have q1 := swL_len kd; have q2 := faL_len kd kd; have q3 := buL_len kd kd; have q4 := buL_len kd 4; have q5 := faL_len kd 1; omega)) | exact hek)) (lw_V q1983 q1985 qs93 q102 q1986) hcV_X2_swearsBy ⟨Nat.le_of_ble_eq_true rfl, Nat.le_of_ble_eq_true rfl⟩ rfl (fun h hs => hs.obj) rfl rfl (Nat.le_of_ble_eq_true rfl) dX2_swearsBy_84 ⟨Nat.le_of_ble_eq_true rfl, Nat.le_of_ble_eq_true rfl⟩ (np := 87) rfl (k_RI ?_)
  have hσ : (logS σ (swL 3)) = (logS σ (swL 5)) := by rfl
  have hv : swV 3 b x = swV 5 b x := by rfl
  exact g_iret F hr rfl (Nat.le_of_ble_eq_true rfl) (Nat.le_of_ble_eq_true rfl) dX2_swearsBy_87 (fun h hs => by rw [← hT]; exact ⟨congrArg (fun z => some (Value.int z)) hv, (hσ ▸ hs)⟩)

set_option maxRecDepth 100000 in
theorem ct_X2_swearsBy_7 {l : Launch} {D : va_G} {E : State → Prop} {B : Nat} (hE : Stab E) {ad : Nat → Nat} {h0 : AH} (σ : MSt)  (b : Nat) (x : Int32) (htr : σ.1 36 ≤ 1999) : Ct l D E B yX2_swearsBy cX2_swearsBy 4 (some .int) 4 90 0 0 [.ref (ad 0), .int (nI b), .int (nI 7), .int x] (MH D ad h0 σ) (RI (swV 7 b x) (MH D ad h0 (logS σ (swL 7)))) := by
  refine Ct.of (nL := 4) (lv := [some (.ref (ad 0)), some (.int (nI b)), some (.int (nI 7)), some (.int x)]) (by decide) (Nat.le_of_ble_eq_true rfl) hE 0 rfl ?_
  generalize hT : RI (swV 7 b x) (MH D ad h0 (logS σ (swL 7))) = T
  intro zp ze zs zm zb zt zc F hr hnm
  generalize ([.ref (ad 0), .int (nI b), .int (nI 7), .int x] : List Value).toArray = za at F ⊢
  refine g_iload_n F dX2_swearsBy_0 rfl rfl (np := 1) rfl ?_
  refine g_lookup F (x := (nI (7))) dX2_swearsBy_1 (by decide) (off := 76) (by decide) (np := 77) (by decide) ?_
  refine g_aload_n F dX2_swearsBy_77 rfl rfl (np := 78) rfl ?_
  refine g_iload_n F dX2_swearsBy_78 rfl rfl (np := 79) rfl ?_
  refine g_iload_n F dX2_swearsBy_79 rfl rfl (np := 80) rfl ?_
  refine g_runS F (rest := [.int (nI b), .ref (ad 0)]) (ct_X2_above hE 7 (by first | assumption | omega)) (lw_S q1991 q1992 q102 q1993) hcS_X2_above ⟨Nat.le_of_ble_eq_true rfl, Nat.le_of_ble_eq_true rfl⟩ rfl rfl (Nat.le_of_ble_eq_true rfl) dX2_swearsBy_80 ⟨Nat.le_of_ble_eq_true rfl, Nat.le_of_ble_eq_true rfl⟩ (np := 83) rfl (k_RI ?_)
  refine WG.eqv (st' := [.int (nI 4), .int (nI b), .ref (ad 0)]) (congrArg (fun z => ([.int z, .int (nI b), .ref (ad 0)] : List Value)) (show (nI (abv 7)) = (nI 4) from by rfl)) rfl ?_
  refine g_iload_n F dX2_swearsBy_83 rfl rfl (np := 84) rfl ?_
  refine g_runV F (C := RX2) (ci := 2) (T0 := TX2) (N := 42) (rest := []) (ct_X2_swearsBy_4 hE σ b x (by first | assumption | (first | omega | (rw [logS_36]; simp only [List.length_append, List.length_cons, List.length_nil]; omega) | (rw [logS_36]; simp only [List.length_append, List.length_cons, List.length_nil]; have q1 := swL_len kd; have q2 := faL_len kd kd; have q3 := buL_len kd kd; have q4 := buL_len kd 4; have q5 := faL_len kd 1; omega)) | exact hek)) (lw_V q1983 q1985 qs93 q102 q1986) hcV_X2_swearsBy ⟨Nat.le_of_ble_eq_true rfl, Nat.le_of_ble_eq_true rfl⟩ rfl (fun h hs => hs.obj) rfl rfl (Nat.le_of_ble_eq_true rfl) dX2_swearsBy_84 ⟨Nat.le_of_ble_eq_true rfl, Nat.le_of_ble_eq_true rfl⟩ (np := 87) rfl (k_RI ?_)
  have hσ : (logS σ (swL 4)) = (logS σ (swL 7)) := by rfl
  have hv : swV 4 b x = swV 7 b x := by rfl
  exact g_iret F hr rfl (Nat.le_of_ble_eq_true rfl) (Nat.le_of_ble_eq_true rfl) dX2_swearsBy_87 (fun h hs => by rw [← hT]; exact ⟨congrArg (fun z => some (Value.int z)) hv, (hσ ▸ hs)⟩)

theorem ct_X2_swearsBy {l : Launch} {D : va_G} {E : State → Prop} {B : Nat} (hE : Stab E) {ad : Nat → Nat} {h0 : AH} (σ : MSt) (b k : Nat) (x : Int32) (hk : k ≤ 7) (htr : σ.1 36 ≤ 1999) : Ct l D E B yX2_swearsBy cX2_swearsBy 4 (some .int) 4 90 0 0 [.ref (ad 0), .int (nI b), .int (nI k), .int x] (MH D ad h0 σ) (RI (swV k b x) (MH D ad h0 (logS σ (swL k)))) :=
  all8 (P := fun k => Ct l D E B yX2_swearsBy cX2_swearsBy 4 (some .int) 4 90 0 0 [.ref (ad 0), .int (nI b), .int (nI k), .int x] (MH D ad h0 σ) (RI (swV k b x) (MH D ad h0 (logS σ (swL k))))) hk ((ct_X2_swearsBy_0 hE σ b x (by omega)).up (Nat.le_of_ble_eq_true rfl) (Nat.le_of_ble_eq_true rfl)) ((ct_X2_swearsBy_1 hE σ b x (by omega)).up (Nat.le_of_ble_eq_true rfl) (Nat.le_of_ble_eq_true rfl)) ((ct_X2_swearsBy_2 hE σ b x (by omega)).up (Nat.le_of_ble_eq_true rfl) (Nat.le_of_ble_eq_true rfl)) ((ct_X2_swearsBy_3 hE σ b x (by omega)).up (Nat.le_of_ble_eq_true rfl) (Nat.le_of_ble_eq_true rfl)) ((ct_X2_swearsBy_4 hE σ b x (by omega)).up (Nat.le_of_ble_eq_true rfl) (Nat.le_of_ble_eq_true rfl)) ((ct_X2_swearsBy_5 hE σ b x (by omega)).up (Nat.le_of_ble_eq_true rfl) (Nat.le_of_ble_eq_true rfl)) ((ct_X2_swearsBy_6 hE σ b x (by omega)).up (Nat.le_of_ble_eq_true rfl) (Nat.le_of_ble_eq_true rfl)) ((ct_X2_swearsBy_7 hE σ b x (by omega)).up (Nat.le_of_ble_eq_true rfl) (Nat.le_of_ble_eq_true rfl))

set_option maxRecDepth 100000 in
theorem ct_X2_fallsBy_0 {l : Launch} {D : va_G} {E : State → Prop} {B : Nat} (hE : Stab E) {ad : Nat → Nat} {h0 : AH} (σ : MSt) (kd : Nat) (b : Nat) (x : Int32) (hb : b < 50) (hkd : kd ≤ 7) (hek : σ.2.1 35 b = nI kd) (htr : σ.1 36 ≤ 2000) : Ct l D E B yX2_fallsBy cX2_fallsBy 5 (some .int) 1 21 0 0 [.ref (ad 0), .int (nI b), .int (nI 0), .int x] (MH D ad h0 σ) (RI (faV kd 0 b x) (MH D ad h0 (logS σ (faL kd 0)))) := by
  refine Ct.of (nL := 5) (lv := [some (.ref (ad 0)), some (.int (nI b)), some (.int (nI 0)), some (.int x), none]) (by decide) (Nat.le_of_ble_eq_true rfl) hE 1 rfl ?_
  generalize hT : RI (faV kd 0 b x) (MH D ad h0 (logS σ (faL kd 0))) = T
  intro zp ze zs zm zb zt zc F hr hnm
  generalize ([.ref (ad 0), .int (nI b), .int (nI 0), .int x] : List Value).toArray = za at F ⊢
  refine g_iload_n F dX2_fallsBy_0 rfl rfl (np := 1) rfl ?_
  refine g_tabIn F (x := (nI (0))) (v := 0) rfl (lo := 0) dX2_fallsBy_1 (j := 0) (by decide) (by decide) (by decide) rfl (np := 36) (by decide) ?_
  refine g_aload_n F dX2_fallsBy_36 rfl rfl (np := 37) rfl ?_
  refine g_bipush F (v := (nI 11)) dX2_fallsBy_37 (by decide) (np := 39) rfl ?_
  refine g_runV F (C := RX2) (ci := 2) (T0 := TX2) (N := 42) (rest := []) (ct_X2_ran hE σ 11 (by first | assumption | omega)) (lw_V q1987 q1989 qs94 q102 q1990) hcV_X2_ran ⟨Nat.le_of_ble_eq_true rfl, Nat.le_of_ble_eq_true rfl⟩ rfl (fun h hs => hs.obj) rfl rfl (Nat.le_of_ble_eq_true rfl) dX2_fallsBy_39 ⟨Nat.le_of_ble_eq_true rfl, Nat.le_of_ble_eq_true rfl⟩ (np := 42) rfl (k_RV ?_)
  refine g_iload_n F dX2_fallsBy_42 rfl rfl (np := 43) rfl ?_
  refine g_iload_n F dX2_fallsBy_43 rfl rfl (np := 44) rfl ?_
  refine g_ixor F dX2_fallsBy_44 (np := 45) rfl ?_
  have hσ : (logS σ [11]) = (logS σ (faL kd 0)) := by rfl
  have hv : x ^^^ (nI (b)) = faV kd 0 b x := by rfl
  exact g_iret F hr rfl (Nat.le_of_ble_eq_true rfl) (Nat.le_of_ble_eq_true rfl) dX2_fallsBy_45 (fun h hs => by rw [← hT]; exact ⟨congrArg (fun z => some (Value.int z)) hv, (hσ ▸ hs)⟩)

set_option maxRecDepth 100000 in
theorem ct_X2_fallsBy_1 {l : Launch} {D : va_G} {E : State → Prop} {B : Nat} (hE : Stab E) {ad : Nat → Nat} {h0 : AH} (σ : MSt) (kd : Nat) (b : Nat) (x : Int32) (hb : b < 50) (hkd : kd ≤ 7) (hek : σ.2.1 35 b = nI kd) (htr : σ.1 36 ≤ 2000) : Ct l D E B yX2_fallsBy cX2_fallsBy 5 (some .int) 2 45 0 0 [.ref (ad 0), .int (nI b), .int (nI 1), .int x] (MH D ad h0 σ) (RI (faV kd 1 b x) (MH D ad h0 (logS σ (faL kd 1)))) := by
  refine Ct.of (nL := 5) (lv := [some (.ref (ad 0)), some (.int (nI b)), some (.int (nI 1)), some (.int x), none]) (by decide) (Nat.le_of_ble_eq_true rfl) hE 1 rfl ?_
  generalize hT : RI (faV kd 1 b x) (MH D ad h0 (logS σ (faL kd 1))) = T
  intro zp ze zs zm zb zt zc F hr hnm
  generalize ([.ref (ad 0), .int (nI b), .int (nI 1), .int x] : List Value).toArray = za at F ⊢
  refine g_iload_n F dX2_fallsBy_0 rfl rfl (np := 1) rfl ?_
  refine g_tabIn F (x := (nI (1))) (v := 1) rfl (lo := 0) dX2_fallsBy_1 (j := 1) (by decide) (by decide) (by decide) rfl (np := 93) (by decide) ?_
  refine g_aload_n F dX2_fallsBy_93 rfl rfl (np := 94) rfl ?_
  refine g_iload_n F dX2_fallsBy_94 rfl rfl (np := 95) rfl ?_
  refine g_iload_n F dX2_fallsBy_95 rfl rfl (np := 96) rfl ?_
  refine g_runS F (rest := [.int (nI b), .ref (ad 0)]) (ct_X2_above hE 1 (by first | assumption | omega)) (lw_S q1991 q1992 q102 q1993) hcS_X2_above ⟨Nat.le_of_ble_eq_true rfl, Nat.le_of_ble_eq_true rfl⟩ rfl rfl (Nat.le_of_ble_eq_true rfl) dX2_fallsBy_96 ⟨Nat.le_of_ble_eq_true rfl, Nat.le_of_ble_eq_true rfl⟩ (np := 99) rfl (k_RI ?_)
  refine WG.eqv (st' := [.int (nI 0), .int (nI b), .ref (ad 0)]) (congrArg (fun z => ([.int z, .int (nI b), .ref (ad 0)] : List Value)) (show (nI (abv 1)) = (nI 0) from by rfl)) rfl ?_
  refine g_iload_n F dX2_fallsBy_99 rfl rfl (np := 100) rfl ?_
  refine g_runV F (C := RX2) (ci := 2) (T0 := TX2) (N := 42) (rest := []) (ct_X2_fallsBy_0 hE σ kd b x (by first | assumption | (first | omega | (rw [logS_36]; simp only [List.length_append, List.length_cons, List.length_nil]; have q1 := swL_len kd; have q2 := faL_len kd kd; have q3 := buL_len kd kd; have q4 := buL_len kd 4; have q5 := faL_len kd 1; omega)) | exact hek) (by first | assumption | (first | omega | (rw [logS_36]; simp only [List.length_append, List.length_cons, List.length_nil]; have q1 := swL_len kd; have q2 := faL_len kd kd; have q3 := buL_len kd kd; have q4 := buL_len kd 4; have q5 := faL_len kd 1; omega)) | exact hek) (by first | assumption | (first | omega | (rw [logS_36]; simp only [List.length_append, List.length_cons, List.length_nil]; have q1 := swL_len kd; have q2 := faL_len kd kd; have q3 := buL_len kd kd; have q4 := buL_len kd 4; have q5 := faL_len kd 1; omega)) | exact hek) (by first | assumption | (first | omega | (rw [logS_36]; simp only [List.length_append, List.length_cons, List.length_nil]; have q1 := swL_len kd; have q2 := faL_len kd kd; have q3 := buL_len kd kd; have q4 := buL_len kd 4; have q5 := faL_len kd 1; omega)) | exact hek)) (lw_V q1998 q2000 qs96 q102 q2001) hcV_X2_fallsBy ⟨Nat.le_of_ble_eq_true rfl, Nat.le_of_ble_eq_true rfl⟩ rfl (fun h hs => hs.obj) rfl rfl (Nat.le_of_ble_eq_true rfl) dX2_fallsBy_100 ⟨Nat.le_of_ble_eq_true rfl, Nat.le_of_ble_eq_true rfl⟩ (np := 103) rfl (k_RI ?_)
  have hσ : (logS σ (faL kd 0)) = (logS σ (faL kd 1)) := by rfl
  have hv : faV kd 0 b x = faV kd 1 b x := by rfl
  exact g_iret F hr rfl (Nat.le_of_ble_eq_true rfl) (Nat.le_of_ble_eq_true rfl) dX2_fallsBy_103 (fun h hs => by rw [← hT]; exact ⟨congrArg (fun z => some (Value.int z)) hv, (hσ ▸ hs)⟩)

set_option maxRecDepth 100000 in
theorem ct_X2_fallsBy_2 {l : Launch} {D : va_G} {E : State → Prop} {B : Nat} (hE : Stab E) {ad : Nat → Nat} {h0 : AH} (σ : MSt) (kd : Nat) (b : Nat) (x : Int32) (hb : b < 50) (hkd : kd ≤ 7) (hek : σ.2.1 35 b = nI kd) (htr : σ.1 36 ≤ 2000) : Ct l D E B yX2_fallsBy cX2_fallsBy 5 (some .int) 2 45 0 0 [.ref (ad 0), .int (nI b), .int (nI 2), .int x] (MH D ad h0 σ) (RI (faV kd 2 b x) (MH D ad h0 (logS σ (faL kd 2)))) := by
  refine Ct.of (nL := 5) (lv := [some (.ref (ad 0)), some (.int (nI b)), some (.int (nI 2)), some (.int x), none]) (by decide) (Nat.le_of_ble_eq_true rfl) hE 1 rfl ?_
  generalize hT : RI (faV kd 2 b x) (MH D ad h0 (logS σ (faL kd 2))) = T
  intro zp ze zs zm zb zt zc F hr hnm
  generalize ([.ref (ad 0), .int (nI b), .int (nI 2), .int x] : List Value).toArray = za at F ⊢
  refine g_iload_n F dX2_fallsBy_0 rfl rfl (np := 1) rfl ?_
  refine g_tabIn F (x := (nI (2))) (v := 2) rfl (lo := 0) dX2_fallsBy_1 (j := 2) (by decide) (by decide) (by decide) rfl (np := 93) (by decide) ?_
  refine g_aload_n F dX2_fallsBy_93 rfl rfl (np := 94) rfl ?_
  refine g_iload_n F dX2_fallsBy_94 rfl rfl (np := 95) rfl ?_
  refine g_iload_n F dX2_fallsBy_95 rfl rfl (np := 96) rfl ?_
  refine g_runS F (rest := [.int (nI b), .ref (ad 0)]) (ct_X2_above hE 2 (by first | assumption | omega)) (lw_S q1991 q1992 q102 q1993) hcS_X2_above ⟨Nat.le_of_ble_eq_true rfl, Nat.le_of_ble_eq_true rfl⟩ rfl rfl (Nat.le_of_ble_eq_true rfl) dX2_fallsBy_96 ⟨Nat.le_of_ble_eq_true rfl, Nat.le_of_ble_eq_true rfl⟩ (np := 99) rfl (k_RI ?_)
  refine WG.eqv (st' := [.int (nI 0), .int (nI b), .ref (ad 0)]) (congrArg (fun z => ([.int z, .int (nI b), .ref (ad 0)] : List Value)) (show (nI (abv 2)) = (nI 0) from by rfl)) rfl ?_
  refine g_iload_n F dX2_fallsBy_99 rfl rfl (np := 100) rfl ?_
  refine g_runV F (C := RX2) (ci := 2) (T0 := TX2) (N := 42) (rest := []) (ct_X2_fallsBy_0 hE σ kd b x (by first | assumption | (first | omega | (rw [logS_36]; simp only [List.length_append, List.length_cons, List.length_nil]; have q1 := swL_len kd; have q2 := faL_len kd kd; have q3 := buL_len kd kd; have q4 := buL_len kd 4; have q5 := faL_len kd 1; omega)) | exact hek) (by first | assumption | (first | omega | (rw [logS_36]; simp only [List.length_append, List.length_cons, List.length_nil]; have q1 := swL_len kd; have q2 := faL_len kd kd; have q3 := buL_len kd kd; have q4 := buL_len kd 4; have q5 := faL_len kd 1; omega)) | exact hek) (by first | assumption | (first | omega | (rw [logS_36]; simp only [List.length_append, List.length_cons, List.length_nil]; have q1 := swL_len kd; have q2 := faL_len kd kd; have q3 := buL_len kd kd; have q4 := buL_len kd 4; have q5 := faL_len kd 1; omega)) | exact hek) (by first | assumption | (first | omega | (rw [logS_36]; simp only [List.length_append, List.length_cons, List.length_nil]; have q1 := swL_len kd; have q2 := faL_len kd kd; have q3 := buL_len kd kd; have q4 := buL_len kd 4; have q5 := faL_len kd 1; omega)) | exact hek)) (lw_V q1998 q2000 qs96 q102 q2001) hcV_X2_fallsBy ⟨Nat.le_of_ble_eq_true rfl, Nat.le_of_ble_eq_true rfl⟩ rfl (fun h hs => hs.obj) rfl rfl (Nat.le_of_ble_eq_true rfl) dX2_fallsBy_100 ⟨Nat.le_of_ble_eq_true rfl, Nat.le_of_ble_eq_true rfl⟩ (np := 103) rfl (k_RI ?_)
  have hσ : (logS σ (faL kd 0)) = (logS σ (faL kd 2)) := by rfl
  have hv : faV kd 0 b x = faV kd 2 b x := by rfl
  exact g_iret F hr rfl (Nat.le_of_ble_eq_true rfl) (Nat.le_of_ble_eq_true rfl) dX2_fallsBy_103 (fun h hs => by rw [← hT]; exact ⟨congrArg (fun z => some (Value.int z)) hv, (hσ ▸ hs)⟩)

set_option maxRecDepth 100000 in
theorem ct_X2_fallsBy_6 {l : Launch} {D : va_G} {E : State → Prop} {B : Nat} (hE : Stab E) {ad : Nat → Nat} {h0 : AH} (σ : MSt) (kd : Nat) (b : Nat) (x : Int32) (hb : b < 50) (hkd : kd ≤ 7) (hek : σ.2.1 35 b = nI kd) (htr : σ.1 36 ≤ 2000) : Ct l D E B yX2_fallsBy cX2_fallsBy 5 (some .int) 2 45 0 0 [.ref (ad 0), .int (nI b), .int (nI 6), .int x] (MH D ad h0 σ) (RI (faV kd 6 b x) (MH D ad h0 (logS σ (faL kd 6)))) := by
  refine Ct.of (nL := 5) (lv := [some (.ref (ad 0)), some (.int (nI b)), some (.int (nI 6)), some (.int x), none]) (by decide) (Nat.le_of_ble_eq_true rfl) hE 1 rfl ?_
  generalize hT : RI (faV kd 6 b x) (MH D ad h0 (logS σ (faL kd 6))) = T
  intro zp ze zs zm zb zt zc F hr hnm
  generalize ([.ref (ad 0), .int (nI b), .int (nI 6), .int x] : List Value).toArray = za at F ⊢
  refine g_iload_n F dX2_fallsBy_0 rfl rfl (np := 1) rfl ?_
  refine g_tabOut F (x := (nI (6))) dX2_fallsBy_1 (by decide) (np := 93) (by decide) ?_
  refine g_aload_n F dX2_fallsBy_93 rfl rfl (np := 94) rfl ?_
  refine g_iload_n F dX2_fallsBy_94 rfl rfl (np := 95) rfl ?_
  refine g_iload_n F dX2_fallsBy_95 rfl rfl (np := 96) rfl ?_
  refine g_runS F (rest := [.int (nI b), .ref (ad 0)]) (ct_X2_above hE 6 (by first | assumption | omega)) (lw_S q1991 q1992 q102 q1993) hcS_X2_above ⟨Nat.le_of_ble_eq_true rfl, Nat.le_of_ble_eq_true rfl⟩ rfl rfl (Nat.le_of_ble_eq_true rfl) dX2_fallsBy_96 ⟨Nat.le_of_ble_eq_true rfl, Nat.le_of_ble_eq_true rfl⟩ (np := 99) rfl (k_RI ?_)
  refine WG.eqv (st' := [.int (nI 0), .int (nI b), .ref (ad 0)]) (congrArg (fun z => ([.int z, .int (nI b), .ref (ad 0)] : List Value)) (show (nI (abv 6)) = (nI 0) from by rfl)) rfl ?_
  refine g_iload_n F dX2_fallsBy_99 rfl rfl (np := 100) rfl ?_
  refine g_runV F (C := RX2) (ci := 2) (T0 := TX2) (N := 42) (rest := []) (ct_X2_fallsBy_0 hE σ kd b x (by first | assumption | (first | omega | (rw [logS_36]; simp only [List.length_append, List.length_cons, List.length_nil]; have q1 := swL_len kd; have q2 := faL_len kd kd; have q3 := buL_len kd kd; have q4 := buL_len kd 4; have q5 := faL_len kd 1; omega)) | exact hek) (by first | assumption | (first | omega | (rw [logS_36]; simp only [List.length_append, List.length_cons, List.length_nil]; have q1 := swL_len kd; have q2 := faL_len kd kd; have q3 := buL_len kd kd; have q4 := buL_len kd 4; have q5 := faL_len kd 1; omega)) | exact hek) (by first | assumption | (first | omega | (rw [logS_36]; simp only [List.length_append, List.length_cons, List.length_nil]; have q1 := swL_len kd; have q2 := faL_len kd kd; have q3 := buL_len kd kd; have q4 := buL_len kd 4; have q5 := faL_len kd 1; omega)) | exact hek) (by first | assumption | (first | omega | (rw [logS_36]; simp only [List.length_append, List.length_cons, List.length_nil]; have q1 := swL_len kd; have q2 := faL_len kd kd; have q3 := buL_len kd kd; have q4 := buL_len kd 4; have q5 := faL_len kd 1; omega)) | exact hek)) (lw_V q1998 q2000 qs96 q102 q2001) hcV_X2_fallsBy ⟨Nat.le_of_ble_eq_true rfl, Nat.le_of_ble_eq_true rfl⟩ rfl (fun h hs => hs.obj) rfl rfl (Nat.le_of_ble_eq_true rfl) dX2_fallsBy_100 ⟨Nat.le_of_ble_eq_true rfl, Nat.le_of_ble_eq_true rfl⟩ (np := 103) rfl (k_RI ?_)
  have hσ : (logS σ (faL kd 0)) = (logS σ (faL kd 6)) := by rfl
  have hv : faV kd 0 b x = faV kd 6 b x := by rfl
  exact g_iret F hr rfl (Nat.le_of_ble_eq_true rfl) (Nat.le_of_ble_eq_true rfl) dX2_fallsBy_103 (fun h hs => by rw [← hT]; exact ⟨congrArg (fun z => some (Value.int z)) hv, (hσ ▸ hs)⟩)

set_option maxRecDepth 100000 in
theorem ct_X2_fallsBy_3 {l : Launch} {D : va_G} {E : State → Prop} {B : Nat} (hE : Stab E) {ad : Nat → Nat} {h0 : AH} (σ : MSt) (kd : Nat) (b : Nat) (x : Int32) (hb : b < 50) (hkd : kd ≤ 7) (hek : σ.2.1 35 b = nI kd) (htr : σ.1 36 ≤ 1999) : Ct l D E B yX2_fallsBy cX2_fallsBy 5 (some .int) 3 69 0 0 [.ref (ad 0), .int (nI b), .int (nI 3), .int x] (MH D ad h0 σ) (RI (faV kd 3 b x) (MH D ad h0 (logS σ (faL kd 3)))) := by
  refine Ct.of (nL := 5) (lv := [some (.ref (ad 0)), some (.int (nI b)), some (.int (nI 3)), some (.int x), none]) (by decide) (Nat.le_of_ble_eq_true rfl) hE 1 rfl ?_
  generalize hT : RI (faV kd 3 b x) (MH D ad h0 (logS σ (faL kd 3))) = T
  intro zp ze zs zm zb zt zc F hr hnm
  generalize ([.ref (ad 0), .int (nI b), .int (nI 3), .int x] : List Value).toArray = za at F ⊢
  refine g_iload_n F dX2_fallsBy_0 rfl rfl (np := 1) rfl ?_
  refine g_tabIn F (x := (nI (3))) (v := 3) rfl (lo := 0) dX2_fallsBy_1 (j := 3) (by decide) (by decide) (by decide) rfl (np := 46) (by decide) ?_
  refine g_aload_n F dX2_fallsBy_46 rfl rfl (np := 47) rfl ?_
  refine g_bipush F (v := (nI 40)) dX2_fallsBy_47 (by decide) (np := 49) rfl ?_
  refine g_runV F (C := RX2) (ci := 2) (T0 := TX2) (N := 42) (rest := []) (ct_X2_ran hE σ 40 (by first | assumption | omega)) (lw_V q1987 q1989 qs94 q102 q1990) hcV_X2_ran ⟨Nat.le_of_ble_eq_true rfl, Nat.le_of_ble_eq_true rfl⟩ rfl (fun h hs => hs.obj) rfl rfl (Nat.le_of_ble_eq_true rfl) dX2_fallsBy_49 ⟨Nat.le_of_ble_eq_true rfl, Nat.le_of_ble_eq_true rfl⟩ (np := 52) rfl (k_RV ?_)
  refine g_aload_n F dX2_fallsBy_52 rfl rfl (np := 53) rfl ?_
  refine g_iload_n F dX2_fallsBy_53 rfl rfl (np := 54) rfl ?_
  refine g_iconst F (v := (nI 2)) dX2_fallsBy_54 (by decide) (np := 55) rfl ?_
  refine g_iload_n F dX2_fallsBy_55 rfl rfl (np := 56) rfl ?_
  refine g_runV F (C := RX2) (ci := 2) (T0 := TX2) (N := 42) (rest := []) (ct_X2_fallsBy_2 hE (logS σ [40]) kd b x (by first | assumption | (first | omega | (rw [logS_36]; simp only [List.length_append, List.length_cons, List.length_nil]; have q1 := swL_len kd; have q2 := faL_len kd kd; have q3 := buL_len kd kd; have q4 := buL_len kd 4; have q5 := faL_len kd 1; omega)) | exact hek) (by first | assumption | (first | omega | (rw [logS_36]; simp only [List.length_append, List.length_cons, List.length_nil]; have q1 := swL_len kd; have q2 := faL_len kd kd; have q3 := buL_len kd kd; have q4 := buL_len kd 4; have q5 := faL_len kd 1; omega)) | exact hek) (by first | assumption | (first | omega | (rw [logS_36]; simp only [List.length_append, List.length_cons, List.length_nil]; have q1 := swL_len kd; have q2 := faL_len kd kd; have q3 := buL_len kd kd; have q4 := buL_len kd 4; have q5 := faL_len kd 1; omega)) | exact hek) (by first | assumption | (first | omega | (rw [logS_36]; simp only [List.length_append, List.length_cons, List.length_nil]; have q1 := swL_len kd; have q2 := faL_len kd kd; have q3 := buL_len kd kd; have q4 := buL_len kd 4; have q5 := faL_len kd 1; omega)) | exact hek)) (lw_V q1998 q2000 qs96 q102 q2001) hcV_X2_fallsBy ⟨Nat.le_of_ble_eq_true rfl, Nat.le_of_ble_eq_true rfl⟩ rfl (fun h hs => hs.obj) rfl rfl (Nat.le_of_ble_eq_true rfl) dX2_fallsBy_56 ⟨Nat.le_of_ble_eq_true rfl, Nat.le_of_ble_eq_true rfl⟩ (np := 59) rfl (k_RI ?_)
  refine WG.weak (S' := MH D ad h0 (logS σ ([40] ++ (faL kd 2)))) (fun h hs => by rw [← logS_app]; exact hs) ?_
  refine g_iconst F (v := (nI 3)) dX2_fallsBy_59 (by decide) (np := 60) rfl ?_
  refine g_imul F dX2_fallsBy_60 (np := 61) rfl ?_
  have hσ : (logS σ ([40] ++ (faL kd 2))) = (logS σ (faL kd 3)) := by rfl
  have hv : (faV kd 2 b x) * (nI (3)) = faV kd 3 b x := by rfl
  exact g_iret F hr rfl (Nat.le_of_ble_eq_true rfl) (Nat.le_of_ble_eq_true rfl) dX2_fallsBy_61 (fun h hs => by rw [← hT]; exact ⟨congrArg (fun z => some (Value.int z)) hv, (hσ ▸ hs)⟩)

set_option maxRecDepth 100000 in
theorem ct_X2_fallsBy_4 {l : Launch} {D : va_G} {E : State → Prop} {B : Nat} (hE : Stab E) {ad : Nat → Nat} {h0 : AH} (σ : MSt) (kd : Nat) (b : Nat) (x : Int32) (hb : b < 50) (hkd : kd ≤ 7) (hek : σ.2.1 35 b = nI kd) (htr : σ.1 36 ≤ 1990) : Ct l D E B yX2_fallsBy cX2_fallsBy 5 (some .int) 5 113 0 0 [.ref (ad 0), .int (nI b), .int (nI 4), .int x] (MH D ad h0 σ) (RI (faV kd 4 b x) (MH D ad h0 (logS σ (faL kd 4)))) := by
  refine Ct.of (nL := 5) (lv := [some (.ref (ad 0)), some (.int (nI b)), some (.int (nI 4)), some (.int x), none]) (by decide) (Nat.le_of_ble_eq_true rfl) hE 1 rfl ?_
  generalize hT : RI (faV kd 4 b x) (MH D ad h0 (logS σ (faL kd 4))) = T
  intro zp ze zs zm zb zt zc F hr hnm
  generalize ([.ref (ad 0), .int (nI b), .int (nI 4), .int x] : List Value).toArray = za at F ⊢
  refine g_iload_n F dX2_fallsBy_0 rfl rfl (np := 1) rfl ?_
  refine g_tabIn F (x := (nI (4))) (v := 4) rfl (lo := 0) dX2_fallsBy_1 (j := 4) (by decide) (by decide) (by decide) rfl (np := 62) (by decide) ?_
  refine g_aload_n F dX2_fallsBy_62 rfl rfl (np := 63) rfl ?_
  refine g_bipush F (v := (nI 50)) dX2_fallsBy_63 (by decide) (np := 65) rfl ?_
  refine g_runV F (C := RX2) (ci := 2) (T0 := TX2) (N := 42) (rest := []) (ct_X2_ran hE σ 50 (by first | assumption | omega)) (lw_V q1987 q1989 qs94 q102 q1990) hcV_X2_ran ⟨Nat.le_of_ble_eq_true rfl, Nat.le_of_ble_eq_true rfl⟩ rfl (fun h hs => hs.obj) rfl rfl (Nat.le_of_ble_eq_true rfl) dX2_fallsBy_65 ⟨Nat.le_of_ble_eq_true rfl, Nat.le_of_ble_eq_true rfl⟩ (np := 68) rfl (k_RV ?_)
  refine g_aload_n F dX2_fallsBy_68 rfl rfl (np := 69) rfl ?_
  refine g_iload_n F dX2_fallsBy_69 rfl rfl (np := 70) rfl ?_
  refine g_iconst F (v := (nI 1)) dX2_fallsBy_70 (by decide) (np := 71) rfl ?_
  refine g_iload_n F dX2_fallsBy_71 rfl rfl (np := 72) rfl ?_
  refine g_runV F (C := RX2) (ci := 2) (T0 := TX2) (N := 42) (rest := []) (ct_X2_fallsBy_1 hE (logS σ [50]) kd b x (by first | assumption | (first | omega | (rw [logS_36]; simp only [List.length_append, List.length_cons, List.length_nil]; have q1 := swL_len kd; have q2 := faL_len kd kd; have q3 := buL_len kd kd; have q4 := buL_len kd 4; have q5 := faL_len kd 1; omega)) | exact hek) (by first | assumption | (first | omega | (rw [logS_36]; simp only [List.length_append, List.length_cons, List.length_nil]; have q1 := swL_len kd; have q2 := faL_len kd kd; have q3 := buL_len kd kd; have q4 := buL_len kd 4; have q5 := faL_len kd 1; omega)) | exact hek) (by first | assumption | (first | omega | (rw [logS_36]; simp only [List.length_append, List.length_cons, List.length_nil]; have q1 := swL_len kd; have q2 := faL_len kd kd; have q3 := buL_len kd kd; have q4 := buL_len kd 4; have q5 := faL_len kd 1; omega)) | exact hek) (by first | assumption | (first | omega | (rw [logS_36]; simp only [List.length_append, List.length_cons, List.length_nil]; have q1 := swL_len kd; have q2 := faL_len kd kd; have q3 := buL_len kd kd; have q4 := buL_len kd 4; have q5 := faL_len kd 1; omega)) | exact hek)) (lw_V q1998 q2000 qs96 q102 q2001) hcV_X2_fallsBy ⟨Nat.le_of_ble_eq_true rfl, Nat.le_of_ble_eq_true rfl⟩ rfl (fun h hs => hs.obj) rfl rfl (Nat.le_of_ble_eq_true rfl) dX2_fallsBy_72 ⟨Nat.le_of_ble_eq_true rfl, Nat.le_of_ble_eq_true rfl⟩ (np := 75) rfl (k_RI ?_)
  refine WG.weak (S' := MH D ad h0 (logS σ ([50] ++ (faL kd 1)))) (fun h hs => by rw [← logS_app]; exact hs) ?_
  refine g_istore F (lv' := [some (.ref (ad 0)), some (.int (nI b)), some (.int (nI 4)), some (.int x), some (.int (faV kd 1 b x))]) dX2_fallsBy_75 (by decide) rfl rfl (np := 77) rfl ?_
  refine g_iload F dX2_fallsBy_77 rfl (np := 79) rfl ?_
  refine g_aload_n F dX2_fallsBy_79 rfl rfl (np := 80) rfl ?_
  refine g_iload_n F dX2_fallsBy_80 rfl rfl (np := 81) rfl ?_
  refine g_aload_n F dX2_fallsBy_81 rfl rfl (np := 82) rfl ?_
  refine h_get F (k := 35) (v := .ref (ad 35)) (by decide) rfl q1581 dX2_fallsBy_82 (np := 85) rfl ?_
  refine g_iload_n F dX2_fallsBy_85 rfl rfl (np := 86) rfl ?_
  refine h_ald F (k := 35) (i := b) (L := 50) (v := nI kd) rfl rfl (by decide) (by omega) rfl (show σ.2.1 35 b = nI kd from by exact hek) dX2_fallsBy_86 (by decide) (by decide) (np := 87) rfl ?_
  refine WG.eqv (st' := [.int (nI kd), .int (nI b), .ref (ad 0), .int (faV kd 1 b x)]) (congrArg (fun z => ([.int z, .int (nI b), .ref (ad 0), .int (faV kd 1 b x)] : List Value)) (show (nI kd) = (nI kd) from by rfl)) rfl ?_
  refine g_iconst F (v := (nI 2)) dX2_fallsBy_87 (by decide) (np := 88) rfl ?_
  refine g_runV F (C := RX2) (ci := 2) (T0 := TX2) (N := 42) (rest := [.int (faV kd 1 b x)]) (ct_X2_swearsBy hE (logS σ ([50] ++ (faL kd 1))) b kd (nI (2)) (by first | assumption | (first | omega | (rw [logS_36]; simp only [List.length_append, List.length_cons, List.length_nil]; omega) | (rw [logS_36]; simp only [List.length_append, List.length_cons, List.length_nil]; have q1 := swL_len kd; have q2 := faL_len kd kd; have q3 := buL_len kd kd; have q4 := buL_len kd 4; have q5 := faL_len kd 1; omega)) | exact hek) (by first | assumption | (first | omega | (rw [logS_36]; simp only [List.length_append, List.length_cons, List.length_nil]; omega) | (rw [logS_36]; simp only [List.length_append, List.length_cons, List.length_nil]; have q1 := swL_len kd; have q2 := faL_len kd kd; have q3 := buL_len kd kd; have q4 := buL_len kd 4; have q5 := faL_len kd 1; omega)) | exact hek)) (lw_V q1983 q1985 qs93 q102 q1986) hcV_X2_swearsBy ⟨Nat.le_of_ble_eq_true rfl, Nat.le_of_ble_eq_true rfl⟩ rfl (fun h hs => hs.obj) rfl rfl (Nat.le_of_ble_eq_true rfl) dX2_fallsBy_88 ⟨Nat.le_of_ble_eq_true rfl, Nat.le_of_ble_eq_true rfl⟩ (np := 91) rfl (k_RI ?_)
  refine WG.weak (S' := MH D ad h0 (logS σ (([50] ++ (faL kd 1)) ++ (swL kd)))) (fun h hs => by rw [← logS_app]; exact hs) ?_
  refine g_isub F dX2_fallsBy_91 (np := 92) rfl ?_
  have hσ : (logS σ (([50] ++ (faL kd 1)) ++ (swL kd))) = (logS σ (faL kd 4)) := by rfl
  have hv : (faV kd 1 b x) - (swV kd b (nI (2))) = faV kd 4 b x := by rfl
  exact g_iret F hr rfl (Nat.le_of_ble_eq_true rfl) (Nat.le_of_ble_eq_true rfl) dX2_fallsBy_92 (fun h hs => by rw [← hT]; exact ⟨congrArg (fun z => some (Value.int z)) hv, (hσ ▸ hs)⟩)

set_option maxRecDepth 100000 in
theorem ct_X2_fallsBy_5 {l : Launch} {D : va_G} {E : State → Prop} {B : Nat} (hE : Stab E) {ad : Nat → Nat} {h0 : AH} (σ : MSt) (kd : Nat) (b : Nat) (x : Int32) (hb : b < 50) (hkd : kd ≤ 7) (hek : σ.2.1 35 b = nI kd) (htr : σ.1 36 ≤ 1999) : Ct l D E B yX2_fallsBy cX2_fallsBy 5 (some .int) 4 93 0 0 [.ref (ad 0), .int (nI b), .int (nI 5), .int x] (MH D ad h0 σ) (RI (faV kd 5 b x) (MH D ad h0 (logS σ (faL kd 5)))) := by
  refine Ct.of (nL := 5) (lv := [some (.ref (ad 0)), some (.int (nI b)), some (.int (nI 5)), some (.int x), none]) (by decide) (Nat.le_of_ble_eq_true rfl) hE 1 rfl ?_
  generalize hT : RI (faV kd 5 b x) (MH D ad h0 (logS σ (faL kd 5))) = T
  intro zp ze zs zm zb zt zc F hr hnm
  generalize ([.ref (ad 0), .int (nI b), .int (nI 5), .int x] : List Value).toArray = za at F ⊢
  refine g_iload_n F dX2_fallsBy_0 rfl rfl (np := 1) rfl ?_
  refine g_tabOut F (x := (nI (5))) dX2_fallsBy_1 (by decide) (np := 93) (by decide) ?_
  refine g_aload_n F dX2_fallsBy_93 rfl rfl (np := 94) rfl ?_
  refine g_iload_n F dX2_fallsBy_94 rfl rfl (np := 95) rfl ?_
  refine g_iload_n F dX2_fallsBy_95 rfl rfl (np := 96) rfl ?_
  refine g_runS F (rest := [.int (nI b), .ref (ad 0)]) (ct_X2_above hE 5 (by first | assumption | omega)) (lw_S q1991 q1992 q102 q1993) hcS_X2_above ⟨Nat.le_of_ble_eq_true rfl, Nat.le_of_ble_eq_true rfl⟩ rfl rfl (Nat.le_of_ble_eq_true rfl) dX2_fallsBy_96 ⟨Nat.le_of_ble_eq_true rfl, Nat.le_of_ble_eq_true rfl⟩ (np := 99) rfl (k_RI ?_)
  refine WG.eqv (st' := [.int (nI 3), .int (nI b), .ref (ad 0)]) (congrArg (fun z => ([.int z, .int (nI b), .ref (ad 0)] : List Value)) (show (nI (abv 5)) = (nI 3) from by rfl)) rfl ?_
  refine g_iload_n F dX2_fallsBy_99 rfl rfl (np := 100) rfl ?_
  refine g_runV F (C := RX2) (ci := 2) (T0 := TX2) (N := 42) (rest := []) (ct_X2_fallsBy_3 hE σ kd b x (by first | assumption | (first | omega | (rw [logS_36]; simp only [List.length_append, List.length_cons, List.length_nil]; have q1 := swL_len kd; have q2 := faL_len kd kd; have q3 := buL_len kd kd; have q4 := buL_len kd 4; have q5 := faL_len kd 1; omega)) | exact hek) (by first | assumption | (first | omega | (rw [logS_36]; simp only [List.length_append, List.length_cons, List.length_nil]; have q1 := swL_len kd; have q2 := faL_len kd kd; have q3 := buL_len kd kd; have q4 := buL_len kd 4; have q5 := faL_len kd 1; omega)) | exact hek) (by first | assumption | (first | omega | (rw [logS_36]; simp only [List.length_append, List.length_cons, List.length_nil]; have q1 := swL_len kd; have q2 := faL_len kd kd; have q3 := buL_len kd kd; have q4 := buL_len kd 4; have q5 := faL_len kd 1; omega)) | exact hek) (by first | assumption | (first | omega | (rw [logS_36]; simp only [List.length_append, List.length_cons, List.length_nil]; have q1 := swL_len kd; have q2 := faL_len kd kd; have q3 := buL_len kd kd; have q4 := buL_len kd 4; have q5 := faL_len kd 1; omega)) | exact hek)) (lw_V q1998 q2000 qs96 q102 q2001) hcV_X2_fallsBy ⟨Nat.le_of_ble_eq_true rfl, Nat.le_of_ble_eq_true rfl⟩ rfl (fun h hs => hs.obj) rfl rfl (Nat.le_of_ble_eq_true rfl) dX2_fallsBy_100 ⟨Nat.le_of_ble_eq_true rfl, Nat.le_of_ble_eq_true rfl⟩ (np := 103) rfl (k_RI ?_)
  have hσ : (logS σ (faL kd 3)) = (logS σ (faL kd 5)) := by rfl
  have hv : faV kd 3 b x = faV kd 5 b x := by rfl
  exact g_iret F hr rfl (Nat.le_of_ble_eq_true rfl) (Nat.le_of_ble_eq_true rfl) dX2_fallsBy_103 (fun h hs => by rw [← hT]; exact ⟨congrArg (fun z => some (Value.int z)) hv, (hσ ▸ hs)⟩)

set_option maxRecDepth 100000 in
theorem ct_X2_fallsBy_7 {l : Launch} {D : va_G} {E : State → Prop} {B : Nat} (hE : Stab E) {ad : Nat → Nat} {h0 : AH} (σ : MSt) (kd : Nat) (b : Nat) (x : Int32) (hb : b < 50) (hkd : kd ≤ 7) (hek : σ.2.1 35 b = nI kd) (htr : σ.1 36 ≤ 1990) : Ct l D E B yX2_fallsBy cX2_fallsBy 5 (some .int) 6 137 0 0 [.ref (ad 0), .int (nI b), .int (nI 7), .int x] (MH D ad h0 σ) (RI (faV kd 7 b x) (MH D ad h0 (logS σ (faL kd 7)))) := by
  refine Ct.of (nL := 5) (lv := [some (.ref (ad 0)), some (.int (nI b)), some (.int (nI 7)), some (.int x), none]) (by decide) (Nat.le_of_ble_eq_true rfl) hE 1 rfl ?_
  generalize hT : RI (faV kd 7 b x) (MH D ad h0 (logS σ (faL kd 7))) = T
  intro zp ze zs zm zb zt zc F hr hnm
  generalize ([.ref (ad 0), .int (nI b), .int (nI 7), .int x] : List Value).toArray = za at F ⊢
  refine g_iload_n F dX2_fallsBy_0 rfl rfl (np := 1) rfl ?_
  refine g_tabOut F (x := (nI (7))) dX2_fallsBy_1 (by decide) (np := 93) (by decide) ?_
  refine g_aload_n F dX2_fallsBy_93 rfl rfl (np := 94) rfl ?_
  refine g_iload_n F dX2_fallsBy_94 rfl rfl (np := 95) rfl ?_
  refine g_iload_n F dX2_fallsBy_95 rfl rfl (np := 96) rfl ?_
  refine g_runS F (rest := [.int (nI b), .ref (ad 0)]) (ct_X2_above hE 7 (by first | assumption | omega)) (lw_S q1991 q1992 q102 q1993) hcS_X2_above ⟨Nat.le_of_ble_eq_true rfl, Nat.le_of_ble_eq_true rfl⟩ rfl rfl (Nat.le_of_ble_eq_true rfl) dX2_fallsBy_96 ⟨Nat.le_of_ble_eq_true rfl, Nat.le_of_ble_eq_true rfl⟩ (np := 99) rfl (k_RI ?_)
  refine WG.eqv (st' := [.int (nI 4), .int (nI b), .ref (ad 0)]) (congrArg (fun z => ([.int z, .int (nI b), .ref (ad 0)] : List Value)) (show (nI (abv 7)) = (nI 4) from by rfl)) rfl ?_
  refine g_iload_n F dX2_fallsBy_99 rfl rfl (np := 100) rfl ?_
  refine g_runV F (C := RX2) (ci := 2) (T0 := TX2) (N := 42) (rest := []) (ct_X2_fallsBy_4 hE σ kd b x (by first | assumption | (first | omega | (rw [logS_36]; simp only [List.length_append, List.length_cons, List.length_nil]; have q1 := swL_len kd; have q2 := faL_len kd kd; have q3 := buL_len kd kd; have q4 := buL_len kd 4; have q5 := faL_len kd 1; omega)) | exact hek) (by first | assumption | (first | omega | (rw [logS_36]; simp only [List.length_append, List.length_cons, List.length_nil]; have q1 := swL_len kd; have q2 := faL_len kd kd; have q3 := buL_len kd kd; have q4 := buL_len kd 4; have q5 := faL_len kd 1; omega)) | exact hek) (by first | assumption | (first | omega | (rw [logS_36]; simp only [List.length_append, List.length_cons, List.length_nil]; have q1 := swL_len kd; have q2 := faL_len kd kd; have q3 := buL_len kd kd; have q4 := buL_len kd 4; have q5 := faL_len kd 1; omega)) | exact hek) (by first | assumption | (first | omega | (rw [logS_36]; simp only [List.length_append, List.length_cons, List.length_nil]; have q1 := swL_len kd; have q2 := faL_len kd kd; have q3 := buL_len kd kd; have q4 := buL_len kd 4; have q5 := faL_len kd 1; omega)) | exact hek)) (lw_V q1998 q2000 qs96 q102 q2001) hcV_X2_fallsBy ⟨Nat.le_of_ble_eq_true rfl, Nat.le_of_ble_eq_true rfl⟩ rfl (fun h hs => hs.obj) rfl rfl (Nat.le_of_ble_eq_true rfl) dX2_fallsBy_100 ⟨Nat.le_of_ble_eq_true rfl, Nat.le_of_ble_eq_true rfl⟩ (np := 103) rfl (k_RI ?_)
  have hσ : (logS σ (faL kd 4)) = (logS σ (faL kd 7)) := by rfl
  have hv : faV kd 4 b x = faV kd 7 b x := by rfl
  exact g_iret F hr rfl (Nat.le_of_ble_eq_true rfl) (Nat.le_of_ble_eq_true rfl) dX2_fallsBy_103 (fun h hs => by rw [← hT]; exact ⟨congrArg (fun z => some (Value.int z)) hv, (hσ ▸ hs)⟩)

theorem ct_X2_fallsBy {l : Launch} {D : va_G} {E : State → Prop} {B : Nat} (hE : Stab E) {ad : Nat → Nat} {h0 : AH} (σ : MSt) (kd : Nat) (b k : Nat) (x : Int32) (hk : k ≤ 7) (hb : b < 50) (hkd : kd ≤ 7) (hek : σ.2.1 35 b = nI kd) (htr : σ.1 36 ≤ 1990) : Ct l D E B yX2_fallsBy cX2_fallsBy 5 (some .int) 6 137 0 0 [.ref (ad 0), .int (nI b), .int (nI k), .int x] (MH D ad h0 σ) (RI (faV kd k b x) (MH D ad h0 (logS σ (faL kd k)))) :=
  all8 (P := fun k => Ct l D E B yX2_fallsBy cX2_fallsBy 5 (some .int) 6 137 0 0 [.ref (ad 0), .int (nI b), .int (nI k), .int x] (MH D ad h0 σ) (RI (faV kd k b x) (MH D ad h0 (logS σ (faL kd k))))) hk ((ct_X2_fallsBy_0 hE σ kd b x hb hkd hek (by omega)).up (Nat.le_of_ble_eq_true rfl) (Nat.le_of_ble_eq_true rfl)) ((ct_X2_fallsBy_1 hE σ kd b x hb hkd hek (by omega)).up (Nat.le_of_ble_eq_true rfl) (Nat.le_of_ble_eq_true rfl)) ((ct_X2_fallsBy_2 hE σ kd b x hb hkd hek (by omega)).up (Nat.le_of_ble_eq_true rfl) (Nat.le_of_ble_eq_true rfl)) ((ct_X2_fallsBy_3 hE σ kd b x hb hkd hek (by omega)).up (Nat.le_of_ble_eq_true rfl) (Nat.le_of_ble_eq_true rfl)) ((ct_X2_fallsBy_4 hE σ kd b x hb hkd hek (by omega)).up (Nat.le_of_ble_eq_true rfl) (Nat.le_of_ble_eq_true rfl)) ((ct_X2_fallsBy_5 hE σ kd b x hb hkd hek (by omega)).up (Nat.le_of_ble_eq_true rfl) (Nat.le_of_ble_eq_true rfl)) ((ct_X2_fallsBy_6 hE σ kd b x hb hkd hek (by omega)).up (Nat.le_of_ble_eq_true rfl) (Nat.le_of_ble_eq_true rfl)) ((ct_X2_fallsBy_7 hE σ kd b x hb hkd hek (by omega)).up (Nat.le_of_ble_eq_true rfl) (Nat.le_of_ble_eq_true rfl))

set_option maxRecDepth 100000 in
theorem ct_X2_buildsBy_0 {l : Launch} {D : va_G} {E : State → Prop} {B : Nat} (hE : Stab E) {ad : Nat → Nat} {h0 : AH} (σ : MSt) (kd : Nat) (b : Nat) (x : Int32) (hb : b < 50) (hkd : kd ≤ 7) (hek : σ.2.1 35 b = nI kd) (htr : σ.1 36 ≤ 1980) : Ct l D E B yX2_buildsBy cX2_buildsBy 5 (some .int) 5 113 0 0 [.ref (ad 0), .int (nI b), .int (nI 0), .int x] (MH D ad h0 σ) (RI (buV kd 0 b x) (MH D ad h0 (logS σ (buL kd 0)))) := by
  refine Ct.of (nL := 5) (lv := [some (.ref (ad 0)), some (.int (nI b)), some (.int (nI 0)), some (.int x), none]) (by decide) (Nat.le_of_ble_eq_true rfl) hE 1 rfl ?_
  generalize hT : RI (buV kd 0 b x) (MH D ad h0 (logS σ (buL kd 0))) = T
  intro zp ze zs zm zb zt zc F hr hnm
  generalize ([.ref (ad 0), .int (nI b), .int (nI 0), .int x] : List Value).toArray = za at F ⊢
  refine g_iload_n F dX2_buildsBy_0 rfl rfl (np := 1) rfl ?_
  refine g_tabIn F (x := (nI (0))) (v := 0) rfl (lo := 0) dX2_buildsBy_1 (j := 0) (by decide) (by decide) (by decide) rfl (np := 48) (by decide) ?_
  refine g_aload_n F dX2_buildsBy_48 rfl rfl (np := 49) rfl ?_
  refine g_bipush F (v := (nI 10)) dX2_buildsBy_49 (by decide) (np := 51) rfl ?_
  refine g_runV F (C := RX2) (ci := 2) (T0 := TX2) (N := 42) (rest := []) (ct_X2_ran hE σ 10 (by first | assumption | omega)) (lw_V q1987 q1989 qs94 q102 q1990) hcV_X2_ran ⟨Nat.le_of_ble_eq_true rfl, Nat.le_of_ble_eq_true rfl⟩ rfl (fun h hs => hs.obj) rfl rfl (Nat.le_of_ble_eq_true rfl) dX2_buildsBy_51 ⟨Nat.le_of_ble_eq_true rfl, Nat.le_of_ble_eq_true rfl⟩ (np := 54) rfl (k_RV ?_)
  refine g_aload_n F dX2_buildsBy_54 rfl rfl (np := 55) rfl ?_
  refine g_iload_n F dX2_buildsBy_55 rfl rfl (np := 56) rfl ?_
  refine g_aload_n F dX2_buildsBy_56 rfl rfl (np := 57) rfl ?_
  refine h_get F (k := 35) (v := .ref (ad 35)) (by decide) rfl q1581 dX2_buildsBy_57 (np := 60) rfl ?_
  refine g_iload_n F dX2_buildsBy_60 rfl rfl (np := 61) rfl ?_
  refine h_ald F (k := 35) (i := b) (L := 50) (v := nI kd) rfl rfl (by decide) (by omega) rfl (show σ.2.1 35 b = nI kd from by exact hek) dX2_buildsBy_61 (by decide) (by decide) (np := 62) rfl ?_
  refine WG.eqv (st' := [.int (nI kd), .int (nI b), .ref (ad 0)]) (congrArg (fun z => ([.int z, .int (nI b), .ref (ad 0)] : List Value)) (show (nI kd) = (nI kd) from by rfl)) rfl ?_
  refine g_iload_n F dX2_buildsBy_62 rfl rfl (np := 63) rfl ?_
  refine g_runV F (C := RX2) (ci := 2) (T0 := TX2) (N := 42) (rest := []) (ct_X2_swearsBy hE (logS σ [10]) b kd x (by first | assumption | (first | omega | (rw [logS_36]; simp only [List.length_append, List.length_cons, List.length_nil]; omega) | (rw [logS_36]; simp only [List.length_append, List.length_cons, List.length_nil]; have q1 := swL_len kd; have q2 := faL_len kd kd; have q3 := buL_len kd kd; have q4 := buL_len kd 4; have q5 := faL_len kd 1; omega)) | exact hek) (by first | assumption | (first | omega | (rw [logS_36]; simp only [List.length_append, List.length_cons, List.length_nil]; omega) | (rw [logS_36]; simp only [List.length_append, List.length_cons, List.length_nil]; have q1 := swL_len kd; have q2 := faL_len kd kd; have q3 := buL_len kd kd; have q4 := buL_len kd 4; have q5 := faL_len kd 1; omega)) | exact hek)) (lw_V q1983 q1985 qs93 q102 q1986) hcV_X2_swearsBy ⟨Nat.le_of_ble_eq_true rfl, Nat.le_of_ble_eq_true rfl⟩ rfl (fun h hs => hs.obj) rfl rfl (Nat.le_of_ble_eq_true rfl) dX2_buildsBy_63 ⟨Nat.le_of_ble_eq_true rfl, Nat.le_of_ble_eq_true rfl⟩ (np := 66) rfl (k_RI ?_)
  refine WG.weak (S' := MH D ad h0 (logS σ ([10] ++ (swL kd)))) (fun h hs => by rw [← logS_app]; exact hs) ?_
  refine g_iconst F (v := (nI 2)) dX2_buildsBy_66 (by decide) (np := 67) rfl ?_
  refine g_imul F dX2_buildsBy_67 (np := 68) rfl ?_
  have hσ : (logS σ ([10] ++ (swL kd))) = (logS σ (buL kd 0)) := by rfl
  have hv : (swV kd b x) * (nI (2)) = buV kd 0 b x := by rfl
  exact g_iret F hr rfl (Nat.le_of_ble_eq_true rfl) (Nat.le_of_ble_eq_true rfl) dX2_buildsBy_68 (fun h hs => by rw [← hT]; exact ⟨congrArg (fun z => some (Value.int z)) hv, (hσ ▸ hs)⟩)

set_option maxRecDepth 100000 in
theorem ct_X2_buildsBy_1 {l : Launch} {D : va_G} {E : State → Prop} {B : Nat} (hE : Stab E) {ad : Nat → Nat} {h0 : AH} (σ : MSt) (kd : Nat) (b : Nat) (x : Int32) (hb : b < 50) (hkd : kd ≤ 7) (hek : σ.2.1 35 b = nI kd) (htr : σ.1 36 ≤ 1980) : Ct l D E B yX2_buildsBy cX2_buildsBy 5 (some .int) 6 137 0 0 [.ref (ad 0), .int (nI b), .int (nI 1), .int x] (MH D ad h0 σ) (RI (buV kd 1 b x) (MH D ad h0 (logS σ (buL kd 1)))) := by
  refine Ct.of (nL := 5) (lv := [some (.ref (ad 0)), some (.int (nI b)), some (.int (nI 1)), some (.int x), none]) (by decide) (Nat.le_of_ble_eq_true rfl) hE 1 rfl ?_
  generalize hT : RI (buV kd 1 b x) (MH D ad h0 (logS σ (buL kd 1))) = T
  intro zp ze zs zm zb zt zc F hr hnm
  generalize ([.ref (ad 0), .int (nI b), .int (nI 1), .int x] : List Value).toArray = za at F ⊢
  refine g_iload_n F dX2_buildsBy_0 rfl rfl (np := 1) rfl ?_
  refine g_tabIn F (x := (nI (1))) (v := 1) rfl (lo := 0) dX2_buildsBy_1 (j := 1) (by decide) (by decide) (by decide) rfl (np := 131) (by decide) ?_
  refine g_aload_n F dX2_buildsBy_131 rfl rfl (np := 132) rfl ?_
  refine g_iload_n F dX2_buildsBy_132 rfl rfl (np := 133) rfl ?_
  refine g_iload_n F dX2_buildsBy_133 rfl rfl (np := 134) rfl ?_
  refine g_runS F (rest := [.int (nI b), .ref (ad 0)]) (ct_X2_above hE 1 (by first | assumption | omega)) (lw_S q1991 q1992 q102 q1993) hcS_X2_above ⟨Nat.le_of_ble_eq_true rfl, Nat.le_of_ble_eq_true rfl⟩ rfl rfl (Nat.le_of_ble_eq_true rfl) dX2_buildsBy_134 ⟨Nat.le_of_ble_eq_true rfl, Nat.le_of_ble_eq_true rfl⟩ (np := 137) rfl (k_RI ?_)
  refine WG.eqv (st' := [.int (nI 0), .int (nI b), .ref (ad 0)]) (congrArg (fun z => ([.int z, .int (nI b), .ref (ad 0)] : List Value)) (show (nI (abv 1)) = (nI 0) from by rfl)) rfl ?_
  refine g_iload_n F dX2_buildsBy_137 rfl rfl (np := 138) rfl ?_
  refine g_runV F (C := RX2) (ci := 2) (T0 := TX2) (N := 42) (rest := []) (ct_X2_buildsBy_0 hE σ kd b x (by first | assumption | (first | omega | (rw [logS_36]; simp only [List.length_append, List.length_cons, List.length_nil]; have q1 := swL_len kd; have q2 := faL_len kd kd; have q3 := buL_len kd kd; have q4 := buL_len kd 4; have q5 := faL_len kd 1; omega)) | exact hek) (by first | assumption | (first | omega | (rw [logS_36]; simp only [List.length_append, List.length_cons, List.length_nil]; have q1 := swL_len kd; have q2 := faL_len kd kd; have q3 := buL_len kd kd; have q4 := buL_len kd 4; have q5 := faL_len kd 1; omega)) | exact hek) (by first | assumption | (first | omega | (rw [logS_36]; simp only [List.length_append, List.length_cons, List.length_nil]; have q1 := swL_len kd; have q2 := faL_len kd kd; have q3 := buL_len kd kd; have q4 := buL_len kd 4; have q5 := faL_len kd 1; omega)) | exact hek) (by first | assumption | (first | omega | (rw [logS_36]; simp only [List.length_append, List.length_cons, List.length_nil]; have q1 := swL_len kd; have q2 := faL_len kd kd; have q3 := buL_len kd kd; have q4 := buL_len kd 4; have q5 := faL_len kd 1; omega)) | exact hek)) (lw_V q1994 q1996 qs95 q102 q1997) hcV_X2_buildsBy ⟨Nat.le_of_ble_eq_true rfl, Nat.le_of_ble_eq_true rfl⟩ rfl (fun h hs => hs.obj) rfl rfl (Nat.le_of_ble_eq_true rfl) dX2_buildsBy_138 ⟨Nat.le_of_ble_eq_true rfl, Nat.le_of_ble_eq_true rfl⟩ (np := 141) rfl (k_RI ?_)
  have hσ : (logS σ (buL kd 0)) = (logS σ (buL kd 1)) := by rfl
  have hv : buV kd 0 b x = buV kd 1 b x := by rfl
  exact g_iret F hr rfl (Nat.le_of_ble_eq_true rfl) (Nat.le_of_ble_eq_true rfl) dX2_buildsBy_141 (fun h hs => by rw [← hT]; exact ⟨congrArg (fun z => some (Value.int z)) hv, (hσ ▸ hs)⟩)

set_option maxRecDepth 100000 in
theorem ct_X2_buildsBy_2 {l : Launch} {D : va_G} {E : State → Prop} {B : Nat} (hE : Stab E) {ad : Nat → Nat} {h0 : AH} (σ : MSt) (kd : Nat) (b : Nat) (x : Int32) (hb : b < 50) (hkd : kd ≤ 7) (hek : σ.2.1 35 b = nI kd) (htr : σ.1 36 ≤ 1979) : Ct l D E B yX2_buildsBy cX2_buildsBy 5 (some .int) 6 137 0 0 [.ref (ad 0), .int (nI b), .int (nI 2), .int x] (MH D ad h0 σ) (RI (buV kd 2 b x) (MH D ad h0 (logS σ (buL kd 2)))) := by
  refine Ct.of (nL := 5) (lv := [some (.ref (ad 0)), some (.int (nI b)), some (.int (nI 2)), some (.int x), none]) (by decide) (Nat.le_of_ble_eq_true rfl) hE 1 rfl ?_
  generalize hT : RI (buV kd 2 b x) (MH D ad h0 (logS σ (buL kd 2))) = T
  intro zp ze zs zm zb zt zc F hr hnm
  generalize ([.ref (ad 0), .int (nI b), .int (nI 2), .int x] : List Value).toArray = za at F ⊢
  refine g_iload_n F dX2_buildsBy_0 rfl rfl (np := 1) rfl ?_
  refine g_tabIn F (x := (nI (2))) (v := 2) rfl (lo := 0) dX2_buildsBy_1 (j := 2) (by decide) (by decide) (by decide) rfl (np := 69) (by decide) ?_
  refine g_aload_n F dX2_buildsBy_69 rfl rfl (np := 70) rfl ?_
  refine g_bipush F (v := (nI 30)) dX2_buildsBy_70 (by decide) (np := 72) rfl ?_
  refine g_runV F (C := RX2) (ci := 2) (T0 := TX2) (N := 42) (rest := []) (ct_X2_ran hE σ 30 (by first | assumption | omega)) (lw_V q1987 q1989 qs94 q102 q1990) hcV_X2_ran ⟨Nat.le_of_ble_eq_true rfl, Nat.le_of_ble_eq_true rfl⟩ rfl (fun h hs => hs.obj) rfl rfl (Nat.le_of_ble_eq_true rfl) dX2_buildsBy_72 ⟨Nat.le_of_ble_eq_true rfl, Nat.le_of_ble_eq_true rfl⟩ (np := 75) rfl (k_RV ?_)
  refine g_aload_n F dX2_buildsBy_75 rfl rfl (np := 76) rfl ?_
  refine g_iload_n F dX2_buildsBy_76 rfl rfl (np := 77) rfl ?_
  refine g_iconst F (v := (nI 0)) dX2_buildsBy_77 (by decide) (np := 78) rfl ?_
  refine g_iload_n F dX2_buildsBy_78 rfl rfl (np := 79) rfl ?_
  refine g_runV F (C := RX2) (ci := 2) (T0 := TX2) (N := 42) (rest := []) (ct_X2_buildsBy_0 hE (logS σ [30]) kd b x (by first | assumption | (first | omega | (rw [logS_36]; simp only [List.length_append, List.length_cons, List.length_nil]; have q1 := swL_len kd; have q2 := faL_len kd kd; have q3 := buL_len kd kd; have q4 := buL_len kd 4; have q5 := faL_len kd 1; omega)) | exact hek) (by first | assumption | (first | omega | (rw [logS_36]; simp only [List.length_append, List.length_cons, List.length_nil]; have q1 := swL_len kd; have q2 := faL_len kd kd; have q3 := buL_len kd kd; have q4 := buL_len kd 4; have q5 := faL_len kd 1; omega)) | exact hek) (by first | assumption | (first | omega | (rw [logS_36]; simp only [List.length_append, List.length_cons, List.length_nil]; have q1 := swL_len kd; have q2 := faL_len kd kd; have q3 := buL_len kd kd; have q4 := buL_len kd 4; have q5 := faL_len kd 1; omega)) | exact hek) (by first | assumption | (first | omega | (rw [logS_36]; simp only [List.length_append, List.length_cons, List.length_nil]; have q1 := swL_len kd; have q2 := faL_len kd kd; have q3 := buL_len kd kd; have q4 := buL_len kd 4; have q5 := faL_len kd 1; omega)) | exact hek)) (lw_V q1994 q1996 qs95 q102 q1997) hcV_X2_buildsBy ⟨Nat.le_of_ble_eq_true rfl, Nat.le_of_ble_eq_true rfl⟩ rfl (fun h hs => hs.obj) rfl rfl (Nat.le_of_ble_eq_true rfl) dX2_buildsBy_79 ⟨Nat.le_of_ble_eq_true rfl, Nat.le_of_ble_eq_true rfl⟩ (np := 82) rfl (k_RI ?_)
  refine WG.weak (S' := MH D ad h0 (logS σ ([30] ++ (buL kd 0)))) (fun h hs => by rw [← logS_app]; exact hs) ?_
  refine g_ineg F dX2_buildsBy_82 (np := 83) rfl ?_
  have hσ : (logS σ ([30] ++ (buL kd 0))) = (logS σ (buL kd 2)) := by rfl
  have hv : -(buV kd 0 b x) = buV kd 2 b x := by rfl
  exact g_iret F hr rfl (Nat.le_of_ble_eq_true rfl) (Nat.le_of_ble_eq_true rfl) dX2_buildsBy_83 (fun h hs => by rw [← hT]; exact ⟨congrArg (fun z => some (Value.int z)) hv, (hσ ▸ hs)⟩)

set_option maxRecDepth 100000 in
theorem ct_X2_buildsBy_6 {l : Launch} {D : va_G} {E : State → Prop} {B : Nat} (hE : Stab E) {ad : Nat → Nat} {h0 : AH} (σ : MSt) (kd : Nat) (b : Nat) (x : Int32) (hb : b < 50) (hkd : kd ≤ 7) (hek : σ.2.1 35 b = nI kd) (htr : σ.1 36 ≤ 1980) : Ct l D E B yX2_buildsBy cX2_buildsBy 5 (some .int) 6 137 0 0 [.ref (ad 0), .int (nI b), .int (nI 6), .int x] (MH D ad h0 σ) (RI (buV kd 6 b x) (MH D ad h0 (logS σ (buL kd 6)))) := by
  refine Ct.of (nL := 5) (lv := [some (.ref (ad 0)), some (.int (nI b)), some (.int (nI 6)), some (.int x), none]) (by decide) (Nat.le_of_ble_eq_true rfl) hE 1 rfl ?_
  generalize hT : RI (buV kd 6 b x) (MH D ad h0 (logS σ (buL kd 6))) = T
  intro zp ze zs zm zb zt zc F hr hnm
  generalize ([.ref (ad 0), .int (nI b), .int (nI 6), .int x] : List Value).toArray = za at F ⊢
  refine g_iload_n F dX2_buildsBy_0 rfl rfl (np := 1) rfl ?_
  refine g_tabIn F (x := (nI (6))) (v := 6) rfl (lo := 0) dX2_buildsBy_1 (j := 6) (by decide) (by decide) (by decide) rfl (np := 131) (by decide) ?_
  refine g_aload_n F dX2_buildsBy_131 rfl rfl (np := 132) rfl ?_
  refine g_iload_n F dX2_buildsBy_132 rfl rfl (np := 133) rfl ?_
  refine g_iload_n F dX2_buildsBy_133 rfl rfl (np := 134) rfl ?_
  refine g_runS F (rest := [.int (nI b), .ref (ad 0)]) (ct_X2_above hE 6 (by first | assumption | omega)) (lw_S q1991 q1992 q102 q1993) hcS_X2_above ⟨Nat.le_of_ble_eq_true rfl, Nat.le_of_ble_eq_true rfl⟩ rfl rfl (Nat.le_of_ble_eq_true rfl) dX2_buildsBy_134 ⟨Nat.le_of_ble_eq_true rfl, Nat.le_of_ble_eq_true rfl⟩ (np := 137) rfl (k_RI ?_)
  refine WG.eqv (st' := [.int (nI 0), .int (nI b), .ref (ad 0)]) (congrArg (fun z => ([.int z, .int (nI b), .ref (ad 0)] : List Value)) (show (nI (abv 6)) = (nI 0) from by rfl)) rfl ?_
  refine g_iload_n F dX2_buildsBy_137 rfl rfl (np := 138) rfl ?_
  refine g_runV F (C := RX2) (ci := 2) (T0 := TX2) (N := 42) (rest := []) (ct_X2_buildsBy_0 hE σ kd b x (by first | assumption | (first | omega | (rw [logS_36]; simp only [List.length_append, List.length_cons, List.length_nil]; have q1 := swL_len kd; have q2 := faL_len kd kd; have q3 := buL_len kd kd; have q4 := buL_len kd 4; have q5 := faL_len kd 1; omega)) | exact hek) (by first | assumption | (first | omega | (rw [logS_36]; simp only [List.length_append, List.length_cons, List.length_nil]; have q1 := swL_len kd; have q2 := faL_len kd kd; have q3 := buL_len kd kd; have q4 := buL_len kd 4; have q5 := faL_len kd 1; omega)) | exact hek) (by first | assumption | (first | omega | (rw [logS_36]; simp only [List.length_append, List.length_cons, List.length_nil]; have q1 := swL_len kd; have q2 := faL_len kd kd; have q3 := buL_len kd kd; have q4 := buL_len kd 4; have q5 := faL_len kd 1; omega)) | exact hek) (by first | assumption | (first | omega | (rw [logS_36]; simp only [List.length_append, List.length_cons, List.length_nil]; have q1 := swL_len kd; have q2 := faL_len kd kd; have q3 := buL_len kd kd; have q4 := buL_len kd 4; have q5 := faL_len kd 1; omega)) | exact hek)) (lw_V q1994 q1996 qs95 q102 q1997) hcV_X2_buildsBy ⟨Nat.le_of_ble_eq_true rfl, Nat.le_of_ble_eq_true rfl⟩ rfl (fun h hs => hs.obj) rfl rfl (Nat.le_of_ble_eq_true rfl) dX2_buildsBy_138 ⟨Nat.le_of_ble_eq_true rfl, Nat.le_of_ble_eq_true rfl⟩ (np := 141) rfl (k_RI ?_)
  have hσ : (logS σ (buL kd 0)) = (logS σ (buL kd 6)) := by rfl
  have hv : buV kd 0 b x = buV kd 6 b x := by rfl
  exact g_iret F hr rfl (Nat.le_of_ble_eq_true rfl) (Nat.le_of_ble_eq_true rfl) dX2_buildsBy_141 (fun h hs => by rw [← hT]; exact ⟨congrArg (fun z => some (Value.int z)) hv, (hσ ▸ hs)⟩)

set_option maxRecDepth 100000 in
theorem ct_X2_buildsBy_3 {l : Launch} {D : va_G} {E : State → Prop} {B : Nat} (hE : Stab E) {ad : Nat → Nat} {h0 : AH} (σ : MSt) (kd : Nat) (b : Nat) (x : Int32) (hb : b < 50) (hkd : kd ≤ 7) (hek : σ.2.1 35 b = nI kd) (htr : σ.1 36 ≤ 1978) : Ct l D E B yX2_buildsBy cX2_buildsBy 5 (some .int) 7 161 0 0 [.ref (ad 0), .int (nI b), .int (nI 3), .int x] (MH D ad h0 σ) (RI (buV kd 3 b x) (MH D ad h0 (logS σ (buL kd 3)))) := by
  refine Ct.of (nL := 5) (lv := [some (.ref (ad 0)), some (.int (nI b)), some (.int (nI 3)), some (.int x), none]) (by decide) (Nat.le_of_ble_eq_true rfl) hE 1 rfl ?_
  generalize hT : RI (buV kd 3 b x) (MH D ad h0 (logS σ (buL kd 3))) = T
  intro zp ze zs zm zb zt zc F hr hnm
  generalize ([.ref (ad 0), .int (nI b), .int (nI 3), .int x] : List Value).toArray = za at F ⊢
  refine g_iload_n F dX2_buildsBy_0 rfl rfl (np := 1) rfl ?_
  refine g_tabIn F (x := (nI (3))) (v := 3) rfl (lo := 0) dX2_buildsBy_1 (j := 3) (by decide) (by decide) (by decide) rfl (np := 84) (by decide) ?_
  refine g_aload_n F dX2_buildsBy_84 rfl rfl (np := 85) rfl ?_
  refine g_bipush F (v := (nI 41)) dX2_buildsBy_85 (by decide) (np := 87) rfl ?_
  refine g_runV F (C := RX2) (ci := 2) (T0 := TX2) (N := 42) (rest := []) (ct_X2_ran hE σ 41 (by first | assumption | omega)) (lw_V q1987 q1989 qs94 q102 q1990) hcV_X2_ran ⟨Nat.le_of_ble_eq_true rfl, Nat.le_of_ble_eq_true rfl⟩ rfl (fun h hs => hs.obj) rfl rfl (Nat.le_of_ble_eq_true rfl) dX2_buildsBy_87 ⟨Nat.le_of_ble_eq_true rfl, Nat.le_of_ble_eq_true rfl⟩ (np := 90) rfl (k_RV ?_)
  refine g_aload_n F dX2_buildsBy_90 rfl rfl (np := 91) rfl ?_
  refine g_iload_n F dX2_buildsBy_91 rfl rfl (np := 92) rfl ?_
  refine g_iconst F (v := (nI 2)) dX2_buildsBy_92 (by decide) (np := 93) rfl ?_
  refine g_iload_n F dX2_buildsBy_93 rfl rfl (np := 94) rfl ?_
  refine g_iconst F (v := (nI 1)) dX2_buildsBy_94 (by decide) (np := 95) rfl ?_
  refine g_iadd F dX2_buildsBy_95 (np := 96) rfl ?_
  refine g_runV F (C := RX2) (ci := 2) (T0 := TX2) (N := 42) (rest := []) (ct_X2_buildsBy_2 hE (logS σ [41]) kd b (x + (nI (1))) (by first | assumption | (first | omega | (rw [logS_36]; simp only [List.length_append, List.length_cons, List.length_nil]; have q1 := swL_len kd; have q2 := faL_len kd kd; have q3 := buL_len kd kd; have q4 := buL_len kd 4; have q5 := faL_len kd 1; omega)) | exact hek) (by first | assumption | (first | omega | (rw [logS_36]; simp only [List.length_append, List.length_cons, List.length_nil]; have q1 := swL_len kd; have q2 := faL_len kd kd; have q3 := buL_len kd kd; have q4 := buL_len kd 4; have q5 := faL_len kd 1; omega)) | exact hek) (by first | assumption | (first | omega | (rw [logS_36]; simp only [List.length_append, List.length_cons, List.length_nil]; have q1 := swL_len kd; have q2 := faL_len kd kd; have q3 := buL_len kd kd; have q4 := buL_len kd 4; have q5 := faL_len kd 1; omega)) | exact hek) (by first | assumption | (first | omega | (rw [logS_36]; simp only [List.length_append, List.length_cons, List.length_nil]; have q1 := swL_len kd; have q2 := faL_len kd kd; have q3 := buL_len kd kd; have q4 := buL_len kd 4; have q5 := faL_len kd 1; omega)) | exact hek)) (lw_V q1994 q1996 qs95 q102 q1997) hcV_X2_buildsBy ⟨Nat.le_of_ble_eq_true rfl, Nat.le_of_ble_eq_true rfl⟩ rfl (fun h hs => hs.obj) rfl rfl (Nat.le_of_ble_eq_true rfl) dX2_buildsBy_96 ⟨Nat.le_of_ble_eq_true rfl, Nat.le_of_ble_eq_true rfl⟩ (np := 99) rfl (k_RI ?_)
  refine WG.weak (S' := MH D ad h0 (logS σ ([41] ++ (buL kd 2)))) (fun h hs => by rw [← logS_app]; exact hs) ?_
  have hσ : (logS σ ([41] ++ (buL kd 2))) = (logS σ (buL kd 3)) := by rfl
  have hv : buV kd 2 b (x + (nI (1))) = buV kd 3 b x := by rfl
  exact g_iret F hr rfl (Nat.le_of_ble_eq_true rfl) (Nat.le_of_ble_eq_true rfl) dX2_buildsBy_99 (fun h hs => by rw [← hT]; exact ⟨congrArg (fun z => some (Value.int z)) hv, (hσ ▸ hs)⟩)

set_option maxRecDepth 100000 in
theorem ct_X2_buildsBy_4 {l : Launch} {D : va_G} {E : State → Prop} {B : Nat} (hE : Stab E) {ad : Nat → Nat} {h0 : AH} (σ : MSt) (kd : Nat) (b : Nat) (x : Int32) (hb : b < 50) (hkd : kd ≤ 7) (hek : σ.2.1 35 b = nI kd) (htr : σ.1 36 ≤ 1980) : Ct l D E B yX2_buildsBy cX2_buildsBy 5 (some .int) 7 161 0 0 [.ref (ad 0), .int (nI b), .int (nI 4), .int x] (MH D ad h0 σ) (RI (buV kd 4 b x) (MH D ad h0 (logS σ (buL kd 4)))) := by
  refine Ct.of (nL := 5) (lv := [some (.ref (ad 0)), some (.int (nI b)), some (.int (nI 4)), some (.int x), none]) (by decide) (Nat.le_of_ble_eq_true rfl) hE 1 rfl ?_
  generalize hT : RI (buV kd 4 b x) (MH D ad h0 (logS σ (buL kd 4))) = T
  intro zp ze zs zm zb zt zc F hr hnm
  generalize ([.ref (ad 0), .int (nI b), .int (nI 4), .int x] : List Value).toArray = za at F ⊢
  refine g_iload_n F dX2_buildsBy_0 rfl rfl (np := 1) rfl ?_
  refine g_tabIn F (x := (nI (4))) (v := 4) rfl (lo := 0) dX2_buildsBy_1 (j := 4) (by decide) (by decide) (by decide) rfl (np := 131) (by decide) ?_
  refine g_aload_n F dX2_buildsBy_131 rfl rfl (np := 132) rfl ?_
  refine g_iload_n F dX2_buildsBy_132 rfl rfl (np := 133) rfl ?_
  refine g_iload_n F dX2_buildsBy_133 rfl rfl (np := 134) rfl ?_
  refine g_runS F (rest := [.int (nI b), .ref (ad 0)]) (ct_X2_above hE 4 (by first | assumption | omega)) (lw_S q1991 q1992 q102 q1993) hcS_X2_above ⟨Nat.le_of_ble_eq_true rfl, Nat.le_of_ble_eq_true rfl⟩ rfl rfl (Nat.le_of_ble_eq_true rfl) dX2_buildsBy_134 ⟨Nat.le_of_ble_eq_true rfl, Nat.le_of_ble_eq_true rfl⟩ (np := 137) rfl (k_RI ?_)
  refine WG.eqv (st' := [.int (nI 1), .int (nI b), .ref (ad 0)]) (congrArg (fun z => ([.int z, .int (nI b), .ref (ad 0)] : List Value)) (show (nI (abv 4)) = (nI 1) from by rfl)) rfl ?_
  refine g_iload_n F dX2_buildsBy_137 rfl rfl (np := 138) rfl ?_
  refine g_runV F (C := RX2) (ci := 2) (T0 := TX2) (N := 42) (rest := []) (ct_X2_buildsBy_1 hE σ kd b x (by first | assumption | (first | omega | (rw [logS_36]; simp only [List.length_append, List.length_cons, List.length_nil]; have q1 := swL_len kd; have q2 := faL_len kd kd; have q3 := buL_len kd kd; have q4 := buL_len kd 4; have q5 := faL_len kd 1; omega)) | exact hek) (by first | assumption | (first | omega | (rw [logS_36]; simp only [List.length_append, List.length_cons, List.length_nil]; have q1 := swL_len kd; have q2 := faL_len kd kd; have q3 := buL_len kd kd; have q4 := buL_len kd 4; have q5 := faL_len kd 1; omega)) | exact hek) (by first | assumption | (first | omega | (rw [logS_36]; simp only [List.length_append, List.length_cons, List.length_nil]; have q1 := swL_len kd; have q2 := faL_len kd kd; have q3 := buL_len kd kd; have q4 := buL_len kd 4; have q5 := faL_len kd 1; omega)) | exact hek) (by first | assumption | (first | omega | (rw [logS_36]; simp only [List.length_append, List.length_cons, List.length_nil]; have q1 := swL_len kd; have q2 := faL_len kd kd; have q3 := buL_len kd kd; have q4 := buL_len kd 4; have q5 := faL_len kd 1; omega)) | exact hek)) (lw_V q1994 q1996 qs95 q102 q1997) hcV_X2_buildsBy ⟨Nat.le_of_ble_eq_true rfl, Nat.le_of_ble_eq_true rfl⟩ rfl (fun h hs => hs.obj) rfl rfl (Nat.le_of_ble_eq_true rfl) dX2_buildsBy_138 ⟨Nat.le_of_ble_eq_true rfl, Nat.le_of_ble_eq_true rfl⟩ (np := 141) rfl (k_RI ?_)
  have hσ : (logS σ (buL kd 1)) = (logS σ (buL kd 4)) := by rfl
  have hv : buV kd 1 b x = buV kd 4 b x := by rfl
  exact g_iret F hr rfl (Nat.le_of_ble_eq_true rfl) (Nat.le_of_ble_eq_true rfl) dX2_buildsBy_141 (fun h hs => by rw [← hT]; exact ⟨congrArg (fun z => some (Value.int z)) hv, (hσ ▸ hs)⟩)

set_option maxRecDepth 100000 in
theorem ct_X2_buildsBy_5 {l : Launch} {D : va_G} {E : State → Prop} {B : Nat} (hE : Stab E) {ad : Nat → Nat} {h0 : AH} (σ : MSt) (kd : Nat) (b : Nat) (x : Int32) (hb : b < 50) (hkd : kd ≤ 7) (hek : σ.2.1 35 b = nI kd) (htr : σ.1 36 ≤ 1978) : Ct l D E B yX2_buildsBy cX2_buildsBy 5 (some .int) 8 185 0 0 [.ref (ad 0), .int (nI b), .int (nI 5), .int x] (MH D ad h0 σ) (RI (buV kd 5 b x) (MH D ad h0 (logS σ (buL kd 5)))) := by
  refine Ct.of (nL := 5) (lv := [some (.ref (ad 0)), some (.int (nI b)), some (.int (nI 5)), some (.int x), none]) (by decide) (Nat.le_of_ble_eq_true rfl) hE 1 rfl ?_
  generalize hT : RI (buV kd 5 b x) (MH D ad h0 (logS σ (buL kd 5))) = T
  intro zp ze zs zm zb zt zc F hr hnm
  generalize ([.ref (ad 0), .int (nI b), .int (nI 5), .int x] : List Value).toArray = za at F ⊢
  refine g_iload_n F dX2_buildsBy_0 rfl rfl (np := 1) rfl ?_
  refine g_tabIn F (x := (nI (5))) (v := 5) rfl (lo := 0) dX2_buildsBy_1 (j := 5) (by decide) (by decide) (by decide) rfl (np := 131) (by decide) ?_
  refine g_aload_n F dX2_buildsBy_131 rfl rfl (np := 132) rfl ?_
  refine g_iload_n F dX2_buildsBy_132 rfl rfl (np := 133) rfl ?_
  refine g_iload_n F dX2_buildsBy_133 rfl rfl (np := 134) rfl ?_
  refine g_runS F (rest := [.int (nI b), .ref (ad 0)]) (ct_X2_above hE 5 (by first | assumption | omega)) (lw_S q1991 q1992 q102 q1993) hcS_X2_above ⟨Nat.le_of_ble_eq_true rfl, Nat.le_of_ble_eq_true rfl⟩ rfl rfl (Nat.le_of_ble_eq_true rfl) dX2_buildsBy_134 ⟨Nat.le_of_ble_eq_true rfl, Nat.le_of_ble_eq_true rfl⟩ (np := 137) rfl (k_RI ?_)
  refine WG.eqv (st' := [.int (nI 3), .int (nI b), .ref (ad 0)]) (congrArg (fun z => ([.int z, .int (nI b), .ref (ad 0)] : List Value)) (show (nI (abv 5)) = (nI 3) from by rfl)) rfl ?_
  refine g_iload_n F dX2_buildsBy_137 rfl rfl (np := 138) rfl ?_
  refine g_runV F (C := RX2) (ci := 2) (T0 := TX2) (N := 42) (rest := []) (ct_X2_buildsBy_3 hE σ kd b x (by first | assumption | (first | omega | (rw [logS_36]; simp only [List.length_append, List.length_cons, List.length_nil]; have q1 := swL_len kd; have q2 := faL_len kd kd; have q3 := buL_len kd kd; have q4 := buL_len kd 4; have q5 := faL_len kd 1; omega)) | exact hek) (by first | assumption | (first | omega | (rw [logS_36]; simp only [List.length_append, List.length_cons, List.length_nil]; have q1 := swL_len kd; have q2 := faL_len kd kd; have q3 := buL_len kd kd; have q4 := buL_len kd 4; have q5 := faL_len kd 1; omega)) | exact hek) (by first | assumption | (first | omega | (rw [logS_36]; simp only [List.length_append, List.length_cons, List.length_nil]; have q1 := swL_len kd; have q2 := faL_len kd kd; have q3 := buL_len kd kd; have q4 := buL_len kd 4; have q5 := faL_len kd 1; omega)) | exact hek) (by first | assumption | (first | omega | (rw [logS_36]; simp only [List.length_append, List.length_cons, List.length_nil]; have q1 := swL_len kd; have q2 := faL_len kd kd; have q3 := buL_len kd kd; have q4 := buL_len kd 4; have q5 := faL_len kd 1; omega)) | exact hek)) (lw_V q1994 q1996 qs95 q102 q1997) hcV_X2_buildsBy ⟨Nat.le_of_ble_eq_true rfl, Nat.le_of_ble_eq_true rfl⟩ rfl (fun h hs => hs.obj) rfl rfl (Nat.le_of_ble_eq_true rfl) dX2_buildsBy_138 ⟨Nat.le_of_ble_eq_true rfl, Nat.le_of_ble_eq_true rfl⟩ (np := 141) rfl (k_RI ?_)
  have hσ : (logS σ (buL kd 3)) = (logS σ (buL kd 5)) := by rfl
  have hv : buV kd 3 b x = buV kd 5 b x := by rfl
  exact g_iret F hr rfl (Nat.le_of_ble_eq_true rfl) (Nat.le_of_ble_eq_true rfl) dX2_buildsBy_141 (fun h hs => by rw [← hT]; exact ⟨congrArg (fun z => some (Value.int z)) hv, (hσ ▸ hs)⟩)

set_option maxRecDepth 100000 in
theorem ct_X2_buildsBy_7 {l : Launch} {D : va_G} {E : State → Prop} {B : Nat} (hE : Stab E) {ad : Nat → Nat} {h0 : AH} (σ : MSt) (kd : Nat) (b : Nat) (x : Int32) (hb : b < 50) (hkd : kd ≤ 7) (hek : σ.2.1 35 b = nI kd) (htr : σ.1 36 ≤ 1900) : Ct l D E B yX2_buildsBy cX2_buildsBy 5 (some .int) 8 185 0 0 [.ref (ad 0), .int (nI b), .int (nI 7), .int x] (MH D ad h0 σ) (RI (buV kd 7 b x) (MH D ad h0 (logS σ (buL kd 7)))) := by
  refine Ct.of (nL := 5) (lv := [some (.ref (ad 0)), some (.int (nI b)), some (.int (nI 7)), some (.int x), none]) (by decide) (Nat.le_of_ble_eq_true rfl) hE 1 rfl ?_
  generalize hT : RI (buV kd 7 b x) (MH D ad h0 (logS σ (buL kd 7))) = T
  intro zp ze zs zm zb zt zc F hr hnm
  generalize ([.ref (ad 0), .int (nI b), .int (nI 7), .int x] : List Value).toArray = za at F ⊢
  refine g_iload_n F dX2_buildsBy_0 rfl rfl (np := 1) rfl ?_
  refine g_tabIn F (x := (nI (7))) (v := 7) rfl (lo := 0) dX2_buildsBy_1 (j := 7) (by decide) (by decide) (by decide) rfl (np := 100) (by decide) ?_
  refine g_aload_n F dX2_buildsBy_100 rfl rfl (np := 101) rfl ?_
  refine g_bipush F (v := (nI 80)) dX2_buildsBy_101 (by decide) (np := 103) rfl ?_
  refine g_runV F (C := RX2) (ci := 2) (T0 := TX2) (N := 42) (rest := []) (ct_X2_ran hE σ 80 (by first | assumption | omega)) (lw_V q1987 q1989 qs94 q102 q1990) hcV_X2_ran ⟨Nat.le_of_ble_eq_true rfl, Nat.le_of_ble_eq_true rfl⟩ rfl (fun h hs => hs.obj) rfl rfl (Nat.le_of_ble_eq_true rfl) dX2_buildsBy_103 ⟨Nat.le_of_ble_eq_true rfl, Nat.le_of_ble_eq_true rfl⟩ (np := 106) rfl (k_RV ?_)
  refine g_aload_n F dX2_buildsBy_106 rfl rfl (np := 107) rfl ?_
  refine g_iload_n F dX2_buildsBy_107 rfl rfl (np := 108) rfl ?_
  refine g_iconst F (v := (nI 4)) dX2_buildsBy_108 (by decide) (np := 109) rfl ?_
  refine g_iload_n F dX2_buildsBy_109 rfl rfl (np := 110) rfl ?_
  refine g_runV F (C := RX2) (ci := 2) (T0 := TX2) (N := 42) (rest := []) (ct_X2_buildsBy_4 hE (logS σ [80]) kd b x (by first | assumption | (first | omega | (rw [logS_36]; simp only [List.length_append, List.length_cons, List.length_nil]; have q1 := swL_len kd; have q2 := faL_len kd kd; have q3 := buL_len kd kd; have q4 := buL_len kd 4; have q5 := faL_len kd 1; omega)) | exact hek) (by first | assumption | (first | omega | (rw [logS_36]; simp only [List.length_append, List.length_cons, List.length_nil]; have q1 := swL_len kd; have q2 := faL_len kd kd; have q3 := buL_len kd kd; have q4 := buL_len kd 4; have q5 := faL_len kd 1; omega)) | exact hek) (by first | assumption | (first | omega | (rw [logS_36]; simp only [List.length_append, List.length_cons, List.length_nil]; have q1 := swL_len kd; have q2 := faL_len kd kd; have q3 := buL_len kd kd; have q4 := buL_len kd 4; have q5 := faL_len kd 1; omega)) | exact hek) (by first | assumption | (first | omega | (rw [logS_36]; simp only [List.length_append, List.length_cons, List.length_nil]; have q1 := swL_len kd; have q2 := faL_len kd kd; have q3 := buL_len kd kd; have q4 := buL_len kd 4; have q5 := faL_len kd 1; omega)) | exact hek)) (lw_V q1994 q1996 qs95 q102 q1997) hcV_X2_buildsBy ⟨Nat.le_of_ble_eq_true rfl, Nat.le_of_ble_eq_true rfl⟩ rfl (fun h hs => hs.obj) rfl rfl (Nat.le_of_ble_eq_true rfl) dX2_buildsBy_110 ⟨Nat.le_of_ble_eq_true rfl, Nat.le_of_ble_eq_true rfl⟩ (np := 113) rfl (k_RI ?_)
  refine WG.weak (S' := MH D ad h0 (logS σ ([80] ++ (buL kd 4)))) (fun h hs => by rw [← logS_app]; exact hs) ?_
  refine g_istore F (lv' := [some (.ref (ad 0)), some (.int (nI b)), some (.int (nI 7)), some (.int x), some (.int (buV kd 4 b x))]) dX2_buildsBy_113 (by decide) rfl rfl (np := 115) rfl ?_
  refine g_iload F dX2_buildsBy_115 rfl (np := 117) rfl ?_
  refine g_aload_n F dX2_buildsBy_117 rfl rfl (np := 118) rfl ?_
  refine g_iload_n F dX2_buildsBy_118 rfl rfl (np := 119) rfl ?_
  refine g_aload_n F dX2_buildsBy_119 rfl rfl (np := 120) rfl ?_
  refine h_get F (k := 35) (v := .ref (ad 35)) (by decide) rfl q1581 dX2_buildsBy_120 (np := 123) rfl ?_
  refine g_iload_n F dX2_buildsBy_123 rfl rfl (np := 124) rfl ?_
  refine h_ald F (k := 35) (i := b) (L := 50) (v := nI kd) rfl rfl (by decide) (by omega) rfl (show σ.2.1 35 b = nI kd from by exact hek) dX2_buildsBy_124 (by decide) (by decide) (np := 125) rfl ?_
  refine WG.eqv (st' := [.int (nI kd), .int (nI b), .ref (ad 0), .int (buV kd 4 b x)]) (congrArg (fun z => ([.int z, .int (nI b), .ref (ad 0), .int (buV kd 4 b x)] : List Value)) (show (nI kd) = (nI kd) from by rfl)) rfl ?_
  refine g_iconst F (v := (nI 2)) dX2_buildsBy_125 (by decide) (np := 126) rfl ?_
  refine g_runV F (C := RX2) (ci := 2) (T0 := TX2) (N := 42) (rest := [.int (buV kd 4 b x)]) (ct_X2_fallsBy hE (logS σ ([80] ++ (buL kd 4))) kd b kd (nI (2)) (by first | assumption | (first | omega | (rw [logS_36]; simp only [List.length_append, List.length_cons, List.length_nil]; have q1 := swL_len kd; have q2 := faL_len kd kd; have q3 := buL_len kd kd; have q4 := buL_len kd 4; have q5 := faL_len kd 1; omega)) | exact hek) (by first | assumption | (first | omega | (rw [logS_36]; simp only [List.length_append, List.length_cons, List.length_nil]; have q1 := swL_len kd; have q2 := faL_len kd kd; have q3 := buL_len kd kd; have q4 := buL_len kd 4; have q5 := faL_len kd 1; omega)) | exact hek) (by first | assumption | (first | omega | (rw [logS_36]; simp only [List.length_append, List.length_cons, List.length_nil]; have q1 := swL_len kd; have q2 := faL_len kd kd; have q3 := buL_len kd kd; have q4 := buL_len kd 4; have q5 := faL_len kd 1; omega)) | exact hek) (by first | assumption | (first | omega | (rw [logS_36]; simp only [List.length_append, List.length_cons, List.length_nil]; have q1 := swL_len kd; have q2 := faL_len kd kd; have q3 := buL_len kd kd; have q4 := buL_len kd 4; have q5 := faL_len kd 1; omega)) | exact hek) (by first | assumption | (first | omega | (rw [logS_36]; simp only [List.length_append, List.length_cons, List.length_nil]; have q1 := swL_len kd; have q2 := faL_len kd kd; have q3 := buL_len kd kd; have q4 := buL_len kd 4; have q5 := faL_len kd 1; omega)) | exact hek)) (lw_V q1998 q2000 qs96 q102 q2001) hcV_X2_fallsBy ⟨Nat.le_of_ble_eq_true rfl, Nat.le_of_ble_eq_true rfl⟩ rfl (fun h hs => hs.obj) rfl rfl (Nat.le_of_ble_eq_true rfl) dX2_buildsBy_126 ⟨Nat.le_of_ble_eq_true rfl, Nat.le_of_ble_eq_true rfl⟩ (np := 129) rfl (k_RI ?_)
  refine WG.weak (S' := MH D ad h0 (logS σ (([80] ++ (buL kd 4)) ++ (faL kd kd)))) (fun h hs => by rw [← logS_app]; exact hs) ?_
  refine g_iadd F dX2_buildsBy_129 (np := 130) rfl ?_
  have hσ : (logS σ (([80] ++ (buL kd 4)) ++ (faL kd kd))) = (logS σ (buL kd 7)) := by rfl
  have hv : (buV kd 4 b x) + (faV kd kd b (nI (2))) = buV kd 7 b x := by rfl
  exact g_iret F hr rfl (Nat.le_of_ble_eq_true rfl) (Nat.le_of_ble_eq_true rfl) dX2_buildsBy_130 (fun h hs => by rw [← hT]; exact ⟨congrArg (fun z => some (Value.int z)) hv, (hσ ▸ hs)⟩)

theorem ct_X2_buildsBy {l : Launch} {D : va_G} {E : State → Prop} {B : Nat} (hE : Stab E) {ad : Nat → Nat} {h0 : AH} (σ : MSt) (kd : Nat) (b k : Nat) (x : Int32) (hk : k ≤ 7) (hb : b < 50) (hkd : kd ≤ 7) (hek : σ.2.1 35 b = nI kd) (htr : σ.1 36 ≤ 1900) : Ct l D E B yX2_buildsBy cX2_buildsBy 5 (some .int) 8 185 0 0 [.ref (ad 0), .int (nI b), .int (nI k), .int x] (MH D ad h0 σ) (RI (buV kd k b x) (MH D ad h0 (logS σ (buL kd k)))) :=
  all8 (P := fun k => Ct l D E B yX2_buildsBy cX2_buildsBy 5 (some .int) 8 185 0 0 [.ref (ad 0), .int (nI b), .int (nI k), .int x] (MH D ad h0 σ) (RI (buV kd k b x) (MH D ad h0 (logS σ (buL kd k))))) hk ((ct_X2_buildsBy_0 hE σ kd b x hb hkd hek (by omega)).up (Nat.le_of_ble_eq_true rfl) (Nat.le_of_ble_eq_true rfl)) ((ct_X2_buildsBy_1 hE σ kd b x hb hkd hek (by omega)).up (Nat.le_of_ble_eq_true rfl) (Nat.le_of_ble_eq_true rfl)) ((ct_X2_buildsBy_2 hE σ kd b x hb hkd hek (by omega)).up (Nat.le_of_ble_eq_true rfl) (Nat.le_of_ble_eq_true rfl)) ((ct_X2_buildsBy_3 hE σ kd b x hb hkd hek (by omega)).up (Nat.le_of_ble_eq_true rfl) (Nat.le_of_ble_eq_true rfl)) ((ct_X2_buildsBy_4 hE σ kd b x hb hkd hek (by omega)).up (Nat.le_of_ble_eq_true rfl) (Nat.le_of_ble_eq_true rfl)) ((ct_X2_buildsBy_5 hE σ kd b x hb hkd hek (by omega)).up (Nat.le_of_ble_eq_true rfl) (Nat.le_of_ble_eq_true rfl)) ((ct_X2_buildsBy_6 hE σ kd b x hb hkd hek (by omega)).up (Nat.le_of_ble_eq_true rfl) (Nat.le_of_ble_eq_true rfl)) ((ct_X2_buildsBy_7 hE σ kd b x hb hkd hek (by omega)).up (Nat.le_of_ble_eq_true rfl) (Nat.le_of_ble_eq_true rfl))

set_option maxRecDepth 100000 in
theorem ct_X2_tells_0 {l : Launch} {D : va_G} {E : State → Prop} {B : Nat} (hE : Stab E) {ad : Nat → Nat} {h0 : AH} (σ : MSt) (kd : Nat) (b : Nat) (x : Int32) (hb : b < 50) (hkd : kd ≤ 7) (hek : σ.2.1 35 b = nI kd) (htr : σ.1 36 ≤ 1800) : Ct l D E B yX2_tells cX2_tells 5 (some .int) 9 209 0 0 [.ref (ad 0), .int (nI b), .int (nI 0), .int x] (MH D ad h0 σ) (RI (teV kd 0 b x) (MH D ad h0 (logS σ (teL kd 0)))) := by
  refine Ct.of (nL := 5) (lv := [some (.ref (ad 0)), some (.int (nI b)), some (.int (nI 0)), some (.int x), none]) (by decide) (Nat.le_of_ble_eq_true rfl) hE 1 rfl ?_
  generalize hT : RI (teV kd 0 b x) (MH D ad h0 (logS σ (teL kd 0))) = T
  intro zp ze zs zm zb zt zc F hr hnm
  generalize ([.ref (ad 0), .int (nI b), .int (nI 0), .int x] : List Value).toArray = za at F ⊢
  refine g_iload_n F dX2_tells_0 rfl rfl (np := 1) rfl ?_
  refine g_lookup F (x := (nI (0))) dX2_tells_1 (by decide) (off := 35) (by decide) (np := 36) (by decide) ?_
  refine g_aload_n F dX2_tells_36 rfl rfl (np := 37) rfl ?_
  refine g_iconst F (v := (nI 2)) dX2_tells_37 (by decide) (np := 38) rfl ?_
  refine g_runV F (C := RX2) (ci := 2) (T0 := TX2) (N := 42) (rest := []) (ct_X2_ran hE σ 2 (by first | assumption | omega)) (lw_V q1987 q1989 qs94 q102 q1990) hcV_X2_ran ⟨Nat.le_of_ble_eq_true rfl, Nat.le_of_ble_eq_true rfl⟩ rfl (fun h hs => hs.obj) rfl rfl (Nat.le_of_ble_eq_true rfl) dX2_tells_38 ⟨Nat.le_of_ble_eq_true rfl, Nat.le_of_ble_eq_true rfl⟩ (np := 41) rfl (k_RV ?_)
  refine g_aload_n F dX2_tells_41 rfl rfl (np := 42) rfl ?_
  refine g_iload_n F dX2_tells_42 rfl rfl (np := 43) rfl ?_
  refine g_aload_n F dX2_tells_43 rfl rfl (np := 44) rfl ?_
  refine h_get F (k := 35) (v := .ref (ad 35)) (by decide) rfl q1581 dX2_tells_44 (np := 47) rfl ?_
  refine g_iload_n F dX2_tells_47 rfl rfl (np := 48) rfl ?_
  refine h_ald F (k := 35) (i := b) (L := 50) (v := nI kd) rfl rfl (by decide) (by omega) rfl (show σ.2.1 35 b = nI kd from by exact hek) dX2_tells_48 (by decide) (by decide) (np := 49) rfl ?_
  refine WG.eqv (st' := [.int (nI kd), .int (nI b), .ref (ad 0)]) (congrArg (fun z => ([.int z, .int (nI b), .ref (ad 0)] : List Value)) (show (nI kd) = (nI kd) from by rfl)) rfl ?_
  refine g_iload_n F dX2_tells_49 rfl rfl (np := 50) rfl ?_
  refine g_runV F (C := RX2) (ci := 2) (T0 := TX2) (N := 42) (rest := []) (ct_X2_buildsBy hE (logS σ [2]) kd b kd x (by first | assumption | (first | omega | (rw [logS_36]; simp only [List.length_append, List.length_cons, List.length_nil]; have q1 := swL_len kd; have q2 := faL_len kd kd; have q3 := buL_len kd kd; have q4 := buL_len kd 4; have q5 := faL_len kd 1; omega)) | exact hek) (by first | assumption | (first | omega | (rw [logS_36]; simp only [List.length_append, List.length_cons, List.length_nil]; have q1 := swL_len kd; have q2 := faL_len kd kd; have q3 := buL_len kd kd; have q4 := buL_len kd 4; have q5 := faL_len kd 1; omega)) | exact hek) (by first | assumption | (first | omega | (rw [logS_36]; simp only [List.length_append, List.length_cons, List.length_nil]; have q1 := swL_len kd; have q2 := faL_len kd kd; have q3 := buL_len kd kd; have q4 := buL_len kd 4; have q5 := faL_len kd 1; omega)) | exact hek) (by first | assumption | (first | omega | (rw [logS_36]; simp only [List.length_append, List.length_cons, List.length_nil]; have q1 := swL_len kd; have q2 := faL_len kd kd; have q3 := buL_len kd kd; have q4 := buL_len kd 4; have q5 := faL_len kd 1; omega)) | exact hek) (by first | assumption | (first | omega | (rw [logS_36]; simp only [List.length_append, List.length_cons, List.length_nil]; have q1 := swL_len kd; have q2 := faL_len kd kd; have q3 := buL_len kd kd; have q4 := buL_len kd 4; have q5 := faL_len kd 1; omega)) | exact hek)) (lw_V q1994 q1996 qs95 q102 q1997) hcV_X2_buildsBy ⟨Nat.le_of_ble_eq_true rfl, Nat.le_of_ble_eq_true rfl⟩ rfl (fun h hs => hs.obj) rfl rfl (Nat.le_of_ble_eq_true rfl) dX2_tells_50 ⟨Nat.le_of_ble_eq_true rfl, Nat.le_of_ble_eq_true rfl⟩ (np := 53) rfl (k_RI ?_)
  refine WG.weak (S' := MH D ad h0 (logS σ ([2] ++ (buL kd kd)))) (fun h hs => by rw [← logS_app]; exact hs) ?_
  refine g_istore F (lv' := [some (.ref (ad 0)), some (.int (nI b)), some (.int (nI 0)), some (.int x), some (.int (buV kd kd b x))]) dX2_tells_53 (by decide) rfl rfl (np := 55) rfl ?_
  refine g_iload F dX2_tells_55 rfl (np := 57) rfl ?_
  refine g_aload_n F dX2_tells_57 rfl rfl (np := 58) rfl ?_
  refine g_iload_n F dX2_tells_58 rfl rfl (np := 59) rfl ?_
  refine g_aload_n F dX2_tells_59 rfl rfl (np := 60) rfl ?_
  refine h_get F (k := 35) (v := .ref (ad 35)) (by decide) rfl q1581 dX2_tells_60 (np := 63) rfl ?_
  refine g_iload_n F dX2_tells_63 rfl rfl (np := 64) rfl ?_
  refine h_ald F (k := 35) (i := b) (L := 50) (v := nI kd) rfl rfl (by decide) (by omega) rfl (show σ.2.1 35 b = nI kd from by exact hek) dX2_tells_64 (by decide) (by decide) (np := 65) rfl ?_
  refine WG.eqv (st' := [.int (nI kd), .int (nI b), .ref (ad 0), .int (buV kd kd b x)]) (congrArg (fun z => ([.int z, .int (nI b), .ref (ad 0), .int (buV kd kd b x)] : List Value)) (show (nI kd) = (nI kd) from by rfl)) rfl ?_
  refine g_iconst F (v := (nI 1)) dX2_tells_65 (by decide) (np := 66) rfl ?_
  refine g_runV F (C := RX2) (ci := 2) (T0 := TX2) (N := 42) (rest := [.int (buV kd kd b x)]) (ct_X2_fallsBy hE (logS σ ([2] ++ (buL kd kd))) kd b kd (nI (1)) (by first | assumption | (first | omega | (rw [logS_36]; simp only [List.length_append, List.length_cons, List.length_nil]; have q1 := swL_len kd; have q2 := faL_len kd kd; have q3 := buL_len kd kd; have q4 := buL_len kd 4; have q5 := faL_len kd 1; omega)) | exact hek) (by first | assumption | (first | omega | (rw [logS_36]; simp only [List.length_append, List.length_cons, List.length_nil]; have q1 := swL_len kd; have q2 := faL_len kd kd; have q3 := buL_len kd kd; have q4 := buL_len kd 4; have q5 := faL_len kd 1; omega)) | exact hek) (by first | assumption | (first | omega | (rw [logS_36]; simp only [List.length_append, List.length_cons, List.length_nil]; have q1 := swL_len kd; have q2 := faL_len kd kd; have q3 := buL_len kd kd; have q4 := buL_len kd 4; have q5 := faL_len kd 1; omega)) | exact hek) (by first | assumption | (first | omega | (rw [logS_36]; simp only [List.length_append, List.length_cons, List.length_nil]; have q1 := swL_len kd; have q2 := faL_len kd kd; have q3 := buL_len kd kd; have q4 := buL_len kd 4; have q5 := faL_len kd 1; omega)) | exact hek) (by first | assumption | (first | omega | (rw [logS_36]; simp only [List.length_append, List.length_cons, List.length_nil]; have q1 := swL_len kd; have q2 := faL_len kd kd; have q3 := buL_len kd kd; have q4 := buL_len kd 4; have q5 := faL_len kd 1; omega)) | exact hek)) (lw_V q1998 q2000 qs96 q102 q2001) hcV_X2_fallsBy ⟨Nat.le_of_ble_eq_true rfl, Nat.le_of_ble_eq_true rfl⟩ rfl (fun h hs => hs.obj) rfl rfl (Nat.le_of_ble_eq_true rfl) dX2_tells_66 ⟨Nat.le_of_ble_eq_true rfl, Nat.le_of_ble_eq_true rfl⟩ (np := 69) rfl (k_RI ?_)
  refine WG.weak (S' := MH D ad h0 (logS σ (([2] ++ (buL kd kd)) ++ (faL kd kd)))) (fun h hs => by rw [← logS_app]; exact hs) ?_
  refine g_isub F dX2_tells_69 (np := 70) rfl ?_
  have hσ : (logS σ (([2] ++ (buL kd kd)) ++ (faL kd kd))) = (logS σ (teL kd 0)) := by rfl
  have hv : (buV kd kd b x) - (faV kd kd b (nI (1))) = teV kd 0 b x := by rfl
  exact g_iret F hr rfl (Nat.le_of_ble_eq_true rfl) (Nat.le_of_ble_eq_true rfl) dX2_tells_70 (fun h hs => by rw [← hT]; exact ⟨congrArg (fun z => some (Value.int z)) hv, (hσ ▸ hs)⟩)

set_option maxRecDepth 100000 in
theorem ct_X2_tells_1 {l : Launch} {D : va_G} {E : State → Prop} {B : Nat} (hE : Stab E) {ad : Nat → Nat} {h0 : AH} (σ : MSt) (kd : Nat) (b : Nat) (x : Int32) (hb : b < 50) (hkd : kd ≤ 7) (hek : σ.2.1 35 b = nI kd) (htr : σ.1 36 ≤ 1800) : Ct l D E B yX2_tells cX2_tells 5 (some .int) 10 233 0 0 [.ref (ad 0), .int (nI b), .int (nI 1), .int x] (MH D ad h0 σ) (RI (teV kd 1 b x) (MH D ad h0 (logS σ (teL kd 1)))) := by
  refine Ct.of (nL := 5) (lv := [some (.ref (ad 0)), some (.int (nI b)), some (.int (nI 1)), some (.int x), none]) (by decide) (Nat.le_of_ble_eq_true rfl) hE 1 rfl ?_
  generalize hT : RI (teV kd 1 b x) (MH D ad h0 (logS σ (teL kd 1))) = T
  intro zp ze zs zm zb zt zc F hr hnm
  generalize ([.ref (ad 0), .int (nI b), .int (nI 1), .int x] : List Value).toArray = za at F ⊢
  refine g_iload_n F dX2_tells_0 rfl rfl (np := 1) rfl ?_
  refine g_lookup F (x := (nI (1))) dX2_tells_1 (by decide) (off := 102) (by decide) (np := 103) (by decide) ?_
  refine g_aload_n F dX2_tells_103 rfl rfl (np := 104) rfl ?_
  refine g_iload_n F dX2_tells_104 rfl rfl (np := 105) rfl ?_
  refine g_iload_n F dX2_tells_105 rfl rfl (np := 106) rfl ?_
  refine g_runS F (rest := [.int (nI b), .ref (ad 0)]) (ct_X2_above hE 1 (by first | assumption | omega)) (lw_S q1991 q1992 q102 q1993) hcS_X2_above ⟨Nat.le_of_ble_eq_true rfl, Nat.le_of_ble_eq_true rfl⟩ rfl rfl (Nat.le_of_ble_eq_true rfl) dX2_tells_106 ⟨Nat.le_of_ble_eq_true rfl, Nat.le_of_ble_eq_true rfl⟩ (np := 109) rfl (k_RI ?_)
  refine WG.eqv (st' := [.int (nI 0), .int (nI b), .ref (ad 0)]) (congrArg (fun z => ([.int z, .int (nI b), .ref (ad 0)] : List Value)) (show (nI (abv 1)) = (nI 0) from by rfl)) rfl ?_
  refine g_iload_n F dX2_tells_109 rfl rfl (np := 110) rfl ?_
  refine g_runV F (C := RX2) (ci := 2) (T0 := TX2) (N := 42) (rest := []) (ct_X2_tells_0 hE σ kd b x (by first | assumption | (first | omega | (rw [logS_36]; simp only [List.length_append, List.length_cons, List.length_nil]; have q1 := swL_len kd; have q2 := faL_len kd kd; have q3 := buL_len kd kd; have q4 := buL_len kd 4; have q5 := faL_len kd 1; omega)) | exact hek) (by first | assumption | (first | omega | (rw [logS_36]; simp only [List.length_append, List.length_cons, List.length_nil]; have q1 := swL_len kd; have q2 := faL_len kd kd; have q3 := buL_len kd kd; have q4 := buL_len kd 4; have q5 := faL_len kd 1; omega)) | exact hek) (by first | assumption | (first | omega | (rw [logS_36]; simp only [List.length_append, List.length_cons, List.length_nil]; have q1 := swL_len kd; have q2 := faL_len kd kd; have q3 := buL_len kd kd; have q4 := buL_len kd 4; have q5 := faL_len kd 1; omega)) | exact hek) (by first | assumption | (first | omega | (rw [logS_36]; simp only [List.length_append, List.length_cons, List.length_nil]; have q1 := swL_len kd; have q2 := faL_len kd kd; have q3 := buL_len kd kd; have q4 := buL_len kd 4; have q5 := faL_len kd 1; omega)) | exact hek)) (lw_V q2002 q2004 qs97 q102 q2005) hcV_X2_tells ⟨Nat.le_of_ble_eq_true rfl, Nat.le_of_ble_eq_true rfl⟩ rfl (fun h hs => hs.obj) rfl rfl (Nat.le_of_ble_eq_true rfl) dX2_tells_110 ⟨Nat.le_of_ble_eq_true rfl, Nat.le_of_ble_eq_true rfl⟩ (np := 113) rfl (k_RI ?_)
  have hσ : (logS σ (teL kd 0)) = (logS σ (teL kd 1)) := by rfl
  have hv : teV kd 0 b x = teV kd 1 b x := by rfl
  exact g_iret F hr rfl (Nat.le_of_ble_eq_true rfl) (Nat.le_of_ble_eq_true rfl) dX2_tells_113 (fun h hs => by rw [← hT]; exact ⟨congrArg (fun z => some (Value.int z)) hv, (hσ ▸ hs)⟩)

set_option maxRecDepth 100000 in
theorem ct_X2_tells_2 {l : Launch} {D : va_G} {E : State → Prop} {B : Nat} (hE : Stab E) {ad : Nat → Nat} {h0 : AH} (σ : MSt) (kd : Nat) (b : Nat) (x : Int32) (hb : b < 50) (hkd : kd ≤ 7) (hek : σ.2.1 35 b = nI kd) (htr : σ.1 36 ≤ 1800) : Ct l D E B yX2_tells cX2_tells 5 (some .int) 10 233 0 0 [.ref (ad 0), .int (nI b), .int (nI 2), .int x] (MH D ad h0 σ) (RI (teV kd 2 b x) (MH D ad h0 (logS σ (teL kd 2)))) := by
  refine Ct.of (nL := 5) (lv := [some (.ref (ad 0)), some (.int (nI b)), some (.int (nI 2)), some (.int x), none]) (by decide) (Nat.le_of_ble_eq_true rfl) hE 1 rfl ?_
  generalize hT : RI (teV kd 2 b x) (MH D ad h0 (logS σ (teL kd 2))) = T
  intro zp ze zs zm zb zt zc F hr hnm
  generalize ([.ref (ad 0), .int (nI b), .int (nI 2), .int x] : List Value).toArray = za at F ⊢
  refine g_iload_n F dX2_tells_0 rfl rfl (np := 1) rfl ?_
  refine g_lookup F (x := (nI (2))) dX2_tells_1 (by decide) (off := 102) (by decide) (np := 103) (by decide) ?_
  refine g_aload_n F dX2_tells_103 rfl rfl (np := 104) rfl ?_
  refine g_iload_n F dX2_tells_104 rfl rfl (np := 105) rfl ?_
  refine g_iload_n F dX2_tells_105 rfl rfl (np := 106) rfl ?_
  refine g_runS F (rest := [.int (nI b), .ref (ad 0)]) (ct_X2_above hE 2 (by first | assumption | omega)) (lw_S q1991 q1992 q102 q1993) hcS_X2_above ⟨Nat.le_of_ble_eq_true rfl, Nat.le_of_ble_eq_true rfl⟩ rfl rfl (Nat.le_of_ble_eq_true rfl) dX2_tells_106 ⟨Nat.le_of_ble_eq_true rfl, Nat.le_of_ble_eq_true rfl⟩ (np := 109) rfl (k_RI ?_)
  refine WG.eqv (st' := [.int (nI 0), .int (nI b), .ref (ad 0)]) (congrArg (fun z => ([.int z, .int (nI b), .ref (ad 0)] : List Value)) (show (nI (abv 2)) = (nI 0) from by rfl)) rfl ?_
  refine g_iload_n F dX2_tells_109 rfl rfl (np := 110) rfl ?_
  refine g_runV F (C := RX2) (ci := 2) (T0 := TX2) (N := 42) (rest := []) (ct_X2_tells_0 hE σ kd b x (by first | assumption | (first | omega | (rw [logS_36]; simp only [List.length_append, List.length_cons, List.length_nil]; have q1 := swL_len kd; have q2 := faL_len kd kd; have q3 := buL_len kd kd; have q4 := buL_len kd 4; have q5 := faL_len kd 1; omega)) | exact hek) (by first | assumption | (first | omega | (rw [logS_36]; simp only [List.length_append, List.length_cons, List.length_nil]; have q1 := swL_len kd; have q2 := faL_len kd kd; have q3 := buL_len kd kd; have q4 := buL_len kd 4; have q5 := faL_len kd 1; omega)) | exact hek) (by first | assumption | (first | omega | (rw [logS_36]; simp only [List.length_append, List.length_cons, List.length_nil]; have q1 := swL_len kd; have q2 := faL_len kd kd; have q3 := buL_len kd kd; have q4 := buL_len kd 4; have q5 := faL_len kd 1; omega)) | exact hek) (by first | assumption | (first | omega | (rw [logS_36]; simp only [List.length_append, List.length_cons, List.length_nil]; have q1 := swL_len kd; have q2 := faL_len kd kd; have q3 := buL_len kd kd; have q4 := buL_len kd 4; have q5 := faL_len kd 1; omega)) | exact hek)) (lw_V q2002 q2004 qs97 q102 q2005) hcV_X2_tells ⟨Nat.le_of_ble_eq_true rfl, Nat.le_of_ble_eq_true rfl⟩ rfl (fun h hs => hs.obj) rfl rfl (Nat.le_of_ble_eq_true rfl) dX2_tells_110 ⟨Nat.le_of_ble_eq_true rfl, Nat.le_of_ble_eq_true rfl⟩ (np := 113) rfl (k_RI ?_)
  have hσ : (logS σ (teL kd 0)) = (logS σ (teL kd 2)) := by rfl
  have hv : teV kd 0 b x = teV kd 2 b x := by rfl
  exact g_iret F hr rfl (Nat.le_of_ble_eq_true rfl) (Nat.le_of_ble_eq_true rfl) dX2_tells_113 (fun h hs => by rw [← hT]; exact ⟨congrArg (fun z => some (Value.int z)) hv, (hσ ▸ hs)⟩)

set_option maxRecDepth 100000 in
theorem ct_X2_tells_6 {l : Launch} {D : va_G} {E : State → Prop} {B : Nat} (hE : Stab E) {ad : Nat → Nat} {h0 : AH} (σ : MSt) (kd : Nat) (b : Nat) (x : Int32) (hb : b < 50) (hkd : kd ≤ 7) (hek : σ.2.1 35 b = nI kd) (htr : σ.1 36 ≤ 1800) : Ct l D E B yX2_tells cX2_tells 5 (some .int) 10 233 0 0 [.ref (ad 0), .int (nI b), .int (nI 6), .int x] (MH D ad h0 σ) (RI (teV kd 6 b x) (MH D ad h0 (logS σ (teL kd 6)))) := by
  refine Ct.of (nL := 5) (lv := [some (.ref (ad 0)), some (.int (nI b)), some (.int (nI 6)), some (.int x), none]) (by decide) (Nat.le_of_ble_eq_true rfl) hE 1 rfl ?_
  generalize hT : RI (teV kd 6 b x) (MH D ad h0 (logS σ (teL kd 6))) = T
  intro zp ze zs zm zb zt zc F hr hnm
  generalize ([.ref (ad 0), .int (nI b), .int (nI 6), .int x] : List Value).toArray = za at F ⊢
  refine g_iload_n F dX2_tells_0 rfl rfl (np := 1) rfl ?_
  refine g_lookup F (x := (nI (6))) dX2_tells_1 (by decide) (off := 102) (by decide) (np := 103) (by decide) ?_
  refine g_aload_n F dX2_tells_103 rfl rfl (np := 104) rfl ?_
  refine g_iload_n F dX2_tells_104 rfl rfl (np := 105) rfl ?_
  refine g_iload_n F dX2_tells_105 rfl rfl (np := 106) rfl ?_
  refine g_runS F (rest := [.int (nI b), .ref (ad 0)]) (ct_X2_above hE 6 (by first | assumption | omega)) (lw_S q1991 q1992 q102 q1993) hcS_X2_above ⟨Nat.le_of_ble_eq_true rfl, Nat.le_of_ble_eq_true rfl⟩ rfl rfl (Nat.le_of_ble_eq_true rfl) dX2_tells_106 ⟨Nat.le_of_ble_eq_true rfl, Nat.le_of_ble_eq_true rfl⟩ (np := 109) rfl (k_RI ?_)
  refine WG.eqv (st' := [.int (nI 0), .int (nI b), .ref (ad 0)]) (congrArg (fun z => ([.int z, .int (nI b), .ref (ad 0)] : List Value)) (show (nI (abv 6)) = (nI 0) from by rfl)) rfl ?_
  refine g_iload_n F dX2_tells_109 rfl rfl (np := 110) rfl ?_
  refine g_runV F (C := RX2) (ci := 2) (T0 := TX2) (N := 42) (rest := []) (ct_X2_tells_0 hE σ kd b x (by first | assumption | (first | omega | (rw [logS_36]; simp only [List.length_append, List.length_cons, List.length_nil]; have q1 := swL_len kd; have q2 := faL_len kd kd; have q3 := buL_len kd kd; have q4 := buL_len kd 4; have q5 := faL_len kd 1; omega)) | exact hek) (by first | assumption | (first | omega | (rw [logS_36]; simp only [List.length_append, List.length_cons, List.length_nil]; have q1 := swL_len kd; have q2 := faL_len kd kd; have q3 := buL_len kd kd; have q4 := buL_len kd 4; have q5 := faL_len kd 1; omega)) | exact hek) (by first | assumption | (first | omega | (rw [logS_36]; simp only [List.length_append, List.length_cons, List.length_nil]; have q1 := swL_len kd; have q2 := faL_len kd kd; have q3 := buL_len kd kd; have q4 := buL_len kd 4; have q5 := faL_len kd 1; omega)) | exact hek) (by first | assumption | (first | omega | (rw [logS_36]; simp only [List.length_append, List.length_cons, List.length_nil]; have q1 := swL_len kd; have q2 := faL_len kd kd; have q3 := buL_len kd kd; have q4 := buL_len kd 4; have q5 := faL_len kd 1; omega)) | exact hek)) (lw_V q2002 q2004 qs97 q102 q2005) hcV_X2_tells ⟨Nat.le_of_ble_eq_true rfl, Nat.le_of_ble_eq_true rfl⟩ rfl (fun h hs => hs.obj) rfl rfl (Nat.le_of_ble_eq_true rfl) dX2_tells_110 ⟨Nat.le_of_ble_eq_true rfl, Nat.le_of_ble_eq_true rfl⟩ (np := 113) rfl (k_RI ?_)
  have hσ : (logS σ (teL kd 0)) = (logS σ (teL kd 6)) := by rfl
  have hv : teV kd 0 b x = teV kd 6 b x := by rfl
  exact g_iret F hr rfl (Nat.le_of_ble_eq_true rfl) (Nat.le_of_ble_eq_true rfl) dX2_tells_113 (fun h hs => by rw [← hT]; exact ⟨congrArg (fun z => some (Value.int z)) hv, (hσ ▸ hs)⟩)

set_option maxRecDepth 100000 in
theorem ct_X2_tells_3 {l : Launch} {D : va_G} {E : State → Prop} {B : Nat} (hE : Stab E) {ad : Nat → Nat} {h0 : AH} (σ : MSt) (kd : Nat) (b : Nat) (x : Int32) (hb : b < 50) (hkd : kd ≤ 7) (hek : σ.2.1 35 b = nI kd) (htr : σ.1 36 ≤ 1800) : Ct l D E B yX2_tells cX2_tells 5 (some .int) 11 257 0 0 [.ref (ad 0), .int (nI b), .int (nI 3), .int x] (MH D ad h0 σ) (RI (teV kd 3 b x) (MH D ad h0 (logS σ (teL kd 3)))) := by
  refine Ct.of (nL := 5) (lv := [some (.ref (ad 0)), some (.int (nI b)), some (.int (nI 3)), some (.int x), none]) (by decide) (Nat.le_of_ble_eq_true rfl) hE 1 rfl ?_
  generalize hT : RI (teV kd 3 b x) (MH D ad h0 (logS σ (teL kd 3))) = T
  intro zp ze zs zm zb zt zc F hr hnm
  generalize ([.ref (ad 0), .int (nI b), .int (nI 3), .int x] : List Value).toArray = za at F ⊢
  refine g_iload_n F dX2_tells_0 rfl rfl (np := 1) rfl ?_
  refine g_lookup F (x := (nI (3))) dX2_tells_1 (by decide) (off := 102) (by decide) (np := 103) (by decide) ?_
  refine g_aload_n F dX2_tells_103 rfl rfl (np := 104) rfl ?_
  refine g_iload_n F dX2_tells_104 rfl rfl (np := 105) rfl ?_
  refine g_iload_n F dX2_tells_105 rfl rfl (np := 106) rfl ?_
  refine g_runS F (rest := [.int (nI b), .ref (ad 0)]) (ct_X2_above hE 3 (by first | assumption | omega)) (lw_S q1991 q1992 q102 q1993) hcS_X2_above ⟨Nat.le_of_ble_eq_true rfl, Nat.le_of_ble_eq_true rfl⟩ rfl rfl (Nat.le_of_ble_eq_true rfl) dX2_tells_106 ⟨Nat.le_of_ble_eq_true rfl, Nat.le_of_ble_eq_true rfl⟩ (np := 109) rfl (k_RI ?_)
  refine WG.eqv (st' := [.int (nI 2), .int (nI b), .ref (ad 0)]) (congrArg (fun z => ([.int z, .int (nI b), .ref (ad 0)] : List Value)) (show (nI (abv 3)) = (nI 2) from by rfl)) rfl ?_
  refine g_iload_n F dX2_tells_109 rfl rfl (np := 110) rfl ?_
  refine g_runV F (C := RX2) (ci := 2) (T0 := TX2) (N := 42) (rest := []) (ct_X2_tells_2 hE σ kd b x (by first | assumption | (first | omega | (rw [logS_36]; simp only [List.length_append, List.length_cons, List.length_nil]; have q1 := swL_len kd; have q2 := faL_len kd kd; have q3 := buL_len kd kd; have q4 := buL_len kd 4; have q5 := faL_len kd 1; omega)) | exact hek) (by first | assumption | (first | omega | (rw [logS_36]; simp only [List.length_append, List.length_cons, List.length_nil]; have q1 := swL_len kd; have q2 := faL_len kd kd; have q3 := buL_len kd kd; have q4 := buL_len kd 4; have q5 := faL_len kd 1; omega)) | exact hek) (by first | assumption | (first | omega | (rw [logS_36]; simp only [List.length_append, List.length_cons, List.length_nil]; have q1 := swL_len kd; have q2 := faL_len kd kd; have q3 := buL_len kd kd; have q4 := buL_len kd 4; have q5 := faL_len kd 1; omega)) | exact hek) (by first | assumption | (first | omega | (rw [logS_36]; simp only [List.length_append, List.length_cons, List.length_nil]; have q1 := swL_len kd; have q2 := faL_len kd kd; have q3 := buL_len kd kd; have q4 := buL_len kd 4; have q5 := faL_len kd 1; omega)) | exact hek)) (lw_V q2002 q2004 qs97 q102 q2005) hcV_X2_tells ⟨Nat.le_of_ble_eq_true rfl, Nat.le_of_ble_eq_true rfl⟩ rfl (fun h hs => hs.obj) rfl rfl (Nat.le_of_ble_eq_true rfl) dX2_tells_110 ⟨Nat.le_of_ble_eq_true rfl, Nat.le_of_ble_eq_true rfl⟩ (np := 113) rfl (k_RI ?_)
  have hσ : (logS σ (teL kd 2)) = (logS σ (teL kd 3)) := by rfl
  have hv : teV kd 2 b x = teV kd 3 b x := by rfl
  exact g_iret F hr rfl (Nat.le_of_ble_eq_true rfl) (Nat.le_of_ble_eq_true rfl) dX2_tells_113 (fun h hs => by rw [← hT]; exact ⟨congrArg (fun z => some (Value.int z)) hv, (hσ ▸ hs)⟩)

set_option maxRecDepth 100000 in
theorem ct_X2_tells_4 {l : Launch} {D : va_G} {E : State → Prop} {B : Nat} (hE : Stab E) {ad : Nat → Nat} {h0 : AH} (σ : MSt) (kd : Nat) (b : Nat) (x : Int32) (hb : b < 50) (hkd : kd ≤ 7) (hek : σ.2.1 35 b = nI kd) (htr : σ.1 36 ≤ 1800) : Ct l D E B yX2_tells cX2_tells 5 (some .int) 11 257 0 0 [.ref (ad 0), .int (nI b), .int (nI 4), .int x] (MH D ad h0 σ) (RI (teV kd 4 b x) (MH D ad h0 (logS σ (teL kd 4)))) := by
  refine Ct.of (nL := 5) (lv := [some (.ref (ad 0)), some (.int (nI b)), some (.int (nI 4)), some (.int x), none]) (by decide) (Nat.le_of_ble_eq_true rfl) hE 1 rfl ?_
  generalize hT : RI (teV kd 4 b x) (MH D ad h0 (logS σ (teL kd 4))) = T
  intro zp ze zs zm zb zt zc F hr hnm
  generalize ([.ref (ad 0), .int (nI b), .int (nI 4), .int x] : List Value).toArray = za at F ⊢
  refine g_iload_n F dX2_tells_0 rfl rfl (np := 1) rfl ?_
  refine g_lookup F (x := (nI (4))) dX2_tells_1 (by decide) (off := 102) (by decide) (np := 103) (by decide) ?_
  refine g_aload_n F dX2_tells_103 rfl rfl (np := 104) rfl ?_
  refine g_iload_n F dX2_tells_104 rfl rfl (np := 105) rfl ?_
  refine g_iload_n F dX2_tells_105 rfl rfl (np := 106) rfl ?_
  refine g_runS F (rest := [.int (nI b), .ref (ad 0)]) (ct_X2_above hE 4 (by first | assumption | omega)) (lw_S q1991 q1992 q102 q1993) hcS_X2_above ⟨Nat.le_of_ble_eq_true rfl, Nat.le_of_ble_eq_true rfl⟩ rfl rfl (Nat.le_of_ble_eq_true rfl) dX2_tells_106 ⟨Nat.le_of_ble_eq_true rfl, Nat.le_of_ble_eq_true rfl⟩ (np := 109) rfl (k_RI ?_)
  refine WG.eqv (st' := [.int (nI 1), .int (nI b), .ref (ad 0)]) (congrArg (fun z => ([.int z, .int (nI b), .ref (ad 0)] : List Value)) (show (nI (abv 4)) = (nI 1) from by rfl)) rfl ?_
  refine g_iload_n F dX2_tells_109 rfl rfl (np := 110) rfl ?_
  refine g_runV F (C := RX2) (ci := 2) (T0 := TX2) (N := 42) (rest := []) (ct_X2_tells_1 hE σ kd b x (by first | assumption | (first | omega | (rw [logS_36]; simp only [List.length_append, List.length_cons, List.length_nil]; have q1 := swL_len kd; have q2 := faL_len kd kd; have q3 := buL_len kd kd; have q4 := buL_len kd 4; have q5 := faL_len kd 1; omega)) | exact hek) (by first | assumption | (first | omega | (rw [logS_36]; simp only [List.length_append, List.length_cons, List.length_nil]; have q1 := swL_len kd; have q2 := faL_len kd kd; have q3 := buL_len kd kd; have q4 := buL_len kd 4; have q5 := faL_len kd 1; omega)) | exact hek) (by first | assumption | (first | omega | (rw [logS_36]; simp only [List.length_append, List.length_cons, List.length_nil]; have q1 := swL_len kd; have q2 := faL_len kd kd; have q3 := buL_len kd kd; have q4 := buL_len kd 4; have q5 := faL_len kd 1; omega)) | exact hek) (by first | assumption | (first | omega | (rw [logS_36]; simp only [List.length_append, List.length_cons, List.length_nil]; have q1 := swL_len kd; have q2 := faL_len kd kd; have q3 := buL_len kd kd; have q4 := buL_len kd 4; have q5 := faL_len kd 1; omega)) | exact hek)) (lw_V q2002 q2004 qs97 q102 q2005) hcV_X2_tells ⟨Nat.le_of_ble_eq_true rfl, Nat.le_of_ble_eq_true rfl⟩ rfl (fun h hs => hs.obj) rfl rfl (Nat.le_of_ble_eq_true rfl) dX2_tells_110 ⟨Nat.le_of_ble_eq_true rfl, Nat.le_of_ble_eq_true rfl⟩ (np := 113) rfl (k_RI ?_)
  have hσ : (logS σ (teL kd 1)) = (logS σ (teL kd 4)) := by rfl
  have hv : teV kd 1 b x = teV kd 4 b x := by rfl
  exact g_iret F hr rfl (Nat.le_of_ble_eq_true rfl) (Nat.le_of_ble_eq_true rfl) dX2_tells_113 (fun h hs => by rw [← hT]; exact ⟨congrArg (fun z => some (Value.int z)) hv, (hσ ▸ hs)⟩)

set_option maxRecDepth 100000 in
theorem ct_X2_tells_5 {l : Launch} {D : va_G} {E : State → Prop} {B : Nat} (hE : Stab E) {ad : Nat → Nat} {h0 : AH} (σ : MSt) (kd : Nat) (b : Nat) (x : Int32) (hb : b < 50) (hkd : kd ≤ 7) (hek : σ.2.1 35 b = nI kd) (htr : σ.1 36 ≤ 1799) : Ct l D E B yX2_tells cX2_tells 5 (some .int) 12 281 0 0 [.ref (ad 0), .int (nI b), .int (nI 5), .int x] (MH D ad h0 σ) (RI (teV kd 5 b x) (MH D ad h0 (logS σ (teL kd 5)))) := by
  refine Ct.of (nL := 5) (lv := [some (.ref (ad 0)), some (.int (nI b)), some (.int (nI 5)), some (.int x), none]) (by decide) (Nat.le_of_ble_eq_true rfl) hE 1 rfl ?_
  generalize hT : RI (teV kd 5 b x) (MH D ad h0 (logS σ (teL kd 5))) = T
  intro zp ze zs zm zb zt zc F hr hnm
  generalize ([.ref (ad 0), .int (nI b), .int (nI 5), .int x] : List Value).toArray = za at F ⊢
  refine g_iload_n F dX2_tells_0 rfl rfl (np := 1) rfl ?_
  refine g_lookup F (x := (nI (5))) dX2_tells_1 (by decide) (off := 70) (by decide) (np := 71) (by decide) ?_
  refine g_aload_n F dX2_tells_71 rfl rfl (np := 72) rfl ?_
  refine g_bipush F (v := (nI 60)) dX2_tells_72 (by decide) (np := 74) rfl ?_
  refine g_runV F (C := RX2) (ci := 2) (T0 := TX2) (N := 42) (rest := []) (ct_X2_ran hE σ 60 (by first | assumption | omega)) (lw_V q1987 q1989 qs94 q102 q1990) hcV_X2_ran ⟨Nat.le_of_ble_eq_true rfl, Nat.le_of_ble_eq_true rfl⟩ rfl (fun h hs => hs.obj) rfl rfl (Nat.le_of_ble_eq_true rfl) dX2_tells_74 ⟨Nat.le_of_ble_eq_true rfl, Nat.le_of_ble_eq_true rfl⟩ (np := 77) rfl (k_RV ?_)
  refine g_aload_n F dX2_tells_77 rfl rfl (np := 78) rfl ?_
  refine g_iload_n F dX2_tells_78 rfl rfl (np := 79) rfl ?_
  refine g_iconst F (v := (nI 3)) dX2_tells_79 (by decide) (np := 80) rfl ?_
  refine g_iload_n F dX2_tells_80 rfl rfl (np := 81) rfl ?_
  refine g_runV F (C := RX2) (ci := 2) (T0 := TX2) (N := 42) (rest := []) (ct_X2_tells_3 hE (logS σ [60]) kd b x (by first | assumption | (first | omega | (rw [logS_36]; simp only [List.length_append, List.length_cons, List.length_nil]; have q1 := swL_len kd; have q2 := faL_len kd kd; have q3 := buL_len kd kd; have q4 := buL_len kd 4; have q5 := faL_len kd 1; omega)) | exact hek) (by first | assumption | (first | omega | (rw [logS_36]; simp only [List.length_append, List.length_cons, List.length_nil]; have q1 := swL_len kd; have q2 := faL_len kd kd; have q3 := buL_len kd kd; have q4 := buL_len kd 4; have q5 := faL_len kd 1; omega)) | exact hek) (by first | assumption | (first | omega | (rw [logS_36]; simp only [List.length_append, List.length_cons, List.length_nil]; have q1 := swL_len kd; have q2 := faL_len kd kd; have q3 := buL_len kd kd; have q4 := buL_len kd 4; have q5 := faL_len kd 1; omega)) | exact hek) (by first | assumption | (first | omega | (rw [logS_36]; simp only [List.length_append, List.length_cons, List.length_nil]; have q1 := swL_len kd; have q2 := faL_len kd kd; have q3 := buL_len kd kd; have q4 := buL_len kd 4; have q5 := faL_len kd 1; omega)) | exact hek)) (lw_V q2002 q2004 qs97 q102 q2005) hcV_X2_tells ⟨Nat.le_of_ble_eq_true rfl, Nat.le_of_ble_eq_true rfl⟩ rfl (fun h hs => hs.obj) rfl rfl (Nat.le_of_ble_eq_true rfl) dX2_tells_81 ⟨Nat.le_of_ble_eq_true rfl, Nat.le_of_ble_eq_true rfl⟩ (np := 84) rfl (k_RI ?_)
  refine WG.weak (S' := MH D ad h0 (logS σ ([60] ++ (teL kd 3)))) (fun h hs => by rw [← logS_app]; exact hs) ?_
  refine g_iconst F (v := (nI 5)) dX2_tells_84 (by decide) (np := 85) rfl ?_
  refine g_ixor F dX2_tells_85 (np := 86) rfl ?_
  have hσ : (logS σ ([60] ++ (teL kd 3))) = (logS σ (teL kd 5)) := by rfl
  have hv : (teV kd 3 b x) ^^^ (nI (5)) = teV kd 5 b x := by rfl
  exact g_iret F hr rfl (Nat.le_of_ble_eq_true rfl) (Nat.le_of_ble_eq_true rfl) dX2_tells_86 (fun h hs => by rw [← hT]; exact ⟨congrArg (fun z => some (Value.int z)) hv, (hσ ▸ hs)⟩)

set_option maxRecDepth 100000 in
theorem ct_X2_tells_7 {l : Launch} {D : va_G} {E : State → Prop} {B : Nat} (hE : Stab E) {ad : Nat → Nat} {h0 : AH} (σ : MSt) (kd : Nat) (b : Nat) (x : Int32) (hb : b < 50) (hkd : kd ≤ 7) (hek : σ.2.1 35 b = nI kd) (htr : σ.1 36 ≤ 1799) : Ct l D E B yX2_tells cX2_tells 5 (some .int) 12 281 0 0 [.ref (ad 0), .int (nI b), .int (nI 7), .int x] (MH D ad h0 σ) (RI (teV kd 7 b x) (MH D ad h0 (logS σ (teL kd 7)))) := by
  refine Ct.of (nL := 5) (lv := [some (.ref (ad 0)), some (.int (nI b)), some (.int (nI 7)), some (.int x), none]) (by decide) (Nat.le_of_ble_eq_true rfl) hE 1 rfl ?_
  generalize hT : RI (teV kd 7 b x) (MH D ad h0 (logS σ (teL kd 7))) = T
  intro zp ze zs zm zb zt zc F hr hnm
  generalize ([.ref (ad 0), .int (nI b), .int (nI 7), .int x] : List Value).toArray = za at F ⊢
  refine g_iload_n F dX2_tells_0 rfl rfl (np := 1) rfl ?_
  refine g_lookup F (x := (nI (7))) dX2_tells_1 (by decide) (off := 86) (by decide) (np := 87) (by decide) ?_
  refine g_aload_n F dX2_tells_87 rfl rfl (np := 88) rfl ?_
  refine g_bipush F (v := (nI 81)) dX2_tells_88 (by decide) (np := 90) rfl ?_
  refine g_runV F (C := RX2) (ci := 2) (T0 := TX2) (N := 42) (rest := []) (ct_X2_ran hE σ 81 (by first | assumption | omega)) (lw_V q1987 q1989 qs94 q102 q1990) hcV_X2_ran ⟨Nat.le_of_ble_eq_true rfl, Nat.le_of_ble_eq_true rfl⟩ rfl (fun h hs => hs.obj) rfl rfl (Nat.le_of_ble_eq_true rfl) dX2_tells_90 ⟨Nat.le_of_ble_eq_true rfl, Nat.le_of_ble_eq_true rfl⟩ (np := 93) rfl (k_RV ?_)
  refine g_aload_n F dX2_tells_93 rfl rfl (np := 94) rfl ?_
  refine g_iload_n F dX2_tells_94 rfl rfl (np := 95) rfl ?_
  refine g_iconst F (v := (nI 4)) dX2_tells_95 (by decide) (np := 96) rfl ?_
  refine g_iload_n F dX2_tells_96 rfl rfl (np := 97) rfl ?_
  refine g_runV F (C := RX2) (ci := 2) (T0 := TX2) (N := 42) (rest := []) (ct_X2_tells_4 hE (logS σ [81]) kd b x (by first | assumption | (first | omega | (rw [logS_36]; simp only [List.length_append, List.length_cons, List.length_nil]; have q1 := swL_len kd; have q2 := faL_len kd kd; have q3 := buL_len kd kd; have q4 := buL_len kd 4; have q5 := faL_len kd 1; omega)) | exact hek) (by first | assumption | (first | omega | (rw [logS_36]; simp only [List.length_append, List.length_cons, List.length_nil]; have q1 := swL_len kd; have q2 := faL_len kd kd; have q3 := buL_len kd kd; have q4 := buL_len kd 4; have q5 := faL_len kd 1; omega)) | exact hek) (by first | assumption | (first | omega | (rw [logS_36]; simp only [List.length_append, List.length_cons, List.length_nil]; have q1 := swL_len kd; have q2 := faL_len kd kd; have q3 := buL_len kd kd; have q4 := buL_len kd 4; have q5 := faL_len kd 1; omega)) | exact hek) (by first | assumption | (first | omega | (rw [logS_36]; simp only [List.length_append, List.length_cons, List.length_nil]; have q1 := swL_len kd; have q2 := faL_len kd kd; have q3 := buL_len kd kd; have q4 := buL_len kd 4; have q5 := faL_len kd 1; omega)) | exact hek)) (lw_V q2002 q2004 qs97 q102 q2005) hcV_X2_tells ⟨Nat.le_of_ble_eq_true rfl, Nat.le_of_ble_eq_true rfl⟩ rfl (fun h hs => hs.obj) rfl rfl (Nat.le_of_ble_eq_true rfl) dX2_tells_97 ⟨Nat.le_of_ble_eq_true rfl, Nat.le_of_ble_eq_true rfl⟩ (np := 100) rfl (k_RI ?_)
  refine WG.weak (S' := MH D ad h0 (logS σ ([81] ++ (teL kd 4)))) (fun h hs => by rw [← logS_app]; exact hs) ?_
  refine g_iconst F (v := (nI 1)) dX2_tells_100 (by decide) (np := 101) rfl ?_
  refine g_isub F dX2_tells_101 (np := 102) rfl ?_
  have hσ : (logS σ ([81] ++ (teL kd 4))) = (logS σ (teL kd 7)) := by rfl
  have hv : (teV kd 4 b x) - (nI (1)) = teV kd 7 b x := by rfl
  exact g_iret F hr rfl (Nat.le_of_ble_eq_true rfl) (Nat.le_of_ble_eq_true rfl) dX2_tells_102 (fun h hs => by rw [← hT]; exact ⟨congrArg (fun z => some (Value.int z)) hv, (hσ ▸ hs)⟩)

theorem ct_X2_tells {l : Launch} {D : va_G} {E : State → Prop} {B : Nat} (hE : Stab E) {ad : Nat → Nat} {h0 : AH} (σ : MSt) (kd : Nat) (b k : Nat) (x : Int32) (hk : k ≤ 7) (hb : b < 50) (hkd : kd ≤ 7) (hek : σ.2.1 35 b = nI kd) (htr : σ.1 36 ≤ 1799) : Ct l D E B yX2_tells cX2_tells 5 (some .int) 12 281 0 0 [.ref (ad 0), .int (nI b), .int (nI k), .int x] (MH D ad h0 σ) (RI (teV kd k b x) (MH D ad h0 (logS σ (teL kd k)))) :=
  all8 (P := fun k => Ct l D E B yX2_tells cX2_tells 5 (some .int) 12 281 0 0 [.ref (ad 0), .int (nI b), .int (nI k), .int x] (MH D ad h0 σ) (RI (teV kd k b x) (MH D ad h0 (logS σ (teL kd k))))) hk ((ct_X2_tells_0 hE σ kd b x hb hkd hek (by omega)).up (Nat.le_of_ble_eq_true rfl) (Nat.le_of_ble_eq_true rfl)) ((ct_X2_tells_1 hE σ kd b x hb hkd hek (by omega)).up (Nat.le_of_ble_eq_true rfl) (Nat.le_of_ble_eq_true rfl)) ((ct_X2_tells_2 hE σ kd b x hb hkd hek (by omega)).up (Nat.le_of_ble_eq_true rfl) (Nat.le_of_ble_eq_true rfl)) ((ct_X2_tells_3 hE σ kd b x hb hkd hek (by omega)).up (Nat.le_of_ble_eq_true rfl) (Nat.le_of_ble_eq_true rfl)) ((ct_X2_tells_4 hE σ kd b x hb hkd hek (by omega)).up (Nat.le_of_ble_eq_true rfl) (Nat.le_of_ble_eq_true rfl)) ((ct_X2_tells_5 hE σ kd b x hb hkd hek (by omega)).up (Nat.le_of_ble_eq_true rfl) (Nat.le_of_ble_eq_true rfl)) ((ct_X2_tells_6 hE σ kd b x hb hkd hek (by omega)).up (Nat.le_of_ble_eq_true rfl) (Nat.le_of_ble_eq_true rfl)) ((ct_X2_tells_7 hE σ kd b x hb hkd hek (by omega)).up (Nat.le_of_ble_eq_true rfl) (Nat.le_of_ble_eq_true rfl))

set_option maxRecDepth 100000 in
theorem ct_X2_act {l : Launch} {D : va_G} {E : State → Prop} {B : Nat} (hE : Stab E) {ad : Nat → Nat} {h0 : AH} (σ : MSt)  (b : Int32) (a : Int32) (x : Int32) (hbo : boOK σ) : Ct l D E B yX2_act cX2_act 5 (some .int) 13 305 0 0 [.ref (ad 0), .int b, .int a, .int x] (MH D ad h0 σ) (RI (rAct σ b a x) (MH D ad h0 (gAct σ b a))) := by
  refine Ct.of (nL := 5) (lv := [some (.ref (ad 0)), some (.int b), some (.int a), some (.int x), none]) (by decide) (Nat.le_of_ble_eq_true rfl) hE 1 rfl ?_
  generalize hT : RI (rAct σ b a x) (MH D ad h0 (gAct σ b a)) = T
  intro zp ze zs zm zb zt zc F hr hnm
  generalize ([.ref (ad 0), .int b, .int a, .int x] : List Value).toArray = za at F ⊢
  obtain ⟨hb50, hbk⟩ := hbo
  refine g_aload_n F dX2_act_0 rfl rfl (np := 1) rfl ?_
  refine g_iconst F (v := (nI 0)) dX2_act_1 (by decide) (np := 2) rfl ?_
  refine h_put F (k := 36) (n := 0) (ty := .int) rfl (by decide) (mset_36 _ _ _) rfl rfl rfl rfl q1582 dX2_act_2 (np := 5) rfl ?_
  refine g_iload_n F dX2_act_5 rfl rfl (np := 6) rfl ?_
  refine g_iconst F (v := (nI 0)) dX2_act_6 (by decide) (np := 7) rfl ?_
  refine g_aload_n F dX2_act_7 rfl rfl (np := 8) rfl ?_
  refine h_get F (k := 34) (v := .int (nI (σ.1 34))) (by decide) rfl q1580 dX2_act_8 (np := 11) rfl ?_
  refine g_iconst F (v := (nI 1)) dX2_act_11 (by decide) (np := 12) rfl ?_
  refine g_isub F dX2_act_12 (np := 13) rfl ?_
  refine g_runS F (rest := []) (ct_X2_within hE b (nI (0)) ((nI (σ.1 34)) - (nI (1))) ) (lw_S q1677 q1678 q102 q1679) hcS_X2_within ⟨Nat.le_of_ble_eq_true rfl, Nat.le_of_ble_eq_true rfl⟩ rfl rfl (Nat.le_of_ble_eq_true rfl) dX2_act_13 ⟨Nat.le_of_ble_eq_true rfl, Nat.le_of_ble_eq_true rfl⟩ (np := 16) rfl (k_RI ?_)
  refine g_if_eqB F dX2_act_16 (tp := 28) (by decide) (np := 19) rfl (fun c16 => ?_) (fun c16 => ?_)
  · refine g_iconst F (v := (nI 0)) dX2_act_28 (by decide) (np := 29) rfl ?_
    have hσ : (sN σ 36 0) = (gAct σ b a) := by unfold gAct; first | (rw [pif_f (fun z => c16 ((bt_n1 (by omega)).mpr z.1))]; done) | (rw [pif_f (fun z => c25 (bt3.mpr z.2))]; done)
    have hv : nI (0) = rAct σ b a x := by unfold rAct; first | (rw [pif_f (fun z => c16 ((bt_n1 (by omega)).mpr z.1))]; rfl) | (rw [pif_f (fun z => c25 (bt3.mpr z.2))]; rfl)
    exact g_iret F hr rfl (Nat.le_of_ble_eq_true rfl) (Nat.le_of_ble_eq_true rfl) dX2_act_29 (fun h hs => by rw [← hT]; exact ⟨congrArg (fun z => some (Value.int z)) hv, (hσ ▸ hs)⟩)
  · refine g_iload_n F dX2_act_19 rfl rfl (np := 20) rfl ?_
    refine g_iconst F (v := (nI 0)) dX2_act_20 (by decide) (np := 21) rfl ?_
    refine g_iconst F (v := (nI 3)) dX2_act_21 (by decide) (np := 22) rfl ?_
    refine g_runS F (rest := []) (ct_X2_within hE a (nI (0)) (nI (3)) ) (lw_S q1677 q1678 q102 q1679) hcS_X2_within ⟨Nat.le_of_ble_eq_true rfl, Nat.le_of_ble_eq_true rfl⟩ rfl rfl (Nat.le_of_ble_eq_true rfl) dX2_act_22 ⟨Nat.le_of_ble_eq_true rfl, Nat.le_of_ble_eq_true rfl⟩ (np := 25) rfl (k_RI ?_)
    refine g_if_neB F dX2_act_25 (tp := 30) (by decide) (np := 28) rfl (fun c25 => ?_) (fun c25 => ?_)
    · have hb1 := (bt_n1 (by omega)).mp c16
      obtain ⟨hbl, hbe⟩ := inN_cl (by omega) hb1
      obtain ⟨kd, hkd, hek⟩ := hbk _ hbl
      have hkd2 : kdN σ b.toNatClampNeg = kd := by unfold kdN; rw [hek]; exact nI_clamp (by omega)
      obtain ⟨hal, hae⟩ := inN_cl (by decide) (bt3.mp c25)
      refine WG.eqv (lv' := [some (.ref (ad 0)), some (.int (nI (b.toNatClampNeg))), some (.int a), some (.int x), none]) rfl (congrArg (fun z => ([some (.ref (ad 0)), some (.int z), some (.int a), some (.int x), none] : List (Option Value))) (show b = (nI (b.toNatClampNeg)) from by exact hbe)) ?_
      refine WG.eqv (lv' := [some (.ref (ad 0)), some (.int (nI (b.toNatClampNeg))), some (.int (nI (a.toNatClampNeg))), some (.int x), none]) rfl (congrArg (fun z => ([some (.ref (ad 0)), some (.int (nI (b.toNatClampNeg))), some (.int z), some (.int x), none] : List (Option Value))) (show a = (nI (a.toNatClampNeg)) from by exact hae)) ?_
      refine g_aload_n F dX2_act_30 rfl rfl (np := 31) rfl ?_
      refine h_get F (k := 35) (v := .ref (ad 35)) (by decide) rfl q1581 dX2_act_31 (np := 34) rfl ?_
      refine g_iload_n F dX2_act_34 rfl rfl (np := 35) rfl ?_
      refine h_ald F (k := 35) (i := b.toNatClampNeg) (L := 50) (v := σ.2.1 35 b.toNatClampNeg) rfl rfl (by decide) (by omega) rfl rfl dX2_act_35 (by decide) (by decide) (np := 36) rfl ?_
      refine WG.eqv (st' := [.int (nI kd)]) (congrArg (fun z => ([.int z] : List Value)) (show (σ.2.1 35 b.toNatClampNeg) = (nI kd) from by exact hek)) rfl ?_
      refine g_istore F (lv' := [some (.ref (ad 0)), some (.int (nI (b.toNatClampNeg))), some (.int (nI (a.toNatClampNeg))), some (.int x), some (.int (nI kd))]) dX2_act_36 (by decide) rfl rfl (np := 38) rfl ?_
      refine g_iload_n F dX2_act_38 rfl rfl (np := 39) rfl ?_
      refine g_if_neN F (by omega) dX2_act_39 (tp := 53) (by decide) (np := 42) rfl (fun c39 => ?_) (fun c39 => ?_)
      · refine g_iload_n F dX2_act_53 rfl rfl (np := 54) rfl ?_
        refine g_iconst F (v := (nI 1)) dX2_act_54 (by decide) (np := 55) rfl ?_
        refine g_icmp_neN F (by omega) (by decide) dX2_act_55 (tp := 69) (by decide) (np := 58) rfl (fun c55 => ?_) (fun c55 => ?_)
        · refine g_iload_n F dX2_act_69 rfl rfl (np := 70) rfl ?_
          refine g_iconst F (v := (nI 2)) dX2_act_70 (by decide) (np := 71) rfl ?_
          refine g_icmp_neN F (by omega) (by decide) dX2_act_71 (tp := 85) (by decide) (np := 74) rfl (fun c71 => ?_) (fun c71 => ?_)
          · refine g_aload_n F dX2_act_85 rfl rfl (np := 86) rfl ?_
            refine g_iload_n F dX2_act_86 rfl rfl (np := 87) rfl ?_
            refine g_iload F dX2_act_87 rfl (np := 89) rfl ?_
            refine g_iload_n F dX2_act_89 rfl rfl (np := 90) rfl ?_
            refine g_runV F (C := RX2) (ci := 2) (T0 := TX2) (N := 42) (rest := []) (ct_X2_tells hE (sN σ 36 0) kd b.toNatClampNeg kd x (by exact hkd) (by omega) (by exact hkd) (by exact hek) (by exact Nat.zero_le _)) (lw_V q2002 q2004 qs97 q102 q2005) hcV_X2_tells ⟨Nat.le_of_ble_eq_true rfl, Nat.le_of_ble_eq_true rfl⟩ rfl (fun h hs => hs.obj) rfl rfl (Nat.le_of_ble_eq_true rfl) dX2_act_90 ⟨Nat.le_of_ble_eq_true rfl, Nat.le_of_ble_eq_true rfl⟩ (np := 93) rfl (k_RI ?_)
            have hσ : (logS (sN σ 36 0) (teL kd kd)) = (gAct σ b a) := by unfold gAct; rw [pif_t ⟨hb1, bt3.mp c25⟩, hkd2]; unfold actL; first | (rw [if_pos c39]; done) | (rw [if_neg c39, if_pos c55]; done) | (rw [if_neg c39, if_neg c55, if_pos c71]; done) | (rw [if_neg c39, if_neg c55, if_neg c71]; done)
            have hv : teV kd kd b.toNatClampNeg x = rAct σ b a x := by unfold rAct; rw [pif_t ⟨hb1, bt3.mp c25⟩, hkd2]; unfold actV; first | (rw [if_pos c39]; done) | (rw [if_neg c39, if_pos c55]; done) | (rw [if_neg c39, if_neg c55, if_pos c71]; done) | (rw [if_neg c39, if_neg c55, if_neg c71]; done)
            exact g_iret F hr rfl (Nat.le_of_ble_eq_true rfl) (Nat.le_of_ble_eq_true rfl) dX2_act_93 (fun h hs => by rw [← hT]; exact ⟨congrArg (fun z => some (Value.int z)) hv, (hσ ▸ hs)⟩)
          · refine g_aload_n F dX2_act_74 rfl rfl (np := 75) rfl ?_
            refine g_iload_n F dX2_act_75 rfl rfl (np := 76) rfl ?_
            refine g_iload F dX2_act_76 rfl (np := 78) rfl ?_
            refine g_iload_n F dX2_act_78 rfl rfl (np := 79) rfl ?_
            refine g_runV F (C := RX2) (ci := 2) (T0 := TX2) (N := 42) (rest := []) (ct_X2_fallsBy hE (sN σ 36 0) kd b.toNatClampNeg kd x (by exact hkd) (by omega) (by exact hkd) (by exact hek) (by exact Nat.zero_le _)) (lw_V q1998 q2000 qs96 q102 q2001) hcV_X2_fallsBy ⟨Nat.le_of_ble_eq_true rfl, Nat.le_of_ble_eq_true rfl⟩ rfl (fun h hs => hs.obj) rfl rfl (Nat.le_of_ble_eq_true rfl) dX2_act_79 ⟨Nat.le_of_ble_eq_true rfl, Nat.le_of_ble_eq_true rfl⟩ (np := 82) rfl (k_RI ?_)
            refine g_goto F dX2_act_82 (np := 93) (by decide) ?_
            have hσ : (logS (sN σ 36 0) (faL kd kd)) = (gAct σ b a) := by unfold gAct; rw [pif_t ⟨hb1, bt3.mp c25⟩, hkd2]; unfold actL; first | (rw [if_pos c39]; done) | (rw [if_neg c39, if_pos c55]; done) | (rw [if_neg c39, if_neg c55, if_pos c71]; done) | (rw [if_neg c39, if_neg c55, if_neg c71]; done)
            have hv : faV kd kd b.toNatClampNeg x = rAct σ b a x := by unfold rAct; rw [pif_t ⟨hb1, bt3.mp c25⟩, hkd2]; unfold actV; first | (rw [if_pos c39]; done) | (rw [if_neg c39, if_pos c55]; done) | (rw [if_neg c39, if_neg c55, if_pos c71]; done) | (rw [if_neg c39, if_neg c55, if_neg c71]; done)
            exact g_iret F hr rfl (Nat.le_of_ble_eq_true rfl) (Nat.le_of_ble_eq_true rfl) dX2_act_93 (fun h hs => by rw [← hT]; exact ⟨congrArg (fun z => some (Value.int z)) hv, (hσ ▸ hs)⟩)
        · refine g_aload_n F dX2_act_58 rfl rfl (np := 59) rfl ?_
          refine g_iload_n F dX2_act_59 rfl rfl (np := 60) rfl ?_
          refine g_iload F dX2_act_60 rfl (np := 62) rfl ?_
          refine g_iload_n F dX2_act_62 rfl rfl (np := 63) rfl ?_
          refine g_runV F (C := RX2) (ci := 2) (T0 := TX2) (N := 42) (rest := []) (ct_X2_buildsBy hE (sN σ 36 0) kd b.toNatClampNeg kd x (by exact hkd) (by omega) (by exact hkd) (by exact hek) (by exact Nat.zero_le _)) (lw_V q1994 q1996 qs95 q102 q1997) hcV_X2_buildsBy ⟨Nat.le_of_ble_eq_true rfl, Nat.le_of_ble_eq_true rfl⟩ rfl (fun h hs => hs.obj) rfl rfl (Nat.le_of_ble_eq_true rfl) dX2_act_63 ⟨Nat.le_of_ble_eq_true rfl, Nat.le_of_ble_eq_true rfl⟩ (np := 66) rfl (k_RI ?_)
          refine g_goto F dX2_act_66 (np := 93) (by decide) ?_
          have hσ : (logS (sN σ 36 0) (buL kd kd)) = (gAct σ b a) := by unfold gAct; rw [pif_t ⟨hb1, bt3.mp c25⟩, hkd2]; unfold actL; first | (rw [if_pos c39]; done) | (rw [if_neg c39, if_pos c55]; done) | (rw [if_neg c39, if_neg c55, if_pos c71]; done) | (rw [if_neg c39, if_neg c55, if_neg c71]; done)
          have hv : buV kd kd b.toNatClampNeg x = rAct σ b a x := by unfold rAct; rw [pif_t ⟨hb1, bt3.mp c25⟩, hkd2]; unfold actV; first | (rw [if_pos c39]; done) | (rw [if_neg c39, if_pos c55]; done) | (rw [if_neg c39, if_neg c55, if_pos c71]; done) | (rw [if_neg c39, if_neg c55, if_neg c71]; done)
          exact g_iret F hr rfl (Nat.le_of_ble_eq_true rfl) (Nat.le_of_ble_eq_true rfl) dX2_act_93 (fun h hs => by rw [← hT]; exact ⟨congrArg (fun z => some (Value.int z)) hv, (hσ ▸ hs)⟩)
      · refine g_aload_n F dX2_act_42 rfl rfl (np := 43) rfl ?_
        refine g_iload_n F dX2_act_43 rfl rfl (np := 44) rfl ?_
        refine g_iload F dX2_act_44 rfl (np := 46) rfl ?_
        refine g_iload_n F dX2_act_46 rfl rfl (np := 47) rfl ?_
        refine g_runV F (C := RX2) (ci := 2) (T0 := TX2) (N := 42) (rest := []) (ct_X2_swearsBy hE (sN σ 36 0) b.toNatClampNeg kd x (by exact hkd) (by exact Nat.zero_le _)) (lw_V q1983 q1985 qs93 q102 q1986) hcV_X2_swearsBy ⟨Nat.le_of_ble_eq_true rfl, Nat.le_of_ble_eq_true rfl⟩ rfl (fun h hs => hs.obj) rfl rfl (Nat.le_of_ble_eq_true rfl) dX2_act_47 ⟨Nat.le_of_ble_eq_true rfl, Nat.le_of_ble_eq_true rfl⟩ (np := 50) rfl (k_RI ?_)
        refine g_goto F dX2_act_50 (np := 93) (by decide) ?_
        have hσ : (logS (sN σ 36 0) (swL kd)) = (gAct σ b a) := by unfold gAct; rw [pif_t ⟨hb1, bt3.mp c25⟩, hkd2]; unfold actL; first | (rw [if_pos c39]; done) | (rw [if_neg c39, if_pos c55]; done) | (rw [if_neg c39, if_neg c55, if_pos c71]; done) | (rw [if_neg c39, if_neg c55, if_neg c71]; done)
        have hv : swV kd b.toNatClampNeg x = rAct σ b a x := by unfold rAct; rw [pif_t ⟨hb1, bt3.mp c25⟩, hkd2]; unfold actV; first | (rw [if_pos c39]; done) | (rw [if_neg c39, if_pos c55]; done) | (rw [if_neg c39, if_neg c55, if_pos c71]; done) | (rw [if_neg c39, if_neg c55, if_neg c71]; done)
        exact g_iret F hr rfl (Nat.le_of_ble_eq_true rfl) (Nat.le_of_ble_eq_true rfl) dX2_act_93 (fun h hs => by rw [← hT]; exact ⟨congrArg (fun z => some (Value.int z)) hv, (hσ ▸ hs)⟩)
    · refine g_iconst F (v := (nI 0)) dX2_act_28 (by decide) (np := 29) rfl ?_
      have hσ : (sN σ 36 0) = (gAct σ b a) := by unfold gAct; first | (rw [pif_f (fun z => c16 ((bt_n1 (by omega)).mpr z.1))]; done) | (rw [pif_f (fun z => c25 (bt3.mpr z.2))]; done)
      have hv : nI (0) = rAct σ b a x := by unfold rAct; first | (rw [pif_f (fun z => c16 ((bt_n1 (by omega)).mpr z.1))]; rfl) | (rw [pif_f (fun z => c25 (bt3.mpr z.2))]; rfl)
      exact g_iret F hr rfl (Nat.le_of_ble_eq_true rfl) (Nat.le_of_ble_eq_true rfl) dX2_act_29 (fun h hs => by rw [← hT]; exact ⟨congrArg (fun z => some (Value.int z)) hv, (hσ ▸ hs)⟩)
