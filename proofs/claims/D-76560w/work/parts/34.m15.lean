/-! WALKS (printed by walk.py): sign, is, isDigit, codes, nameOf -/
set_option maxRecDepth 100000
set_option maxRecDepth 100000 in
theorem ct_X2_sign {l : Launch} {D : va_G} {E : State → Prop} {B : Nat} (hE : Stab E) {ad : Nat → Nat} {h0 : AH} (σ : MSt) (TT : Nat → Int32) (aa : Nat)  (hTT : TT = sgnT σ) (haa : aa = σ.1 15) (htp : σ.1 7 ≤ 120) (hat : σ.1 15 ≤ σ.1 7) : Ct l D E B yX2_sign cX2_sign 1 (some .int) 0 0 0 0 [.ref (ad 0)] (MH D ad h0 σ) (RI (TT aa) (MH D ad h0 σ)) := by
  refine Ct.of (nL := 1) (lv := [some (.ref (ad 0))]) (by decide) (Nat.le_of_ble_eq_true rfl) hE 0 rfl ?_
  generalize hT : RI (TT aa) (MH D ad h0 σ) = T
  intro zp ze zs zm zb zt zc F hr hnm
  generalize ([.ref (ad 0)] : List Value).toArray = za at F ⊢
  subst hTT
  subst haa
  refine g_aload_n F dX2_sign_0 rfl rfl (np := 1) rfl ?_
  refine h_get F (k := 15) (v := .int (nI (σ.1 15))) (by decide) rfl q1561 dX2_sign_1 (np := 4) rfl ?_
  refine g_aload_n F dX2_sign_4 rfl rfl (np := 5) rfl ?_
  refine h_get F (k := 7) (v := .int (nI (σ.1 7))) (by decide) rfl q1553 dX2_sign_5 (np := 8) rfl ?_
  refine g_icmp_geN F (by omega) (by omega) dX2_sign_8 (tp := 23) (by decide) (np := 11) rfl (fun c8 => ?_) (fun c8 => ?_)
  · refine g_iconst F (v := (-1)) dX2_sign_23 (by decide) (np := 24) rfl ?_
    have hv : -1 = (sgnT σ) (σ.1 15) := by first | (show _ = if _ then _ else _; rw [if_pos (by omega)]; done) | (show _ = if _ then _ else _; rw [if_neg (by omega)])
    exact g_iret F hr rfl (Nat.le_of_ble_eq_true rfl) (Nat.le_of_ble_eq_true rfl) dX2_sign_24 (fun h hs => by rw [← hT]; exact ⟨congrArg (fun z => some (Value.int z)) hv, hs⟩)
  · refine g_aload_n F dX2_sign_11 rfl rfl (np := 12) rfl ?_
    refine h_get F (k := 8) (v := .ref (ad 8)) (by decide) rfl q1554 dX2_sign_12 (np := 15) rfl ?_
    refine g_aload_n F dX2_sign_15 rfl rfl (np := 16) rfl ?_
    refine h_get F (k := 15) (v := .int (nI (σ.1 15))) (by decide) rfl q1561 dX2_sign_16 (np := 19) rfl ?_
    refine h_ald F (k := 8) (i := σ.1 15) (L := 120) (v := σ.2.1 8 (σ.1 15)) rfl rfl (by decide) (by omega) rfl rfl dX2_sign_19 (by decide) (by decide) (np := 20) rfl ?_
    refine g_goto F dX2_sign_20 (np := 24) (by decide) ?_
    have hv : σ.2.1 8 (σ.1 15) = (sgnT σ) (σ.1 15) := by first | (show _ = if _ then _ else _; rw [if_pos (by omega)]; done) | (show _ = if _ then _ else _; rw [if_neg (by omega)])
    exact g_iret F hr rfl (Nat.le_of_ble_eq_true rfl) (Nat.le_of_ble_eq_true rfl) dX2_sign_24 (fun h hs => by rw [← hT]; exact ⟨congrArg (fun z => some (Value.int z)) hv, hs⟩)

set_option maxRecDepth 100000 in
theorem ct_X2_is {l : Launch} {D : va_G} {E : State → Prop} {B : Nat} (hE : Stab E) {ad : Nat → Nat} {h0 : AH} (σ : MSt) (TT : Nat → Int32) (aa : Nat) (c : Int32) (hTT : TT = sgnT σ) (haa : aa = σ.1 15) (htp : σ.1 7 ≤ 120) (hat : σ.1 15 ≤ σ.1 7) : Ct l D E B yX2_is cX2_is 2 (some .boolean) 1 20 0 0 [.ref (ad 0), .int c] (MH D ad h0 σ) (RI (bI (TT aa = c)) (MH D ad h0 (isS σ c))) := by
  refine Ct.of (nL := 2) (lv := [some (.ref (ad 0)), some (.int c)]) (by decide) (Nat.le_of_ble_eq_true rfl) hE 0 rfl ?_
  generalize hT : RI (bI (TT aa = c)) (MH D ad h0 (isS σ c)) = T
  intro zp ze zs zm zb zt zc F hr hnm
  generalize ([.ref (ad 0), .int c] : List Value).toArray = za at F ⊢
  subst hTT
  subst haa
  refine g_aload_n F dX2_is_0 rfl rfl (np := 1) rfl ?_
  refine g_runV F (C := RX2) (ci := 2) (T0 := TX2) (N := 42) (rest := []) (ct_X2_sign hE σ ((sgnT σ)) ((σ.1 15)) (by first | rfl | exact htp | exact hop | exact hat | exact hcd | omega | (rw [emS_15, emS_7]; omega) | (rw [emS_17, emS_15]; (try simp only [List.length_append, List.length_cons, List.length_nil]); omega) | (rw [emS_17]; (try simp only [List.length_append, List.length_cons, List.length_nil]); omega) | (rw [emS_15, emS_7]; show _ ≤ σ.1 7; omega) | (rw [emS_17, emS_15]; show σ.1 17 + _ ≤ _; (try simp only [List.length_append, List.length_cons, List.length_nil]); omega) | (rw [emS_17]; show σ.1 17 + _ < 200; (try simp only [List.length_append, List.length_cons, List.length_nil]); omega) | (show σ.1 16 + 1 + _ = 6; omega)) (by first | rfl | exact htp | exact hop | exact hat | exact hcd | omega | (rw [emS_15, emS_7]; omega) | (rw [emS_17, emS_15]; (try simp only [List.length_append, List.length_cons, List.length_nil]); omega) | (rw [emS_17]; (try simp only [List.length_append, List.length_cons, List.length_nil]); omega) | (rw [emS_15, emS_7]; show _ ≤ σ.1 7; omega) | (rw [emS_17, emS_15]; show σ.1 17 + _ ≤ _; (try simp only [List.length_append, List.length_cons, List.length_nil]); omega) | (rw [emS_17]; show σ.1 17 + _ < 200; (try simp only [List.length_append, List.length_cons, List.length_nil]); omega) | (show σ.1 16 + 1 + _ = 6; omega)) (by first | rfl | exact htp | exact hop | exact hat | exact hcd | omega | (rw [emS_15, emS_7]; omega) | (rw [emS_17, emS_15]; (try simp only [List.length_append, List.length_cons, List.length_nil]); omega) | (rw [emS_17]; (try simp only [List.length_append, List.length_cons, List.length_nil]); omega) | (rw [emS_15, emS_7]; show _ ≤ σ.1 7; omega) | (rw [emS_17, emS_15]; show σ.1 17 + _ ≤ _; (try simp only [List.length_append, List.length_cons, List.length_nil]); omega) | (rw [emS_17]; show σ.1 17 + _ < 200; (try simp only [List.length_append, List.length_cons, List.length_nil]); omega) | (show σ.1 16 + 1 + _ = 6; omega)) (by first | rfl | exact htp | exact hop | exact hat | exact hcd | omega | (rw [emS_15, emS_7]; omega) | (rw [emS_17, emS_15]; (try simp only [List.length_append, List.length_cons, List.length_nil]); omega) | (rw [emS_17]; (try simp only [List.length_append, List.length_cons, List.length_nil]); omega) | (rw [emS_15, emS_7]; show _ ≤ σ.1 7; omega) | (rw [emS_17, emS_15]; show σ.1 17 + _ ≤ _; (try simp only [List.length_append, List.length_cons, List.length_nil]); omega) | (rw [emS_17]; show σ.1 17 + _ < 200; (try simp only [List.length_append, List.length_cons, List.length_nil]); omega) | (show σ.1 16 + 1 + _ = 6; omega))) (lw_V q1788 q1790 qs70 q102 q1791) hcV_X2_sign ⟨Nat.le_of_ble_eq_true rfl, Nat.le_of_ble_eq_true rfl⟩ rfl (fun h hs => hs.obj) rfl rfl (Nat.le_of_ble_eq_true rfl) dX2_is_1 ⟨Nat.le_of_ble_eq_true rfl, Nat.le_of_ble_eq_true rfl⟩ (np := 4) rfl (k_RI ?_)
  refine g_iload_n F dX2_is_4 rfl rfl (np := 5) rfl ?_
  refine g_icmp_eq F dX2_is_5 (tp := 10) (by decide) (np := 8) rfl (fun c5 => ?_) (fun c5 => ?_)
  · refine g_aload_n F dX2_is_10 rfl rfl (np := 11) rfl ?_
    refine g_dup F dX2_is_11 rfl (np := 12) rfl ?_
    refine h_get F (k := 15) (v := .int (nI (σ.1 15))) (by decide) rfl q1561 dX2_is_12 (np := 15) rfl ?_
    refine g_iconst F (v := (nI 1)) dX2_is_15 (by decide) (np := 16) rfl ?_
    refine g_iaddN F dX2_is_16 (np := 17) rfl ?_
    refine h_put F (k := 15) (n := (σ.1 15) + 1) (ty := .int) rfl (by decide) (mset_15 _ _ _) rfl rfl rfl rfl q1561 dX2_is_17 (np := 20) rfl ?_
    refine g_iconst F (v := (nI 1)) dX2_is_20 (by decide) (np := 21) rfl ?_
    have hσ : (sN σ 15 ((σ.1 15) + 1)) = (isS σ c) := by unfold isS; rw [pif_t c5]
    have hv : (nI (1) : Int32) = bI ((sgnT σ) (σ.1 15) = c) := (show (1 : Int32) = _ from (bI_t (by assumption)).symm)
    exact g_iret F hr rfl (Nat.le_of_ble_eq_true rfl) (Nat.le_of_ble_eq_true rfl) dX2_is_21 (fun h hs => by rw [← hT]; exact ⟨congrArg (fun z => some (Value.int z)) hv, (hσ ▸ hs)⟩)
  · refine g_iconst F (v := (nI 0)) dX2_is_8 (by decide) (np := 9) rfl ?_
    have hσ : σ = (isS σ c) := by unfold isS; rw [pif_f c5]
    have hv : (nI (0) : Int32) = bI ((sgnT σ) (σ.1 15) = c) := (show (0 : Int32) = _ from (bI_f (by assumption)).symm)
    exact g_iret F hr rfl (Nat.le_of_ble_eq_true rfl) (Nat.le_of_ble_eq_true rfl) dX2_is_9 (fun h hs => by rw [← hT]; exact ⟨congrArg (fun z => some (Value.int z)) hv, (hσ ▸ hs)⟩)

set_option maxRecDepth 100000 in
theorem ct_X2_isDigit {l : Launch} {D : va_G} {E : State → Prop} {B : Nat} (hE : Stab E) {ad : Nat → Nat} {h0 : AH} (σ : MSt) (TT : Nat → Int32) (aa : Nat)  (hTT : TT = sgnT σ) (haa : aa = σ.1 15) (htp : σ.1 7 ≤ 120) (hat : σ.1 15 ≤ σ.1 7) : Ct l D E B yX2_isDigit cX2_isDigit 1 (some .boolean) 1 20 0 0 [.ref (ad 0)] (MH D ad h0 σ) (RI (bI (isDg (TT aa) = true)) (MH D ad h0 σ)) := by
  refine Ct.of (nL := 1) (lv := [some (.ref (ad 0))]) (by decide) (Nat.le_of_ble_eq_true rfl) hE 0 rfl ?_
  generalize hT : RI (bI (isDg (TT aa) = true)) (MH D ad h0 σ) = T
  intro zp ze zs zm zb zt zc F hr hnm
  generalize ([.ref (ad 0)] : List Value).toArray = za at F ⊢
  subst hTT
  subst haa
  refine g_aload_n F dX2_isDigit_0 rfl rfl (np := 1) rfl ?_
  refine g_runV F (C := RX2) (ci := 2) (T0 := TX2) (N := 42) (rest := []) (ct_X2_sign hE σ ((sgnT σ)) ((σ.1 15)) (by first | rfl | exact htp | exact hop | exact hat | exact hcd | omega | (rw [emS_15, emS_7]; omega) | (rw [emS_17, emS_15]; (try simp only [List.length_append, List.length_cons, List.length_nil]); omega) | (rw [emS_17]; (try simp only [List.length_append, List.length_cons, List.length_nil]); omega) | (rw [emS_15, emS_7]; show _ ≤ σ.1 7; omega) | (rw [emS_17, emS_15]; show σ.1 17 + _ ≤ _; (try simp only [List.length_append, List.length_cons, List.length_nil]); omega) | (rw [emS_17]; show σ.1 17 + _ < 200; (try simp only [List.length_append, List.length_cons, List.length_nil]); omega) | (show σ.1 16 + 1 + _ = 6; omega)) (by first | rfl | exact htp | exact hop | exact hat | exact hcd | omega | (rw [emS_15, emS_7]; omega) | (rw [emS_17, emS_15]; (try simp only [List.length_append, List.length_cons, List.length_nil]); omega) | (rw [emS_17]; (try simp only [List.length_append, List.length_cons, List.length_nil]); omega) | (rw [emS_15, emS_7]; show _ ≤ σ.1 7; omega) | (rw [emS_17, emS_15]; show σ.1 17 + _ ≤ _; (try simp only [List.length_append, List.length_cons, List.length_nil]); omega) | (rw [emS_17]; show σ.1 17 + _ < 200; (try simp only [List.length_append, List.length_cons, List.length_nil]); omega) | (show σ.1 16 + 1 + _ = 6; omega)) (by first | rfl | exact htp | exact hop | exact hat | exact hcd | omega | (rw [emS_15, emS_7]; omega) | (rw [emS_17, emS_15]; (try simp only [List.length_append, List.length_cons, List.length_nil]); omega) | (rw [emS_17]; (try simp only [List.length_append, List.length_cons, List.length_nil]); omega) | (rw [emS_15, emS_7]; show _ ≤ σ.1 7; omega) | (rw [emS_17, emS_15]; show σ.1 17 + _ ≤ _; (try simp only [List.length_append, List.length_cons, List.length_nil]); omega) | (rw [emS_17]; show σ.1 17 + _ < 200; (try simp only [List.length_append, List.length_cons, List.length_nil]); omega) | (show σ.1 16 + 1 + _ = 6; omega)) (by first | rfl | exact htp | exact hop | exact hat | exact hcd | omega | (rw [emS_15, emS_7]; omega) | (rw [emS_17, emS_15]; (try simp only [List.length_append, List.length_cons, List.length_nil]); omega) | (rw [emS_17]; (try simp only [List.length_append, List.length_cons, List.length_nil]); omega) | (rw [emS_15, emS_7]; show _ ≤ σ.1 7; omega) | (rw [emS_17, emS_15]; show σ.1 17 + _ ≤ _; (try simp only [List.length_append, List.length_cons, List.length_nil]); omega) | (rw [emS_17]; show σ.1 17 + _ < 200; (try simp only [List.length_append, List.length_cons, List.length_nil]); omega) | (show σ.1 16 + 1 + _ = 6; omega))) (lw_V q1788 q1790 qs70 q102 q1791) hcV_X2_sign ⟨Nat.le_of_ble_eq_true rfl, Nat.le_of_ble_eq_true rfl⟩ rfl (fun h hs => hs.obj) rfl rfl (Nat.le_of_ble_eq_true rfl) dX2_isDigit_1 ⟨Nat.le_of_ble_eq_true rfl, Nat.le_of_ble_eq_true rfl⟩ (np := 4) rfl (k_RI ?_)
  refine g_bipush F (v := (nI 48)) dX2_isDigit_4 (by decide) (np := 6) rfl ?_
  refine g_icmp_lt F dX2_isDigit_6 (tp := 22) (by decide) (np := 9) rfl (fun c6 => ?_) (fun c6 => ?_)
  · refine g_iconst F (v := (nI 0)) dX2_isDigit_22 (by decide) (np := 23) rfl ?_
    have hv : (nI (0) : Int32) = bI (isDg ((sgnT σ) (σ.1 15)) = true) := (show (0 : Int32) = _ from (bI_f (by first | exact isDg_iff.mpr ⟨by first | exact Int32.not_lt.mp c6 | exact c6, by first | exact Int32.not_lt.mp c15 | exact c15⟩ | exact fun z => absurd c6 (Int32.not_lt.mpr (isDg_iff.mp z).1) | exact fun z => absurd c15 (Int32.not_lt.mpr (isDg_iff.mp z).2))).symm)
    exact g_iret F hr rfl (Nat.le_of_ble_eq_true rfl) (Nat.le_of_ble_eq_true rfl) dX2_isDigit_23 (fun h hs => by rw [← hT]; exact ⟨congrArg (fun z => some (Value.int z)) hv, hs⟩)
  · refine g_aload_n F dX2_isDigit_9 rfl rfl (np := 10) rfl ?_
    refine g_runV F (C := RX2) (ci := 2) (T0 := TX2) (N := 42) (rest := []) (ct_X2_sign hE σ ((sgnT σ)) ((σ.1 15)) (by first | rfl | exact htp | exact hop | exact hat | exact hcd | omega | (rw [emS_15, emS_7]; omega) | (rw [emS_17, emS_15]; (try simp only [List.length_append, List.length_cons, List.length_nil]); omega) | (rw [emS_17]; (try simp only [List.length_append, List.length_cons, List.length_nil]); omega) | (rw [emS_15, emS_7]; show _ ≤ σ.1 7; omega) | (rw [emS_17, emS_15]; show σ.1 17 + _ ≤ _; (try simp only [List.length_append, List.length_cons, List.length_nil]); omega) | (rw [emS_17]; show σ.1 17 + _ < 200; (try simp only [List.length_append, List.length_cons, List.length_nil]); omega) | (show σ.1 16 + 1 + _ = 6; omega)) (by first | rfl | exact htp | exact hop | exact hat | exact hcd | omega | (rw [emS_15, emS_7]; omega) | (rw [emS_17, emS_15]; (try simp only [List.length_append, List.length_cons, List.length_nil]); omega) | (rw [emS_17]; (try simp only [List.length_append, List.length_cons, List.length_nil]); omega) | (rw [emS_15, emS_7]; show _ ≤ σ.1 7; omega) | (rw [emS_17, emS_15]; show σ.1 17 + _ ≤ _; (try simp only [List.length_append, List.length_cons, List.length_nil]); omega) | (rw [emS_17]; show σ.1 17 + _ < 200; (try simp only [List.length_append, List.length_cons, List.length_nil]); omega) | (show σ.1 16 + 1 + _ = 6; omega)) (by first | rfl | exact htp | exact hop | exact hat | exact hcd | omega | (rw [emS_15, emS_7]; omega) | (rw [emS_17, emS_15]; (try simp only [List.length_append, List.length_cons, List.length_nil]); omega) | (rw [emS_17]; (try simp only [List.length_append, List.length_cons, List.length_nil]); omega) | (rw [emS_15, emS_7]; show _ ≤ σ.1 7; omega) | (rw [emS_17, emS_15]; show σ.1 17 + _ ≤ _; (try simp only [List.length_append, List.length_cons, List.length_nil]); omega) | (rw [emS_17]; show σ.1 17 + _ < 200; (try simp only [List.length_append, List.length_cons, List.length_nil]); omega) | (show σ.1 16 + 1 + _ = 6; omega)) (by first | rfl | exact htp | exact hop | exact hat | exact hcd | omega | (rw [emS_15, emS_7]; omega) | (rw [emS_17, emS_15]; (try simp only [List.length_append, List.length_cons, List.length_nil]); omega) | (rw [emS_17]; (try simp only [List.length_append, List.length_cons, List.length_nil]); omega) | (rw [emS_15, emS_7]; show _ ≤ σ.1 7; omega) | (rw [emS_17, emS_15]; show σ.1 17 + _ ≤ _; (try simp only [List.length_append, List.length_cons, List.length_nil]); omega) | (rw [emS_17]; show σ.1 17 + _ < 200; (try simp only [List.length_append, List.length_cons, List.length_nil]); omega) | (show σ.1 16 + 1 + _ = 6; omega))) (lw_V q1788 q1790 qs70 q102 q1791) hcV_X2_sign ⟨Nat.le_of_ble_eq_true rfl, Nat.le_of_ble_eq_true rfl⟩ rfl (fun h hs => hs.obj) rfl rfl (Nat.le_of_ble_eq_true rfl) dX2_isDigit_10 ⟨Nat.le_of_ble_eq_true rfl, Nat.le_of_ble_eq_true rfl⟩ (np := 13) rfl (k_RI ?_)
    refine g_bipush F (v := (nI 57)) dX2_isDigit_13 (by decide) (np := 15) rfl ?_
    refine g_icmp_gt F dX2_isDigit_15 (tp := 22) (by decide) (np := 18) rfl (fun c15 => ?_) (fun c15 => ?_)
    · refine g_iconst F (v := (nI 0)) dX2_isDigit_22 (by decide) (np := 23) rfl ?_
      have hv : (nI (0) : Int32) = bI (isDg ((sgnT σ) (σ.1 15)) = true) := (show (0 : Int32) = _ from (bI_f (by first | exact isDg_iff.mpr ⟨by first | exact Int32.not_lt.mp c6 | exact c6, by first | exact Int32.not_lt.mp c15 | exact c15⟩ | exact fun z => absurd c6 (Int32.not_lt.mpr (isDg_iff.mp z).1) | exact fun z => absurd c15 (Int32.not_lt.mpr (isDg_iff.mp z).2))).symm)
      exact g_iret F hr rfl (Nat.le_of_ble_eq_true rfl) (Nat.le_of_ble_eq_true rfl) dX2_isDigit_23 (fun h hs => by rw [← hT]; exact ⟨congrArg (fun z => some (Value.int z)) hv, hs⟩)
    · refine g_iconst F (v := (nI 1)) dX2_isDigit_18 (by decide) (np := 19) rfl ?_
      refine g_goto F dX2_isDigit_19 (np := 23) (by decide) ?_
      have hv : (nI (1) : Int32) = bI (isDg ((sgnT σ) (σ.1 15)) = true) := (show (1 : Int32) = _ from (bI_t (by first | exact isDg_iff.mpr ⟨by first | exact Int32.not_lt.mp c6 | exact c6, by first | exact Int32.not_lt.mp c15 | exact c15⟩ | exact fun z => absurd c6 (Int32.not_lt.mpr (isDg_iff.mp z).1) | exact fun z => absurd c15 (Int32.not_lt.mpr (isDg_iff.mp z).2))).symm)
      exact g_iret F hr rfl (Nat.le_of_ble_eq_true rfl) (Nat.le_of_ble_eq_true rfl) dX2_isDigit_23 (fun h hs => by rw [← hT]; exact ⟨congrArg (fun z => some (Value.int z)) hv, hs⟩)

set_option maxRecDepth 100000 in
theorem ct_X2_codes {l : Launch} {D : va_G} {E : State → Prop} {B : Nat} (hE : Stab E) {ad : Nat → Nat} {h0 : AH} (σ : MSt) (aa : Nat) (c : Nat) (haa : aa = σ.1 15) (hcd : σ.1 17 < 200) : Ct l D E B yX2_codes cX2_codes 2 (some .boolean) 0 0 0 0 [.ref (ad 0), .int (nI c)] (MH D ad h0 σ) (RI (nI (1)) (MH D ad h0 (emS σ aa [c]))) := by
  refine Ct.of (nL := 2) (lv := [some (.ref (ad 0)), some (.int (nI c))]) (by decide) (Nat.le_of_ble_eq_true rfl) hE 0 rfl ?_
  generalize hT : RI (nI (1)) (MH D ad h0 (emS σ aa [c])) = T
  intro zp ze zs zm zb zt zc F hr hnm
  generalize ([.ref (ad 0), .int (nI c)] : List Value).toArray = za at F ⊢
  subst haa
  refine g_aload_n F dX2_codes_0 rfl rfl (np := 1) rfl ?_
  refine h_get F (k := 22) (v := .ref (ad 22)) (by decide) rfl q1568 dX2_codes_1 (np := 4) rfl ?_
  refine g_aload_n F dX2_codes_4 rfl rfl (np := 5) rfl ?_
  refine g_dup F dX2_codes_5 rfl (np := 6) rfl ?_
  refine h_get F (k := 17) (v := .int (nI (σ.1 17))) (by decide) rfl q1563 dX2_codes_6 (np := 9) rfl ?_
  refine g_dup_x1 F dX2_codes_9 rfl rfl (np := 10) rfl ?_
  refine g_iconst F (v := (nI 1)) dX2_codes_10 (by decide) (np := 11) rfl ?_
  refine g_iaddN F dX2_codes_11 (np := 12) rfl ?_
  refine h_put F (k := 17) (n := (σ.1 17) + 1) (ty := .int) rfl (by decide) (mset_17 _ _ _) rfl rfl rfl rfl q1563 dX2_codes_12 (np := 15) rfl ?_
  refine g_iload_n F dX2_codes_15 rfl rfl (np := 16) rfl ?_
  refine h_ast F (k := 22) (i := σ.1 17) (L := 200) rfl rfl (by decide) (by omega) rfl dX2_codes_16 (by decide) (by decide) (np := 17) rfl ?_
  refine g_iconst F (v := (nI 1)) dX2_codes_17 (by decide) (np := 18) rfl ?_
  have hσ : (sA (sN σ 17 ((σ.1 17) + 1)) 22 (σ.1 17) (nI (c))) = (emS σ (σ.1 15) [c]) := by exact emS_c _ _
  have hv : nI (1) = nI (1) := congrArg nI (by rfl)
  exact g_iret F hr rfl (Nat.le_of_ble_eq_true rfl) (Nat.le_of_ble_eq_true rfl) dX2_codes_18 (fun h hs => by rw [← hT]; exact ⟨congrArg (fun z => some (Value.int z)) hv, (hσ ▸ hs)⟩)

set_option maxRecDepth 100000 in
theorem ct_X2_nameOf {l : Launch} {D : va_G} {E : State → Prop} {B : Nat} (hE : Stab E) {S : AH → Prop}  (x : Int32) : Ct l D E B yX2_nameOf cX2_nameOf 1 (some .int) 0 0 0 0 [.int x] (S) (RI (nameV x) (S)) := by
  refine Ct.of (nL := 1) (lv := [some (.int x)]) (by decide) (Nat.le_of_ble_eq_true rfl) hE 0 rfl ?_
  generalize hT : RI (nameV x) (S) = T
  intro zp ze zs zm zb zt zc F hr hnm
  generalize ([.int x] : List Value).toArray = za at F ⊢
  refine g_iload_n F dX2_nameOf_0 rfl rfl (np := 1) rfl ?_
  by_cases k1_100 : x = 100
  · refine g_tabIn F (x := x) (v := 100) k1_100 (lo := 100) dX2_nameOf_1 (j := 0) (by decide) (by decide) (by decide) rfl (np := 98) (by decide) ?_
    refine g_iconst F (v := (nI 1)) dX2_nameOf_98 (by decide) (np := 99) rfl ?_
    have hv : nI (1) = nameV x := by unfold nameV nameK; simp_all
    exact g_iret F hr rfl (Nat.le_of_ble_eq_true rfl) (Nat.le_of_ble_eq_true rfl) dX2_nameOf_99 (fun h hs => by rw [← hT]; exact ⟨congrArg (fun z => some (Value.int z)) hv, hs⟩)
  by_cases k1_101 : x = 101
  · refine g_tabIn F (x := x) (v := 101) k1_101 (lo := 100) dX2_nameOf_1 (j := 1) (by decide) (by decide) (by decide) rfl (np := 108) (by decide) ?_
    refine g_iconst F (v := (-1)) dX2_nameOf_108 (by decide) (np := 109) rfl ?_
    have hv : -1 = nameV x := by unfold nameV nameK; simp_all
    exact g_iret F hr rfl (Nat.le_of_ble_eq_true rfl) (Nat.le_of_ble_eq_true rfl) dX2_nameOf_109 (fun h hs => by rw [← hT]; exact ⟨congrArg (fun z => some (Value.int z)) hv, hs⟩)
  by_cases k1_102 : x = 102
  · refine g_tabIn F (x := x) (v := 102) k1_102 (lo := 100) dX2_nameOf_1 (j := 2) (by decide) (by decide) (by decide) rfl (np := 108) (by decide) ?_
    refine g_iconst F (v := (-1)) dX2_nameOf_108 (by decide) (np := 109) rfl ?_
    have hv : -1 = nameV x := by unfold nameV nameK; simp_all
    exact g_iret F hr rfl (Nat.le_of_ble_eq_true rfl) (Nat.le_of_ble_eq_true rfl) dX2_nameOf_109 (fun h hs => by rw [← hT]; exact ⟨congrArg (fun z => some (Value.int z)) hv, hs⟩)
  by_cases k1_103 : x = 103
  · refine g_tabIn F (x := x) (v := 103) k1_103 (lo := 100) dX2_nameOf_1 (j := 3) (by decide) (by decide) (by decide) rfl (np := 108) (by decide) ?_
    refine g_iconst F (v := (-1)) dX2_nameOf_108 (by decide) (np := 109) rfl ?_
    have hv : -1 = nameV x := by unfold nameV nameK; simp_all
    exact g_iret F hr rfl (Nat.le_of_ble_eq_true rfl) (Nat.le_of_ble_eq_true rfl) dX2_nameOf_109 (fun h hs => by rw [← hT]; exact ⟨congrArg (fun z => some (Value.int z)) hv, hs⟩)
  by_cases k1_104 : x = 104
  · refine g_tabIn F (x := x) (v := 104) k1_104 (lo := 100) dX2_nameOf_1 (j := 4) (by decide) (by decide) (by decide) rfl (np := 108) (by decide) ?_
    refine g_iconst F (v := (-1)) dX2_nameOf_108 (by decide) (np := 109) rfl ?_
    have hv : -1 = nameV x := by unfold nameV nameK; simp_all
    exact g_iret F hr rfl (Nat.le_of_ble_eq_true rfl) (Nat.le_of_ble_eq_true rfl) dX2_nameOf_109 (fun h hs => by rw [← hT]; exact ⟨congrArg (fun z => some (Value.int z)) hv, hs⟩)
  by_cases k1_105 : x = 105
  · refine g_tabIn F (x := x) (v := 105) k1_105 (lo := 100) dX2_nameOf_1 (j := 5) (by decide) (by decide) (by decide) rfl (np := 108) (by decide) ?_
    refine g_iconst F (v := (-1)) dX2_nameOf_108 (by decide) (np := 109) rfl ?_
    have hv : -1 = nameV x := by unfold nameV nameK; simp_all
    exact g_iret F hr rfl (Nat.le_of_ble_eq_true rfl) (Nat.le_of_ble_eq_true rfl) dX2_nameOf_109 (fun h hs => by rw [← hT]; exact ⟨congrArg (fun z => some (Value.int z)) hv, hs⟩)
  by_cases k1_106 : x = 106
  · refine g_tabIn F (x := x) (v := 106) k1_106 (lo := 100) dX2_nameOf_1 (j := 6) (by decide) (by decide) (by decide) rfl (np := 108) (by decide) ?_
    refine g_iconst F (v := (-1)) dX2_nameOf_108 (by decide) (np := 109) rfl ?_
    have hv : -1 = nameV x := by unfold nameV nameK; simp_all
    exact g_iret F hr rfl (Nat.le_of_ble_eq_true rfl) (Nat.le_of_ble_eq_true rfl) dX2_nameOf_109 (fun h hs => by rw [← hT]; exact ⟨congrArg (fun z => some (Value.int z)) hv, hs⟩)
  by_cases k1_107 : x = 107
  · refine g_tabIn F (x := x) (v := 107) k1_107 (lo := 100) dX2_nameOf_1 (j := 7) (by decide) (by decide) (by decide) rfl (np := 102) (by decide) ?_
    refine g_iconst F (v := (nI 3)) dX2_nameOf_102 (by decide) (np := 103) rfl ?_
    have hv : nI (3) = nameV x := by unfold nameV nameK; simp_all
    exact g_iret F hr rfl (Nat.le_of_ble_eq_true rfl) (Nat.le_of_ble_eq_true rfl) dX2_nameOf_103 (fun h hs => by rw [← hT]; exact ⟨congrArg (fun z => some (Value.int z)) hv, hs⟩)
  by_cases k1_108 : x = 108
  · refine g_tabIn F (x := x) (v := 108) k1_108 (lo := 100) dX2_nameOf_1 (j := 8) (by decide) (by decide) (by decide) rfl (np := 100) (by decide) ?_
    refine g_iconst F (v := (nI 2)) dX2_nameOf_100 (by decide) (np := 101) rfl ?_
    have hv : nI (2) = nameV x := by unfold nameV nameK; simp_all
    exact g_iret F hr rfl (Nat.le_of_ble_eq_true rfl) (Nat.le_of_ble_eq_true rfl) dX2_nameOf_101 (fun h hs => by rw [← hT]; exact ⟨congrArg (fun z => some (Value.int z)) hv, hs⟩)
  by_cases k1_109 : x = 109
  · refine g_tabIn F (x := x) (v := 109) k1_109 (lo := 100) dX2_nameOf_1 (j := 9) (by decide) (by decide) (by decide) rfl (np := 104) (by decide) ?_
    refine g_iconst F (v := (nI 4)) dX2_nameOf_104 (by decide) (np := 105) rfl ?_
    have hv : nI (4) = nameV x := by unfold nameV nameK; simp_all
    exact g_iret F hr rfl (Nat.le_of_ble_eq_true rfl) (Nat.le_of_ble_eq_true rfl) dX2_nameOf_105 (fun h hs => by rw [← hT]; exact ⟨congrArg (fun z => some (Value.int z)) hv, hs⟩)
  by_cases k1_110 : x = 110
  · refine g_tabIn F (x := x) (v := 110) k1_110 (lo := 100) dX2_nameOf_1 (j := 10) (by decide) (by decide) (by decide) rfl (np := 106) (by decide) ?_
    refine g_iconst F (v := (nI 5)) dX2_nameOf_106 (by decide) (np := 107) rfl ?_
    have hv : nI (5) = nameV x := by unfold nameV nameK; simp_all
    exact g_iret F hr rfl (Nat.le_of_ble_eq_true rfl) (Nat.le_of_ble_eq_true rfl) dX2_nameOf_107 (fun h hs => by rw [← hT]; exact ⟨congrArg (fun z => some (Value.int z)) hv, hs⟩)
  by_cases k1_111 : x = 111
  · refine g_tabIn F (x := x) (v := 111) k1_111 (lo := 100) dX2_nameOf_1 (j := 11) (by decide) (by decide) (by decide) rfl (np := 108) (by decide) ?_
    refine g_iconst F (v := (-1)) dX2_nameOf_108 (by decide) (np := 109) rfl ?_
    have hv : -1 = nameV x := by unfold nameV nameK; simp_all
    exact g_iret F hr rfl (Nat.le_of_ble_eq_true rfl) (Nat.le_of_ble_eq_true rfl) dX2_nameOf_109 (fun h hs => by rw [← hT]; exact ⟨congrArg (fun z => some (Value.int z)) hv, hs⟩)
  by_cases k1_112 : x = 112
  · refine g_tabIn F (x := x) (v := 112) k1_112 (lo := 100) dX2_nameOf_1 (j := 12) (by decide) (by decide) (by decide) rfl (np := 108) (by decide) ?_
    refine g_iconst F (v := (-1)) dX2_nameOf_108 (by decide) (np := 109) rfl ?_
    have hv : -1 = nameV x := by unfold nameV nameK; simp_all
    exact g_iret F hr rfl (Nat.le_of_ble_eq_true rfl) (Nat.le_of_ble_eq_true rfl) dX2_nameOf_109 (fun h hs => by rw [← hT]; exact ⟨congrArg (fun z => some (Value.int z)) hv, hs⟩)
  by_cases k1_113 : x = 113
  · refine g_tabIn F (x := x) (v := 113) k1_113 (lo := 100) dX2_nameOf_1 (j := 13) (by decide) (by decide) (by decide) rfl (np := 108) (by decide) ?_
    refine g_iconst F (v := (-1)) dX2_nameOf_108 (by decide) (np := 109) rfl ?_
    have hv : -1 = nameV x := by unfold nameV nameK; simp_all
    exact g_iret F hr rfl (Nat.le_of_ble_eq_true rfl) (Nat.le_of_ble_eq_true rfl) dX2_nameOf_109 (fun h hs => by rw [← hT]; exact ⟨congrArg (fun z => some (Value.int z)) hv, hs⟩)
  by_cases k1_114 : x = 114
  · refine g_tabIn F (x := x) (v := 114) k1_114 (lo := 100) dX2_nameOf_1 (j := 14) (by decide) (by decide) (by decide) rfl (np := 108) (by decide) ?_
    refine g_iconst F (v := (-1)) dX2_nameOf_108 (by decide) (np := 109) rfl ?_
    have hv : -1 = nameV x := by unfold nameV nameK; simp_all
    exact g_iret F hr rfl (Nat.le_of_ble_eq_true rfl) (Nat.le_of_ble_eq_true rfl) dX2_nameOf_109 (fun h hs => by rw [← hT]; exact ⟨congrArg (fun z => some (Value.int z)) hv, hs⟩)
  by_cases k1_115 : x = 115
  · refine g_tabIn F (x := x) (v := 115) k1_115 (lo := 100) dX2_nameOf_1 (j := 15) (by decide) (by decide) (by decide) rfl (np := 108) (by decide) ?_
    refine g_iconst F (v := (-1)) dX2_nameOf_108 (by decide) (np := 109) rfl ?_
    have hv : -1 = nameV x := by unfold nameV nameK; simp_all
    exact g_iret F hr rfl (Nat.le_of_ble_eq_true rfl) (Nat.le_of_ble_eq_true rfl) dX2_nameOf_109 (fun h hs => by rw [← hT]; exact ⟨congrArg (fun z => some (Value.int z)) hv, hs⟩)
  by_cases k1_116 : x = 116
  · refine g_tabIn F (x := x) (v := 116) k1_116 (lo := 100) dX2_nameOf_1 (j := 16) (by decide) (by decide) (by decide) rfl (np := 108) (by decide) ?_
    refine g_iconst F (v := (-1)) dX2_nameOf_108 (by decide) (np := 109) rfl ?_
    have hv : -1 = nameV x := by unfold nameV nameK; simp_all
    exact g_iret F hr rfl (Nat.le_of_ble_eq_true rfl) (Nat.le_of_ble_eq_true rfl) dX2_nameOf_109 (fun h hs => by rw [← hT]; exact ⟨congrArg (fun z => some (Value.int z)) hv, hs⟩)
  by_cases k1_117 : x = 117
  · refine g_tabIn F (x := x) (v := 117) k1_117 (lo := 100) dX2_nameOf_1 (j := 17) (by decide) (by decide) (by decide) rfl (np := 108) (by decide) ?_
    refine g_iconst F (v := (-1)) dX2_nameOf_108 (by decide) (np := 109) rfl ?_
    have hv : -1 = nameV x := by unfold nameV nameK; simp_all
    exact g_iret F hr rfl (Nat.le_of_ble_eq_true rfl) (Nat.le_of_ble_eq_true rfl) dX2_nameOf_109 (fun h hs => by rw [← hT]; exact ⟨congrArg (fun z => some (Value.int z)) hv, hs⟩)
  by_cases k1_118 : x = 118
  · refine g_tabIn F (x := x) (v := 118) k1_118 (lo := 100) dX2_nameOf_1 (j := 18) (by decide) (by decide) (by decide) rfl (np := 108) (by decide) ?_
    refine g_iconst F (v := (-1)) dX2_nameOf_108 (by decide) (np := 109) rfl ?_
    have hv : -1 = nameV x := by unfold nameV nameK; simp_all
    exact g_iret F hr rfl (Nat.le_of_ble_eq_true rfl) (Nat.le_of_ble_eq_true rfl) dX2_nameOf_109 (fun h hs => by rw [← hT]; exact ⟨congrArg (fun z => some (Value.int z)) hv, hs⟩)
  by_cases k1_119 : x = 119
  · refine g_tabIn F (x := x) (v := 119) k1_119 (lo := 100) dX2_nameOf_1 (j := 19) (by decide) (by decide) (by decide) rfl (np := 96) (by decide) ?_
    refine g_iconst F (v := (nI 0)) dX2_nameOf_96 (by decide) (np := 97) rfl ?_
    have hv : nI (0) = nameV x := by unfold nameV nameK; simp_all
    exact g_iret F hr rfl (Nat.le_of_ble_eq_true rfl) (Nat.le_of_ble_eq_true rfl) dX2_nameOf_97 (fun h hs => by rw [← hT]; exact ⟨congrArg (fun z => some (Value.int z)) hv, hs⟩)
  refine g_tabOut F (x := x) dX2_nameOf_1 (by
    have e100 : ¬ (x).toInt = 100 := fun q => k1_100 (Int32.toInt_inj.mp (q.trans (by decide)))
    have e101 : ¬ (x).toInt = 101 := fun q => k1_101 (Int32.toInt_inj.mp (q.trans (by decide)))
    have e102 : ¬ (x).toInt = 102 := fun q => k1_102 (Int32.toInt_inj.mp (q.trans (by decide)))
    have e103 : ¬ (x).toInt = 103 := fun q => k1_103 (Int32.toInt_inj.mp (q.trans (by decide)))
    have e104 : ¬ (x).toInt = 104 := fun q => k1_104 (Int32.toInt_inj.mp (q.trans (by decide)))
    have e105 : ¬ (x).toInt = 105 := fun q => k1_105 (Int32.toInt_inj.mp (q.trans (by decide)))
    have e106 : ¬ (x).toInt = 106 := fun q => k1_106 (Int32.toInt_inj.mp (q.trans (by decide)))
    have e107 : ¬ (x).toInt = 107 := fun q => k1_107 (Int32.toInt_inj.mp (q.trans (by decide)))
    have e108 : ¬ (x).toInt = 108 := fun q => k1_108 (Int32.toInt_inj.mp (q.trans (by decide)))
    have e109 : ¬ (x).toInt = 109 := fun q => k1_109 (Int32.toInt_inj.mp (q.trans (by decide)))
    have e110 : ¬ (x).toInt = 110 := fun q => k1_110 (Int32.toInt_inj.mp (q.trans (by decide)))
    have e111 : ¬ (x).toInt = 111 := fun q => k1_111 (Int32.toInt_inj.mp (q.trans (by decide)))
    have e112 : ¬ (x).toInt = 112 := fun q => k1_112 (Int32.toInt_inj.mp (q.trans (by decide)))
    have e113 : ¬ (x).toInt = 113 := fun q => k1_113 (Int32.toInt_inj.mp (q.trans (by decide)))
    have e114 : ¬ (x).toInt = 114 := fun q => k1_114 (Int32.toInt_inj.mp (q.trans (by decide)))
    have e115 : ¬ (x).toInt = 115 := fun q => k1_115 (Int32.toInt_inj.mp (q.trans (by decide)))
    have e116 : ¬ (x).toInt = 116 := fun q => k1_116 (Int32.toInt_inj.mp (q.trans (by decide)))
    have e117 : ¬ (x).toInt = 117 := fun q => k1_117 (Int32.toInt_inj.mp (q.trans (by decide)))
    have e118 : ¬ (x).toInt = 118 := fun q => k1_118 (Int32.toInt_inj.mp (q.trans (by decide)))
    have e119 : ¬ (x).toInt = 119 := fun q => k1_119 (Int32.toInt_inj.mp (q.trans (by decide)))
    omega) (np := 108) (by decide) ?_
  refine g_iconst F (v := (-1)) dX2_nameOf_108 (by decide) (np := 109) rfl ?_
  have hv : -1 = nameV x := by unfold nameV nameK; simp_all
  exact g_iret F hr rfl (Nat.le_of_ble_eq_true rfl) (Nat.le_of_ble_eq_true rfl) dX2_nameOf_109 (fun h hs => by rw [← hT]; exact ⟨congrArg (fun z => some (Value.int z)) hv, hs⟩)
