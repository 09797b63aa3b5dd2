/-! WALKS (printed by walk.py): in, has, isOwner, isPromise, isShelf, areDays, mayPromise, dayBehind, isOpen, openBy, clear -/
set_option maxRecDepth 100000
set_option maxRecDepth 100000 in
theorem ct_X0_in {l : Launch} {D : va_G} {B : Nat} {S : AH → Prop}  (v : Int32) (lo : Int32) (hi : Int32) : Ct l D ZE B yX0_in cX0_in 3 (some .boolean) 0 0 0 0 [.int v, .int lo, .int hi] (S) (RI (bI (btw v lo hi)) (S)) := by
  refine Ct.of (nL := 3) (lv := [some (.int v), some (.int lo), some (.int hi)]) (by decide) (Nat.le_of_ble_eq_true rfl) stZE 0 rfl ?_
  generalize hT : RI (bI (btw v lo hi)) (S) = T
  intro zp ze zs zm zb zt zc F hr hnm
  generalize ([.int v, .int lo, .int hi] : List Value).toArray = za at F ⊢
  refine g_iload_n F dX0_in_0 rfl rfl (np := 1) rfl ?_
  refine g_iload_n F dX0_in_1 rfl rfl (np := 2) rfl ?_
  refine g_icmp_lt F dX0_in_2 (tp := 14) (by decide) (np := 5) rfl (fun c2 => ?_) (fun c2 => ?_)
  · refine g_iconst F (v := (nI 0)) dX0_in_14 (by decide) (np := 15) rfl ?_
    have hv : (nI (0) : Int32) = bI (btw v lo hi) := (show (0 : Int32) = _ from (bI_f (by first | exact ⟨‹_›, ‹_›⟩ | (unfold btw; simp_all; done) | (unfold btw; grind))).symm)
    exact g_iret F hr rfl (Nat.le_of_ble_eq_true rfl) (Nat.le_of_ble_eq_true rfl) dX0_in_15 (fun h hs => by rw [← hT]; exact ⟨congrArg (fun z => some (Value.int z)) hv, hs⟩)
  · refine g_iload_n F dX0_in_5 rfl rfl (np := 6) rfl ?_
    refine g_iload_n F dX0_in_6 rfl rfl (np := 7) rfl ?_
    refine g_icmp_gt F dX0_in_7 (tp := 14) (by decide) (np := 10) rfl (fun c7 => ?_) (fun c7 => ?_)
    · refine g_iconst F (v := (nI 0)) dX0_in_14 (by decide) (np := 15) rfl ?_
      have hv : (nI (0) : Int32) = bI (btw v lo hi) := (show (0 : Int32) = _ from (bI_f (by first | exact ⟨‹_›, ‹_›⟩ | (unfold btw; simp_all; done) | (unfold btw; grind))).symm)
      exact g_iret F hr rfl (Nat.le_of_ble_eq_true rfl) (Nat.le_of_ble_eq_true rfl) dX0_in_15 (fun h hs => by rw [← hT]; exact ⟨congrArg (fun z => some (Value.int z)) hv, hs⟩)
    · refine g_iconst F (v := (nI 1)) dX0_in_10 (by decide) (np := 11) rfl ?_
      refine g_goto F dX0_in_11 (np := 15) (by decide) ?_
      have hv : (nI (1) : Int32) = bI (btw v lo hi) := (show (1 : Int32) = _ from (bI_t (by first | exact ⟨‹_›, ‹_›⟩ | (unfold btw; simp_all; done) | (unfold btw; grind))).symm)
      exact g_iret F hr rfl (Nat.le_of_ble_eq_true rfl) (Nat.le_of_ble_eq_true rfl) dX0_in_15 (fun h hs => by rw [← hT]; exact ⟨congrArg (fun z => some (Value.int z)) hv, hs⟩)

set_option maxRecDepth 100000 in
theorem ct_X0_has {l : Launch} {D : va_G} {B : Nat} {S : AH → Prop}  (set : Int32) (p : Nat) : Ct l D ZE B yX0_has cX0_has 2 (some .boolean) 0 0 0 0 [.int set, .int (nI p)] (S) (RI (bI (jbit set p)) (S)) := by
  refine Ct.of (nL := 2) (lv := [some (.int set), some (.int (nI p))]) (by decide) (Nat.le_of_ble_eq_true rfl) stZE 0 rfl ?_
  generalize hT : RI (bI (jbit set p)) (S) = T
  intro zp ze zs zm zb zt zc F hr hnm
  generalize ([.int set, .int (nI p)] : List Value).toArray = za at F ⊢
  refine g_iload_n F dX0_has_0 rfl rfl (np := 1) rfl ?_
  refine g_iload_n F dX0_has_1 rfl rfl (np := 2) rfl ?_
  refine g_ishr F dX0_has_2 (np := 3) rfl ?_
  refine g_iconst F (v := (nI 1)) dX0_has_3 (by decide) (np := 4) rfl ?_
  refine g_iand F dX0_has_4 (np := 5) rfl ?_
  refine g_iconst F (v := (nI 1)) dX0_has_5 (by decide) (np := 6) rfl ?_
  refine g_icmp_ne F dX0_has_6 (tp := 13) (by decide) (np := 9) rfl (fun c6 => ?_) (fun c6 => ?_)
  · refine g_iconst F (v := (nI 0)) dX0_has_13 (by decide) (np := 14) rfl ?_
    have hv : (nI (0) : Int32) = bI (jbit set p) := (show (0 : Int32) = _ from (bI_f (by first | exact c6 | exact c6)).symm)
    exact g_iret F hr rfl (Nat.le_of_ble_eq_true rfl) (Nat.le_of_ble_eq_true rfl) dX0_has_14 (fun h hs => by rw [← hT]; exact ⟨congrArg (fun z => some (Value.int z)) hv, hs⟩)
  · refine g_iconst F (v := (nI 1)) dX0_has_9 (by decide) (np := 10) rfl ?_
    refine g_goto F dX0_has_10 (np := 14) (by decide) ?_
    have hv : (nI (1) : Int32) = bI (jbit set p) := (show (1 : Int32) = _ from (bI_t (by first | exact c6 | exact c6)).symm)
    exact g_iret F hr rfl (Nat.le_of_ble_eq_true rfl) (Nat.le_of_ble_eq_true rfl) dX0_has_14 (fun h hs => by rw [← hT]; exact ⟨congrArg (fun z => some (Value.int z)) hv, hs⟩)

set_option maxRecDepth 100000 in
theorem ct_X0_isOwner {l : Launch} {D : va_G} {B : Nat} {Λ : LT} {I : AH} {L : LawT} (σ : MSt)  (o : Int32) (hno : σ.1 0 < 2 ^ 30) : Ct l D ZE B yX0_isOwner cX0_isOwner 2 (some .boolean) 1 22 0 0 [.ref (Λ.1 0 38), .int o] (XH D Λ I L σ) (RI (bI (inN o (σ.1 0))) (XH D Λ I L σ)) := by
  refine Ct.of (nL := 2) (lv := [some (.ref (Λ.1 0 38)), some (.int o)]) (by decide) (Nat.le_of_ble_eq_true rfl) stZE 0 rfl ?_
  generalize hT : RI (bI (inN o (σ.1 0))) (XH D Λ I L σ) = T
  intro zp ze zs zm zb zt zc F hr hnm
  generalize ([.ref (Λ.1 0 38), .int o] : List Value).toArray = za at F ⊢
  refine g_iload_n F dX0_isOwner_0 rfl rfl (np := 1) rfl ?_
  refine g_iconst F (v := (nI 0)) dX0_isOwner_1 (by decide) (np := 2) rfl ?_
  refine g_aload_n F dX0_isOwner_2 rfl rfl (np := 3) rfl ?_
  refine x_get F (k := 2) (v := .int (nI (σ.1 0))) (by decide) rfl (Or.inl q179) dX0_isOwner_3 (np := 6) rfl ?_
  refine g_iconst F (v := (nI 1)) dX0_isOwner_6 (by decide) (np := 7) rfl ?_
  refine g_isub F dX0_isOwner_7 (np := 8) rfl ?_
  refine g_runS F (rest := []) (ct_X0_in o (nI (0)) ((nI (σ.1 0)) - (nI (1))) ) (lw_S q298 q299 q100 q300) hcS_X0_in ⟨Nat.le_of_ble_eq_true rfl, Nat.le_of_ble_eq_true rfl⟩ rfl rfl (Nat.le_of_ble_eq_true rfl) dX0_isOwner_8 ⟨Nat.le_of_ble_eq_true rfl, Nat.le_of_ble_eq_true rfl⟩ (np := 11) rfl (k_RI ?_)
  have hv : bI (btw o (nI (0)) ((nI (σ.1 0)) - (nI (1)))) = bI (inN o (σ.1 0)) := bI_c (by exact btw_in (by omega))
  exact g_iret F hr bI_nar (Nat.le_of_ble_eq_true rfl) (Nat.le_of_ble_eq_true rfl) dX0_isOwner_11 (fun h hs => by rw [← hT]; exact ⟨congrArg (fun z => some (Value.int z)) hv, hs⟩)

set_option maxRecDepth 100000 in
theorem ct_X0_isPromise {l : Launch} {D : va_G} {B : Nat} {Λ : LT} {I : AH} {L : LawT} (σ : MSt)  (p : Int32) (hmn : σ.1 2 < 2 ^ 30) : Ct l D ZE B yX0_isPromise cX0_isPromise 2 (some .boolean) 1 22 0 0 [.ref (Λ.1 0 38), .int p] (XH D Λ I L σ) (RI (bI (inN p (σ.1 2))) (XH D Λ I L σ)) := by
  refine Ct.of (nL := 2) (lv := [some (.ref (Λ.1 0 38)), some (.int p)]) (by decide) (Nat.le_of_ble_eq_true rfl) stZE 0 rfl ?_
  generalize hT : RI (bI (inN p (σ.1 2))) (XH D Λ I L σ) = T
  intro zp ze zs zm zb zt zc F hr hnm
  generalize ([.ref (Λ.1 0 38), .int p] : List Value).toArray = za at F ⊢
  refine g_iload_n F dX0_isPromise_0 rfl rfl (np := 1) rfl ?_
  refine g_iconst F (v := (nI 0)) dX0_isPromise_1 (by decide) (np := 2) rfl ?_
  refine g_aload_n F dX0_isPromise_2 rfl rfl (np := 3) rfl ?_
  refine x_get F (k := 3) (v := .int (nI (σ.1 2))) (by decide) rfl (Or.inl q180) dX0_isPromise_3 (np := 6) rfl ?_
  refine g_iconst F (v := (nI 1)) dX0_isPromise_6 (by decide) (np := 7) rfl ?_
  refine g_isub F dX0_isPromise_7 (np := 8) rfl ?_
  refine g_runS F (rest := []) (ct_X0_in p (nI (0)) ((nI (σ.1 2)) - (nI (1))) ) (lw_S q298 q299 q100 q300) hcS_X0_in ⟨Nat.le_of_ble_eq_true rfl, Nat.le_of_ble_eq_true rfl⟩ rfl rfl (Nat.le_of_ble_eq_true rfl) dX0_isPromise_8 ⟨Nat.le_of_ble_eq_true rfl, Nat.le_of_ble_eq_true rfl⟩ (np := 11) rfl (k_RI ?_)
  have hv : bI (btw p (nI (0)) ((nI (σ.1 2)) - (nI (1)))) = bI (inN p (σ.1 2)) := bI_c (by exact btw_in (by omega))
  exact g_iret F hr bI_nar (Nat.le_of_ble_eq_true rfl) (Nat.le_of_ble_eq_true rfl) dX0_isPromise_11 (fun h hs => by rw [← hT]; exact ⟨congrArg (fun z => some (Value.int z)) hv, hs⟩)

set_option maxRecDepth 100000 in
theorem ct_X0_isShelf {l : Launch} {D : va_G} {B : Nat} {S : AH → Prop}  (i : Int32) : Ct l D ZE B yX0_isShelf cX0_isShelf 1 (some .boolean) 1 22 0 0 [.int i] (S) (RI (bI (inN i 6)) (S)) := by
  refine Ct.of (nL := 1) (lv := [some (.int i)]) (by decide) (Nat.le_of_ble_eq_true rfl) stZE 0 rfl ?_
  generalize hT : RI (bI (inN i 6)) (S) = T
  intro zp ze zs zm zb zt zc F hr hnm
  generalize ([.int i] : List Value).toArray = za at F ⊢
  refine g_iload_n F dX0_isShelf_0 rfl rfl (np := 1) rfl ?_
  refine g_iconst F (v := (nI 0)) dX0_isShelf_1 (by decide) (np := 2) rfl ?_
  refine g_iconst F (v := (nI 5)) dX0_isShelf_2 (by decide) (np := 3) rfl ?_
  refine g_runS F (rest := []) (ct_X0_in i (nI (0)) (nI (5)) ) (lw_S q298 q299 q100 q300) hcS_X0_in ⟨Nat.le_of_ble_eq_true rfl, Nat.le_of_ble_eq_true rfl⟩ rfl rfl (Nat.le_of_ble_eq_true rfl) dX0_isShelf_3 ⟨Nat.le_of_ble_eq_true rfl, Nat.le_of_ble_eq_true rfl⟩ (np := 6) rfl (k_RI ?_)
  have hv : bI (btw i (nI (0)) (nI (5))) = bI (inN i 6) := bI_c (by exact btw_in (n := 6) (by decide))
  exact g_iret F hr bI_nar (Nat.le_of_ble_eq_true rfl) (Nat.le_of_ble_eq_true rfl) dX0_isShelf_6 (fun h hs => by rw [← hT]; exact ⟨congrArg (fun z => some (Value.int z)) hv, hs⟩)

set_option maxRecDepth 100000 in
theorem ct_X0_areDays {l : Launch} {D : va_G} {B : Nat} {S : AH → Prop}  (n : Int32) : Ct l D ZE B yX0_areDays cX0_areDays 1 (some .boolean) 1 22 0 0 [.int n] (S) (RI (bI (inN n 100)) (S)) := by
  refine Ct.of (nL := 1) (lv := [some (.int n)]) (by decide) (Nat.le_of_ble_eq_true rfl) stZE 0 rfl ?_
  generalize hT : RI (bI (inN n 100)) (S) = T
  intro zp ze zs zm zb zt zc F hr hnm
  generalize ([.int n] : List Value).toArray = za at F ⊢
  refine g_iload_n F dX0_areDays_0 rfl rfl (np := 1) rfl ?_
  refine g_iconst F (v := (nI 0)) dX0_areDays_1 (by decide) (np := 2) rfl ?_
  refine g_bipush F (v := (nI 99)) dX0_areDays_2 (by decide) (np := 4) rfl ?_
  refine g_runS F (rest := []) (ct_X0_in n (nI (0)) (nI (99)) ) (lw_S q298 q299 q100 q300) hcS_X0_in ⟨Nat.le_of_ble_eq_true rfl, Nat.le_of_ble_eq_true rfl⟩ rfl rfl (Nat.le_of_ble_eq_true rfl) dX0_areDays_4 ⟨Nat.le_of_ble_eq_true rfl, Nat.le_of_ble_eq_true rfl⟩ (np := 7) rfl (k_RI ?_)
  have hv : bI (btw n (nI (0)) (nI (99))) = bI (inN n 100) := bI_c (by exact bt99)
  exact g_iret F hr bI_nar (Nat.le_of_ble_eq_true rfl) (Nat.le_of_ble_eq_true rfl) dX0_areDays_7 (fun h hs => by rw [← hT]; exact ⟨congrArg (fun z => some (Value.int z)) hv, hs⟩)

set_option maxRecDepth 100000 in
theorem ct_X0_mayPromise {l : Launch} {D : va_G} {B : Nat} {Λ : LT} {I : AH} {L : LawT} (σ : MSt)  (b : Int32) (t : Int32) (w : Int32) (kd : Int32) (hno : σ.1 0 < 2 ^ 30) : Ct l D ZE B yX0_mayPromise cX0_mayPromise 5 (some .boolean) 2 43 0 0 [.ref (Λ.1 0 38), .int b, .int t, .int w, .int kd] (XH D Λ I L σ) (RI (bI (suchP (σ.1 0) b t w kd)) (XH D Λ I L σ)) := by
  refine Ct.of (nL := 5) (lv := [some (.ref (Λ.1 0 38)), some (.int b), some (.int t), some (.int w), some (.int kd)]) (by decide) (Nat.le_of_ble_eq_true rfl) stZE 0 rfl ?_
  generalize hT : RI (bI (suchP (σ.1 0) b t w kd)) (XH D Λ I L σ) = T
  intro zp ze zs zm zb zt zc F hr hnm
  generalize ([.ref (Λ.1 0 38), .int b, .int t, .int w, .int kd] : List Value).toArray = za at F ⊢
  refine g_aload_n F dX0_mayPromise_0 rfl rfl (np := 1) rfl ?_
  refine g_iload_n F dX0_mayPromise_1 rfl rfl (np := 2) rfl ?_
  refine g_runV F (C := RX0) (ci := 0) (T0 := TX0) (N := 38) (rest := []) (ct_X0_isOwner σ b (by first | assumption | omega)) (lw_V q319 q321 qs1 q100 q322) hcV_X0_isOwner ⟨Nat.le_of_ble_eq_true rfl, Nat.le_of_ble_eq_true rfl⟩ rfl (fun h hs => hs.obj) rfl rfl (Nat.le_of_ble_eq_true rfl) dX0_mayPromise_2 ⟨Nat.le_of_ble_eq_true rfl, Nat.le_of_ble_eq_true rfl⟩ (np := 5) rfl (k_RI ?_)
  refine g_if_eqB F dX0_mayPromise_5 (tp := 50) (by decide) (np := 8) rfl (fun c5 => ?_) (fun c5 => ?_)
  · refine g_iconst F (v := (nI 0)) dX0_mayPromise_50 (by decide) (np := 51) rfl ?_
    have hv : (nI (0) : Int32) = bI (suchP (σ.1 0) b t w kd) := (show (0 : Int32) = _ from (bI_f (by unfold suchP; simp_all [bt99, bt2])).symm)
    exact g_iret F hr rfl (Nat.le_of_ble_eq_true rfl) (Nat.le_of_ble_eq_true rfl) dX0_mayPromise_51 (fun h hs => by rw [← hT]; exact ⟨congrArg (fun z => some (Value.int z)) hv, hs⟩)
  · refine g_iload_n F dX0_mayPromise_8 rfl rfl (np := 9) rfl ?_
    refine g_iconst F (v := (-1)) dX0_mayPromise_9 (by decide) (np := 10) rfl ?_
    refine g_icmp_eq F dX0_mayPromise_10 (tp := 26) (by decide) (np := 13) rfl (fun c10 => ?_) (fun c10 => ?_)
    · refine g_iload_n F dX0_mayPromise_26 rfl rfl (np := 27) rfl ?_
      refine g_iconst F (v := (nI 0)) dX0_mayPromise_27 (by decide) (np := 28) rfl ?_
      refine g_bipush F (v := (nI 99)) dX0_mayPromise_28 (by decide) (np := 30) rfl ?_
      refine g_runS F (rest := []) (ct_X0_in w (nI (0)) (nI (99)) ) (lw_S q298 q299 q100 q300) hcS_X0_in ⟨Nat.le_of_ble_eq_true rfl, Nat.le_of_ble_eq_true rfl⟩ rfl rfl (Nat.le_of_ble_eq_true rfl) dX0_mayPromise_30 ⟨Nat.le_of_ble_eq_true rfl, Nat.le_of_ble_eq_true rfl⟩ (np := 33) rfl (k_RI ?_)
      refine g_if_eqB F dX0_mayPromise_33 (tp := 50) (by decide) (np := 36) rfl (fun c33 => ?_) (fun c33 => ?_)
      · refine g_iconst F (v := (nI 0)) dX0_mayPromise_50 (by decide) (np := 51) rfl ?_
        have hv : (nI (0) : Int32) = bI (suchP (σ.1 0) b t w kd) := (show (0 : Int32) = _ from (bI_f (by unfold suchP; simp_all [bt99, bt2])).symm)
        exact g_iret F hr rfl (Nat.le_of_ble_eq_true rfl) (Nat.le_of_ble_eq_true rfl) dX0_mayPromise_51 (fun h hs => by rw [← hT]; exact ⟨congrArg (fun z => some (Value.int z)) hv, hs⟩)
      · refine g_iload F dX0_mayPromise_36 rfl (np := 38) rfl ?_
        refine g_iconst F (v := (nI 0)) dX0_mayPromise_38 (by decide) (np := 39) rfl ?_
        refine g_iconst F (v := (nI 2)) dX0_mayPromise_39 (by decide) (np := 40) rfl ?_
        refine g_runS F (rest := []) (ct_X0_in kd (nI (0)) (nI (2)) ) (lw_S q298 q299 q100 q300) hcS_X0_in ⟨Nat.le_of_ble_eq_true rfl, Nat.le_of_ble_eq_true rfl⟩ rfl rfl (Nat.le_of_ble_eq_true rfl) dX0_mayPromise_40 ⟨Nat.le_of_ble_eq_true rfl, Nat.le_of_ble_eq_true rfl⟩ (np := 43) rfl (k_RI ?_)
        refine g_if_eqB F dX0_mayPromise_43 (tp := 50) (by decide) (np := 46) rfl (fun c43 => ?_) (fun c43 => ?_)
        · refine g_iconst F (v := (nI 0)) dX0_mayPromise_50 (by decide) (np := 51) rfl ?_
          have hv : (nI (0) : Int32) = bI (suchP (σ.1 0) b t w kd) := (show (0 : Int32) = _ from (bI_f (by unfold suchP; simp_all [bt99, bt2])).symm)
          exact g_iret F hr rfl (Nat.le_of_ble_eq_true rfl) (Nat.le_of_ble_eq_true rfl) dX0_mayPromise_51 (fun h hs => by rw [← hT]; exact ⟨congrArg (fun z => some (Value.int z)) hv, hs⟩)
        · refine g_iconst F (v := (nI 1)) dX0_mayPromise_46 (by decide) (np := 47) rfl ?_
          refine g_goto F dX0_mayPromise_47 (np := 51) (by decide) ?_
          have hv : (nI (1) : Int32) = bI (suchP (σ.1 0) b t w kd) := (show (1 : Int32) = _ from (bI_t (by unfold suchP; simp_all [bt99, bt2])).symm)
          exact g_iret F hr rfl (Nat.le_of_ble_eq_true rfl) (Nat.le_of_ble_eq_true rfl) dX0_mayPromise_51 (fun h hs => by rw [← hT]; exact ⟨congrArg (fun z => some (Value.int z)) hv, hs⟩)
    · refine g_aload_n F dX0_mayPromise_13 rfl rfl (np := 14) rfl ?_
      refine g_iload_n F dX0_mayPromise_14 rfl rfl (np := 15) rfl ?_
      refine g_runV F (C := RX0) (ci := 0) (T0 := TX0) (N := 38) (rest := []) (ct_X0_isOwner σ t (by first | assumption | omega)) (lw_V q319 q321 qs1 q100 q322) hcV_X0_isOwner ⟨Nat.le_of_ble_eq_true rfl, Nat.le_of_ble_eq_true rfl⟩ rfl (fun h hs => hs.obj) rfl rfl (Nat.le_of_ble_eq_true rfl) dX0_mayPromise_15 ⟨Nat.le_of_ble_eq_true rfl, Nat.le_of_ble_eq_true rfl⟩ (np := 18) rfl (k_RI ?_)
      refine g_if_eqB F dX0_mayPromise_18 (tp := 50) (by decide) (np := 21) rfl (fun c18 => ?_) (fun c18 => ?_)
      · refine g_iconst F (v := (nI 0)) dX0_mayPromise_50 (by decide) (np := 51) rfl ?_
        have hv : (nI (0) : Int32) = bI (suchP (σ.1 0) b t w kd) := (show (0 : Int32) = _ from (bI_f (by unfold suchP; simp_all [bt99, bt2])).symm)
        exact g_iret F hr rfl (Nat.le_of_ble_eq_true rfl) (Nat.le_of_ble_eq_true rfl) dX0_mayPromise_51 (fun h hs => by rw [← hT]; exact ⟨congrArg (fun z => some (Value.int z)) hv, hs⟩)
      · refine g_iload_n F dX0_mayPromise_21 rfl rfl (np := 22) rfl ?_
        refine g_iload_n F dX0_mayPromise_22 rfl rfl (np := 23) rfl ?_
        refine g_icmp_eq F dX0_mayPromise_23 (tp := 50) (by decide) (np := 26) rfl (fun c23 => ?_) (fun c23 => ?_)
        · refine g_iconst F (v := (nI 0)) dX0_mayPromise_50 (by decide) (np := 51) rfl ?_
          have hv : (nI (0) : Int32) = bI (suchP (σ.1 0) b t w kd) := (show (0 : Int32) = _ from (bI_f (by unfold suchP; simp_all [bt99, bt2])).symm)
          exact g_iret F hr rfl (Nat.le_of_ble_eq_true rfl) (Nat.le_of_ble_eq_true rfl) dX0_mayPromise_51 (fun h hs => by rw [← hT]; exact ⟨congrArg (fun z => some (Value.int z)) hv, hs⟩)
        · refine g_iload_n F dX0_mayPromise_26 rfl rfl (np := 27) rfl ?_
          refine g_iconst F (v := (nI 0)) dX0_mayPromise_27 (by decide) (np := 28) rfl ?_
          refine g_bipush F (v := (nI 99)) dX0_mayPromise_28 (by decide) (np := 30) rfl ?_
          refine g_runS F (rest := []) (ct_X0_in w (nI (0)) (nI (99)) ) (lw_S q298 q299 q100 q300) hcS_X0_in ⟨Nat.le_of_ble_eq_true rfl, Nat.le_of_ble_eq_true rfl⟩ rfl rfl (Nat.le_of_ble_eq_true rfl) dX0_mayPromise_30 ⟨Nat.le_of_ble_eq_true rfl, Nat.le_of_ble_eq_true rfl⟩ (np := 33) rfl (k_RI ?_)
          refine g_if_eqB F dX0_mayPromise_33 (tp := 50) (by decide) (np := 36) rfl (fun c33 => ?_) (fun c33 => ?_)
          · refine g_iconst F (v := (nI 0)) dX0_mayPromise_50 (by decide) (np := 51) rfl ?_
            have hv : (nI (0) : Int32) = bI (suchP (σ.1 0) b t w kd) := (show (0 : Int32) = _ from (bI_f (by unfold suchP; simp_all [bt99, bt2])).symm)
            exact g_iret F hr rfl (Nat.le_of_ble_eq_true rfl) (Nat.le_of_ble_eq_true rfl) dX0_mayPromise_51 (fun h hs => by rw [← hT]; exact ⟨congrArg (fun z => some (Value.int z)) hv, hs⟩)
          · refine g_iload F dX0_mayPromise_36 rfl (np := 38) rfl ?_
            refine g_iconst F (v := (nI 0)) dX0_mayPromise_38 (by decide) (np := 39) rfl ?_
            refine g_iconst F (v := (nI 2)) dX0_mayPromise_39 (by decide) (np := 40) rfl ?_
            refine g_runS F (rest := []) (ct_X0_in kd (nI (0)) (nI (2)) ) (lw_S q298 q299 q100 q300) hcS_X0_in ⟨Nat.le_of_ble_eq_true rfl, Nat.le_of_ble_eq_true rfl⟩ rfl rfl (Nat.le_of_ble_eq_true rfl) dX0_mayPromise_40 ⟨Nat.le_of_ble_eq_true rfl, Nat.le_of_ble_eq_true rfl⟩ (np := 43) rfl (k_RI ?_)
            refine g_if_eqB F dX0_mayPromise_43 (tp := 50) (by decide) (np := 46) rfl (fun c43 => ?_) (fun c43 => ?_)
            · refine g_iconst F (v := (nI 0)) dX0_mayPromise_50 (by decide) (np := 51) rfl ?_
              have hv : (nI (0) : Int32) = bI (suchP (σ.1 0) b t w kd) := (show (0 : Int32) = _ from (bI_f (by unfold suchP; simp_all [bt99, bt2])).symm)
              exact g_iret F hr rfl (Nat.le_of_ble_eq_true rfl) (Nat.le_of_ble_eq_true rfl) dX0_mayPromise_51 (fun h hs => by rw [← hT]; exact ⟨congrArg (fun z => some (Value.int z)) hv, hs⟩)
            · refine g_iconst F (v := (nI 1)) dX0_mayPromise_46 (by decide) (np := 47) rfl ?_
              refine g_goto F dX0_mayPromise_47 (np := 51) (by decide) ?_
              have hv : (nI (1) : Int32) = bI (suchP (σ.1 0) b t w kd) := (show (1 : Int32) = _ from (bI_t (by unfold suchP; simp_all [bt99, bt2])).symm)
              exact g_iret F hr rfl (Nat.le_of_ble_eq_true rfl) (Nat.le_of_ble_eq_true rfl) dX0_mayPromise_51 (fun h hs => by rw [← hT]; exact ⟨congrArg (fun z => some (Value.int z)) hv, hs⟩)

set_option maxRecDepth 100000 in
theorem ct_X0_dayBehind {l : Launch} {D : va_G} {B : Nat} {Λ : LT} {I : AH} {L : LawT} (σ : MSt)  (n : Nat) (hn : n < 2 ^ 30) (ht : σ.1 6 < 2 ^ 30) : Ct l D ZE B yX0_dayBehind cX0_dayBehind 2 (some .int) 1 21 0 0 [.ref (Λ.1 0 38), .int (nI n)] (XH D Λ I L σ) (RI (nI (day (σ.1 6) n)) (XH D Λ I L σ)) := by
  refine Ct.of (nL := 2) (lv := [some (.ref (Λ.1 0 38)), some (.int (nI n))]) (by decide) (Nat.le_of_ble_eq_true rfl) stZE 0 rfl ?_
  generalize hT : RI (nI (day (σ.1 6) n)) (XH D Λ I L σ) = T
  intro zp ze zs zm zb zt zc F hr hnm
  generalize ([.ref (Λ.1 0 38), .int (nI n)] : List Value).toArray = za at F ⊢
  refine g_bipush F (v := (nI 99)) dX0_dayBehind_0 (by decide) (np := 2) rfl ?_
  refine g_aload_n F dX0_dayBehind_2 rfl rfl (np := 3) rfl ?_
  refine x_get F (k := 4) (v := .int (nI (σ.1 6))) (by decide) rfl (Or.inl q181) dX0_dayBehind_3 (np := 6) rfl ?_
  refine g_iload_n F dX0_dayBehind_6 rfl rfl (np := 7) rfl ?_
  refine g_iaddN F dX0_dayBehind_7 (np := 8) rfl ?_
  refine g_min F (rest := []) q861 (by decide) (by decide) (Nat.le_of_ble_eq_true rfl) (Nat.le_of_ble_eq_true rfl) dX0_dayBehind_8 (np := 11) rfl ?_
  have hv : jmin (nI (99)) (nI ((σ.1 6) + n)) = nI (day (σ.1 6) n) := by exact jmin_N (by decide) (by omega)
  exact g_iret F hr rfl (Nat.le_of_ble_eq_true rfl) (Nat.le_of_ble_eq_true rfl) dX0_dayBehind_11 (fun h hs => by rw [← hT]; exact ⟨congrArg (fun z => some (Value.int z)) hv, hs⟩)

set_option maxRecDepth 100000 in
theorem ct_X4_isOpen {l : Launch} {D : va_G} {B : Nat} {Λ : LT} {I : AH} {L : LawT} (σ : MSt)  (p : Nat) (d : Nat) (hp : p < σ.1 2) : Ct l D ZE B yX4_isOpen cX4_isOpen 2 (some .boolean) 0 0 0 0 [.ref (Λ.1 2 p), .int (nI d)] (XH D Λ I L σ) (RI (bI (sOpen (mP σ) d p)) (XH D Λ I L σ)) := by
  refine Ct.of (nL := 2) (lv := [some (.ref (Λ.1 2 p)), some (.int (nI d))]) (by decide) (Nat.le_of_ble_eq_true rfl) stZE 0 rfl ?_
  generalize hT : RI (bI (sOpen (mP σ) d p)) (XH D Λ I L σ) = T
  intro zp ze zs zm zb zt zc F hr hnm
  generalize ([.ref (Λ.1 2 p), .int (nI d)] : List Value).toArray = za at F ⊢
  refine g_aload_n F dX4_isOpen_0 rfl rfl (np := 1) rfl ?_
  refine x_getP F (k := 6) (i := p) (v := .int (σ.2.1 3 (60 + p))) (by decide) (show p < σ.1 2 by omega) rfl (Or.inl q344) dX4_isOpen_1 (np := 4) rfl ?_
  refine g_if_ne F dX4_isOpen_4 (tp := 32) (by decide) (np := 7) rfl (fun c4 => ?_) (fun c4 => ?_)
  · refine g_iconst F (v := (nI 0)) dX4_isOpen_32 (by decide) (np := 33) rfl ?_
    have hv : (nI (0) : Int32) = bI (sOpen (mP σ) d p) := (show (0 : Int32) = _ from (bI_f (by simp_all [sOpen, mP_0, mP_3, mP_4, mP_5, mP_6, Int32.not_lt, Int32.not_le])).symm)
    exact g_iret F hr rfl (Nat.le_of_ble_eq_true rfl) (Nat.le_of_ble_eq_true rfl) dX4_isOpen_33 (fun h hs => by rw [← hT]; exact ⟨congrArg (fun z => some (Value.int z)) hv, hs⟩)
  · refine g_aload_n F dX4_isOpen_7 rfl rfl (np := 8) rfl ?_
    refine x_getP F (k := 3) (i := p) (v := .int (σ.2.1 3 (15 + p))) (by decide) (show p < σ.1 2 by omega) rfl (Or.inl q338) dX4_isOpen_8 (np := 11) rfl ?_
    refine g_iconst F (v := (nI 1)) dX4_isOpen_11 (by decide) (np := 12) rfl ?_
    refine g_icmp_eq F dX4_isOpen_12 (tp := 28) (by decide) (np := 15) rfl (fun c12 => ?_) (fun c12 => ?_)
    · refine g_iconst F (v := (nI 1)) dX4_isOpen_28 (by decide) (np := 29) rfl ?_
      refine g_goto F dX4_isOpen_29 (np := 33) (by decide) ?_
      have hv : (nI (1) : Int32) = bI (sOpen (mP σ) d p) := (show (1 : Int32) = _ from (bI_t (by simp_all [sOpen, mP_0, mP_3, mP_4, mP_5, mP_6, Int32.not_lt, Int32.not_le])).symm)
      exact g_iret F hr rfl (Nat.le_of_ble_eq_true rfl) (Nat.le_of_ble_eq_true rfl) dX4_isOpen_33 (fun h hs => by rw [← hT]; exact ⟨congrArg (fun z => some (Value.int z)) hv, hs⟩)
    · refine g_iload_n F dX4_isOpen_15 rfl rfl (np := 16) rfl ?_
      refine g_aload_n F dX4_isOpen_16 rfl rfl (np := 17) rfl ?_
      refine x_getP F (k := 5) (i := p) (v := .int (σ.2.1 3 (45 + p))) (by decide) (show p < σ.1 2 by omega) rfl (Or.inl q342) dX4_isOpen_17 (np := 20) rfl ?_
      refine g_isub F dX4_isOpen_20 (np := 21) rfl ?_
      refine g_aload_n F dX4_isOpen_21 rfl rfl (np := 22) rfl ?_
      refine x_getP F (k := 4) (i := p) (v := .int (σ.2.1 3 (30 + p))) (by decide) (show p < σ.1 2 by omega) rfl (Or.inl q340) dX4_isOpen_22 (np := 25) rfl ?_
      refine g_icmp_ge F dX4_isOpen_25 (tp := 32) (by decide) (np := 28) rfl (fun c25 => ?_) (fun c25 => ?_)
      · refine g_iconst F (v := (nI 0)) dX4_isOpen_32 (by decide) (np := 33) rfl ?_
        have hv : (nI (0) : Int32) = bI (sOpen (mP σ) d p) := (show (0 : Int32) = _ from (bI_f (by simp_all [sOpen, mP_0, mP_3, mP_4, mP_5, mP_6, Int32.not_lt, Int32.not_le])).symm)
        exact g_iret F hr rfl (Nat.le_of_ble_eq_true rfl) (Nat.le_of_ble_eq_true rfl) dX4_isOpen_33 (fun h hs => by rw [← hT]; exact ⟨congrArg (fun z => some (Value.int z)) hv, hs⟩)
      · refine g_iconst F (v := (nI 1)) dX4_isOpen_28 (by decide) (np := 29) rfl ?_
        refine g_goto F dX4_isOpen_29 (np := 33) (by decide) ?_
        have hv : (nI (1) : Int32) = bI (sOpen (mP σ) d p) := (show (1 : Int32) = _ from (bI_t (by simp_all [sOpen, mP_0, mP_3, mP_4, mP_5, mP_6, Int32.not_lt, Int32.not_le])).symm)
        exact g_iret F hr rfl (Nat.le_of_ble_eq_true rfl) (Nat.le_of_ble_eq_true rfl) dX4_isOpen_33 (fun h hs => by rw [← hT]; exact ⟨congrArg (fun z => some (Value.int z)) hv, hs⟩)

set_option maxRecDepth 100000 in
theorem ct_X4_isOpenW {l : Launch} {D : va_G} {B : Nat} {Λ : LT} {I : AH} (σ : MSt)  (p : Nat) (d : Nat) (hp : p < σ.1 2) : Ct l D ZE B yX4_isOpen cX4_isOpen 2 (some .boolean) 0 0 0 0 [.ref (Λ.1 2 p), .int (nI d)] (XW D Λ I σ) (RI (bI (sOpen (mP σ) d p)) (XW D Λ I σ)) := by
  refine Ct.of (nL := 2) (lv := [some (.ref (Λ.1 2 p)), some (.int (nI d))]) (by decide) (Nat.le_of_ble_eq_true rfl) stZE 0 rfl ?_
  generalize hT : RI (bI (sOpen (mP σ) d p)) (XW D Λ I σ) = T
  intro zp ze zs zm zb zt zc F hr hnm
  generalize ([.ref (Λ.1 2 p), .int (nI d)] : List Value).toArray = za at F ⊢
  refine g_aload_n F dX4_isOpen_0 rfl rfl (np := 1) rfl ?_
  refine w_getP F (k := 6) (i := p) (v := .int (σ.2.1 3 (60 + p))) (by decide) (show p < σ.1 2 by omega) rfl (Or.inl q344) dX4_isOpen_1 (np := 4) rfl ?_
  refine g_if_ne F dX4_isOpen_4 (tp := 32) (by decide) (np := 7) rfl (fun c4 => ?_) (fun c4 => ?_)
  · refine g_iconst F (v := (nI 0)) dX4_isOpen_32 (by decide) (np := 33) rfl ?_
    have hv : (nI (0) : Int32) = bI (sOpen (mP σ) d p) := (show (0 : Int32) = _ from (bI_f (by simp_all [sOpen, mP_0, mP_3, mP_4, mP_5, mP_6, Int32.not_lt, Int32.not_le])).symm)
    exact g_iret F hr rfl (Nat.le_of_ble_eq_true rfl) (Nat.le_of_ble_eq_true rfl) dX4_isOpen_33 (fun h hs => by rw [← hT]; exact ⟨congrArg (fun z => some (Value.int z)) hv, hs⟩)
  · refine g_aload_n F dX4_isOpen_7 rfl rfl (np := 8) rfl ?_
    refine w_getP F (k := 3) (i := p) (v := .int (σ.2.1 3 (15 + p))) (by decide) (show p < σ.1 2 by omega) rfl (Or.inl q338) dX4_isOpen_8 (np := 11) rfl ?_
    refine g_iconst F (v := (nI 1)) dX4_isOpen_11 (by decide) (np := 12) rfl ?_
    refine g_icmp_eq F dX4_isOpen_12 (tp := 28) (by decide) (np := 15) rfl (fun c12 => ?_) (fun c12 => ?_)
    · refine g_iconst F (v := (nI 1)) dX4_isOpen_28 (by decide) (np := 29) rfl ?_
      refine g_goto F dX4_isOpen_29 (np := 33) (by decide) ?_
      have hv : (nI (1) : Int32) = bI (sOpen (mP σ) d p) := (show (1 : Int32) = _ from (bI_t (by simp_all [sOpen, mP_0, mP_3, mP_4, mP_5, mP_6, Int32.not_lt, Int32.not_le])).symm)
      exact g_iret F hr rfl (Nat.le_of_ble_eq_true rfl) (Nat.le_of_ble_eq_true rfl) dX4_isOpen_33 (fun h hs => by rw [← hT]; exact ⟨congrArg (fun z => some (Value.int z)) hv, hs⟩)
    · refine g_iload_n F dX4_isOpen_15 rfl rfl (np := 16) rfl ?_
      refine g_aload_n F dX4_isOpen_16 rfl rfl (np := 17) rfl ?_
      refine w_getP F (k := 5) (i := p) (v := .int (σ.2.1 3 (45 + p))) (by decide) (show p < σ.1 2 by omega) rfl (Or.inl q342) dX4_isOpen_17 (np := 20) rfl ?_
      refine g_isub F dX4_isOpen_20 (np := 21) rfl ?_
      refine g_aload_n F dX4_isOpen_21 rfl rfl (np := 22) rfl ?_
      refine w_getP F (k := 4) (i := p) (v := .int (σ.2.1 3 (30 + p))) (by decide) (show p < σ.1 2 by omega) rfl (Or.inl q340) dX4_isOpen_22 (np := 25) rfl ?_
      refine g_icmp_ge F dX4_isOpen_25 (tp := 32) (by decide) (np := 28) rfl (fun c25 => ?_) (fun c25 => ?_)
      · refine g_iconst F (v := (nI 0)) dX4_isOpen_32 (by decide) (np := 33) rfl ?_
        have hv : (nI (0) : Int32) = bI (sOpen (mP σ) d p) := (show (0 : Int32) = _ from (bI_f (by simp_all [sOpen, mP_0, mP_3, mP_4, mP_5, mP_6, Int32.not_lt, Int32.not_le])).symm)
        exact g_iret F hr rfl (Nat.le_of_ble_eq_true rfl) (Nat.le_of_ble_eq_true rfl) dX4_isOpen_33 (fun h hs => by rw [← hT]; exact ⟨congrArg (fun z => some (Value.int z)) hv, hs⟩)
      · refine g_iconst F (v := (nI 1)) dX4_isOpen_28 (by decide) (np := 29) rfl ?_
        refine g_goto F dX4_isOpen_29 (np := 33) (by decide) ?_
        have hv : (nI (1) : Int32) = bI (sOpen (mP σ) d p) := (show (1 : Int32) = _ from (bI_t (by simp_all [sOpen, mP_0, mP_3, mP_4, mP_5, mP_6, Int32.not_lt, Int32.not_le])).symm)
        exact g_iret F hr rfl (Nat.le_of_ble_eq_true rfl) (Nat.le_of_ble_eq_true rfl) dX4_isOpen_33 (fun h hs => by rw [← hT]; exact ⟨congrArg (fun z => some (Value.int z)) hv, hs⟩)

set_option maxRecDepth 100000 in
theorem ct_X0_openBy {l : Launch} {D : va_G} {B : Nat} {Λ : LT} {I : AH} (σ : MSt) (L : LawT) (o : Int32) (d : Nat) (hXR : XR Λ I L σ) (hm14 : σ.1 2 ≤ 14) : Ct l D ZE B yX0_openBy cX0_openBy 5 (some .int) 1 21 0 0 [.ref (Λ.1 0 38), .int o, .int (nI d)] (XW D Λ I σ) (RI (nI (sCnt (mP σ) d o (σ.1 2))) (XW D Λ I σ)) := by
  refine Ct.of (nL := 5) (lv := [some (.ref (Λ.1 0 38)), some (.int o), some (.int (nI d)), none, none]) (by decide) (Nat.le_of_ble_eq_true rfl) stZE 2 rfl ?_
  generalize hT : RI (nI (sCnt (mP σ) d o (σ.1 2))) (XW D Λ I σ) = T
  intro zp ze zs zm zb zt zc F hr hnm
  generalize ([.ref (Λ.1 0 38), .int o, .int (nI d)] : List Value).toArray = za at F ⊢
  refine g_iconst F (v := (nI 0)) dX0_openBy_0 (by decide) (np := 1) rfl ?_
  refine g_istore_n F (lv' := [some (.ref (Λ.1 0 38)), some (.int o), some (.int (nI d)), some (.int (nI 0)), none]) dX0_openBy_1 rfl (by decide) rfl rfl (np := 2) rfl ?_
  refine g_iconst F (v := (nI 0)) dX0_openBy_2 (by decide) (np := 3) rfl ?_
  refine g_istore F (lv' := [some (.ref (Λ.1 0 38)), some (.int o), some (.int (nI d)), some (.int (nI 0)), some (.int (nI 0))]) dX0_openBy_3 (by decide) rfl rfl (np := 5) rfl ?_
  have L5 : ∀ (zn : Nat) (n : Nat) (p : Nat), (n = sCnt (mP σ) d o p) → (p ≤ σ.1 2) → σ.1 2 - p < zn → WG zp l ze ({ frames := 1, cells := 0, slots := 0, locals := 21 } : Room) zs zm za zb zt zc D B 5 (MQ zb (QT D B T) za zs 0 0 (zA B)) (XW D Λ I σ) 0 0 5 [some (.ref (Λ.1 0 38)), some (.int o), some (.int (nI d)), some (.int (nI n)), some (.int (nI p))] [] := by
    intro zn
    induction zn with
    | zero => intro n p h1 h2 hm; exact absurd hm (Nat.not_lt_zero _)
    | succ zn ih5 =>
      intro n p h1 h2 hm
      refine g_iload F dX0_openBy_5 rfl (np := 7) rfl ?_
      refine g_aload_n F dX0_openBy_7 rfl rfl (np := 8) rfl ?_
      refine w_get F (k := 3) (v := .int (nI (σ.1 2))) (by decide) rfl (Or.inl q180) dX0_openBy_8 (np := 11) rfl ?_
      refine g_icmp_geN F (by omega) (by omega) dX0_openBy_11 (tp := 56) (by decide) (np := 14) rfl (fun c11 => ?_) (fun c11 => ?_)
      · refine g_iload_n F dX0_openBy_56 rfl rfl (np := 57) rfl ?_
        have hv : nI (n) = nI (sCnt (mP σ) d o (σ.1 2)) := congrArg nI (by rw [h1, show p = σ.1 2 by omega])
        exact g_iret F hr rfl (Nat.le_of_ble_eq_true rfl) (Nat.le_of_ble_eq_true rfl) dX0_openBy_57 (fun h hs => by rw [← hT]; exact ⟨congrArg (fun z => some (Value.int z)) hv, hs⟩)
      · refine g_iload_n F dX0_openBy_14 rfl rfl (np := 15) rfl ?_
        refine g_aload_n F dX0_openBy_15 rfl rfl (np := 16) rfl ?_
        refine w_get F (k := 1) (v := .ref (Λ.1 0 1)) (by decide) rfl (Or.inl q178) dX0_openBy_16 (np := 19) rfl ?_
        refine g_iload F dX0_openBy_19 rfl (np := 21) rfl ?_
        refine w_aldP F (i := p) rfl hXR.2.1 (show p < σ.1 2 by omega) (show σ.1 2 ≤ 14 by omega) dX0_openBy_21 (np := 22) rfl ?_
        refine w_getP F (k := 0) (i := p) (v := .int (σ.2.1 4 p)) (by decide) (show p < σ.1 2 by omega) rfl (Or.inr ⟨_, ze333⟩) dX0_openBy_22 (np := 25) rfl ?_
        refine g_iload_n F dX0_openBy_25 rfl rfl (np := 26) rfl ?_
        refine g_icmp_ne F dX0_openBy_26 (tp := 47) (by decide) (np := 29) rfl (fun c26 => ?_) (fun c26 => ?_)
        · refine g_iconst F (v := (nI 0)) dX0_openBy_47 (by decide) (np := 48) rfl ?_
          refine g_iaddN F dX0_openBy_48 (np := 49) rfl ?_
          refine g_istore_n F (lv' := [some (.ref (Λ.1 0 38)), some (.int o), some (.int (nI d)), some (.int (nI (n + 0))), some (.int (nI p))]) dX0_openBy_49 rfl (by decide) rfl rfl (np := 50) rfl ?_
          refine g_iinc F (v := (nI (p + 1))) (lv' := [some (.ref (Λ.1 0 38)), some (.int o), some (.int (nI d)), some (.int (nI (n + 0))), some (.int (nI (p + 1)))]) dX0_openBy_50 rfl (nI_add _ _) (by decide) rfl rfl (np := 53) rfl ?_
          refine g_goto F dX0_openBy_53 (np := 5) (by decide) ?_
          exact ih5 (n + 0) (p + 1) (by first | (unfold sCnt; rw [pif_t ⟨c26, c40⟩, h1]; done) | (unfold sCnt; rw [pif_f (fun z => c26 z.1), h1]; done) | (unfold sCnt; rw [pif_f (fun z => c40 z.2), h1])) (by first | assumption | omega) (by omega)
        · refine g_aload_n F dX0_openBy_29 rfl rfl (np := 30) rfl ?_
          refine w_get F (k := 1) (v := .ref (Λ.1 0 1)) (by decide) rfl (Or.inl q178) dX0_openBy_30 (np := 33) rfl ?_
          refine g_iload F dX0_openBy_33 rfl (np := 35) rfl ?_
          refine w_aldP F (i := p) rfl hXR.2.1 (show p < σ.1 2 by omega) (show σ.1 2 ≤ 14 by omega) dX0_openBy_35 (np := 36) rfl ?_
          refine g_iload_n F dX0_openBy_36 rfl rfl (np := 37) rfl ?_
          refine g_runV F (C := RX4) (ci := 4) (T0 := TX4) (N := 7) (rest := [.int (nI n)]) (ct_X4_isOpenW σ p d (by first | assumption | omega)) (lw_V q820 q821 q822 q104 q823) hcV_X4_isOpen ⟨Nat.le_of_ble_eq_true rfl, Nat.le_of_ble_eq_true rfl⟩ rfl (fun h hs => ⟨_, hs.prm (show p < σ.1 2 by omega)⟩) rfl rfl (Nat.le_of_ble_eq_true rfl) dX0_openBy_37 ⟨Nat.le_of_ble_eq_true rfl, Nat.le_of_ble_eq_true rfl⟩ (np := 40) rfl (k_RI ?_)
          refine g_if_eqB F dX0_openBy_40 (tp := 47) (by decide) (np := 43) rfl (fun c40 => ?_) (fun c40 => ?_)
          · refine g_iconst F (v := (nI 0)) dX0_openBy_47 (by decide) (np := 48) rfl ?_
            refine g_iaddN F dX0_openBy_48 (np := 49) rfl ?_
            refine g_istore_n F (lv' := [some (.ref (Λ.1 0 38)), some (.int o), some (.int (nI d)), some (.int (nI (n + 0))), some (.int (nI p))]) dX0_openBy_49 rfl (by decide) rfl rfl (np := 50) rfl ?_
            refine g_iinc F (v := (nI (p + 1))) (lv' := [some (.ref (Λ.1 0 38)), some (.int o), some (.int (nI d)), some (.int (nI (n + 0))), some (.int (nI (p + 1)))]) dX0_openBy_50 rfl (nI_add _ _) (by decide) rfl rfl (np := 53) rfl ?_
            refine g_goto F dX0_openBy_53 (np := 5) (by decide) ?_
            exact ih5 (n + 0) (p + 1) (by first | (unfold sCnt; rw [pif_t ⟨c26, c40⟩, h1]; done) | (unfold sCnt; rw [pif_f (fun z => c26 z.1), h1]; done) | (unfold sCnt; rw [pif_f (fun z => c40 z.2), h1])) (by first | assumption | omega) (by omega)
          · refine g_iconst F (v := (nI 1)) dX0_openBy_43 (by decide) (np := 44) rfl ?_
            refine g_goto F dX0_openBy_44 (np := 48) (by decide) ?_
            refine g_iaddN F dX0_openBy_48 (np := 49) rfl ?_
            refine g_istore_n F (lv' := [some (.ref (Λ.1 0 38)), some (.int o), some (.int (nI d)), some (.int (nI (n + 1))), some (.int (nI p))]) dX0_openBy_49 rfl (by decide) rfl rfl (np := 50) rfl ?_
            refine g_iinc F (v := (nI (p + 1))) (lv' := [some (.ref (Λ.1 0 38)), some (.int o), some (.int (nI d)), some (.int (nI (n + 1))), some (.int (nI (p + 1)))]) dX0_openBy_50 rfl (nI_add _ _) (by decide) rfl rfl (np := 53) rfl ?_
            refine g_goto F dX0_openBy_53 (np := 5) (by decide) ?_
            exact ih5 (n + 1) (p + 1) (by first | (unfold sCnt; rw [pif_t ⟨c26, c40⟩, h1]; done) | (unfold sCnt; rw [pif_f (fun z => c26 z.1), h1]; done) | (unfold sCnt; rw [pif_f (fun z => c40 z.2), h1])) (by first | assumption | omega) (by omega)
  exact L5 _ 0 0 (by rfl) (by omega) (Nat.lt_succ_self _)

set_option maxRecDepth 100000 in
theorem ct_X1_clear {l : Launch} {D : va_G} {B : Nat} {Λ : LT} {I : AH} (σ : MSt) : Ct l D ZE B yX1_clear cX1_clear 2 none 0 0 0 0 [.ref (Λ.1 0 12)] (XW D Λ I σ) (RV (XW D Λ I (cpS σ 52 (fun j => if j < 128 then 0 else σ.2.1 52 j)))) := by
  refine Ct.of (nL := 2) (lv := [some (.ref (Λ.1 0 12)), none]) (by decide) (Nat.le_of_ble_eq_true rfl) stZE 1 rfl ?_
  generalize hT : RV (XW D Λ I (cpS σ 52 (fun j => if j < 128 then 0 else σ.2.1 52 j))) = T
  intro zp ze zs zm zb zt zc F hr hnm
  generalize ([.ref (Λ.1 0 12)] : List Value).toArray = za at F ⊢
  refine g_iconst F (v := (nI 0)) dX1_clear_0 (by decide) (np := 1) rfl ?_
  refine g_istore_n F (lv' := [some (.ref (Λ.1 0 12)), some (.int (nI 0))]) dX1_clear_1 rfl (by decide) rfl rfl (np := 2) rfl ?_
  have L2 : ∀ (zn : Nat) (k : Nat) (f : Nat → Int32), (∀ j, f j = if j < k then 0 else σ.2.1 52 j) → (k ≤ 128) → 128 - k < zn → WG zp l ze ({ frames := 0, cells := 0, slots := 0, locals := 0 } : Room) zs zm za zb zt zc D B 2 (MQ zb (QT D B T) za zs 0 0 (zA B)) (XW D Λ I (cpS σ 52 f)) 0 0 2 [some (.ref (Λ.1 0 12)), some (.int (nI k))] [] := by
    intro zn
    induction zn with
    | zero => intro k f h1 h2 hm; exact absurd hm (Nat.not_lt_zero _)
    | succ zn ih2 =>
      intro k f h1 h2 hm
      refine g_iload_n F dX1_clear_2 rfl rfl (np := 3) rfl ?_
      refine g_aload_n F dX1_clear_3 rfl rfl (np := 4) rfl ?_
      refine g_getL F in_X1 (ci := 1) rfl 0 (by decide) rfl (Or.inl q165) (v := .ref (Λ.1 0 39)) (fun h hs => ⟨_, hs.facts, rfl⟩) dX1_clear_4 (np := 7) rfl ?_
      refine g_alen F (t0 := 0) (ty := .int) (v := nI 128) (fun h hs => ⟨128, _, hs.1 0 39 _ rfl, by decide⟩) rfl dX1_clear_7 (np := 8) rfl ?_
      refine g_icmp_geN F (by omega) (by decide) dX1_clear_8 (tp := 24) (by decide) (np := 11) rfl (fun c8 => ?_) (fun c8 => ?_)
      · have hσ : (cpS σ 52 f) = (cpS σ 52 (fun j => if j < 128 then 0 else σ.2.1 52 j)) := by have hf : f = fun j => if j < 128 then 0 else σ.2.1 52 j := by { funext j; rw [h1, show k = 128 by omega] }; rw [hf]
        exact g_vret F hr (Nat.le_of_ble_eq_true rfl) (Nat.le_of_ble_eq_true rfl) dX1_clear_24 (fun h hs => by rw [← hT]; exact ⟨rfl, (hσ ▸ hs)⟩)
      · refine g_aload_n F dX1_clear_11 rfl rfl (np := 12) rfl ?_
        refine g_getL F in_X1 (ci := 1) rfl 0 (by decide) rfl (Or.inl q165) (v := .ref (Λ.1 0 39)) (fun h hs => ⟨_, hs.facts, rfl⟩) dX1_clear_12 (np := 15) rfl ?_
        refine g_iload_n F dX1_clear_15 rfl rfl (np := 16) rfl ?_
        refine g_iconst F (v := (nI 0)) dX1_clear_16 (by decide) (np := 17) rfl ?_
        refine w_iast F (J := 39) (a := 52) (i := k) (n := 128) (Or.inr (Or.inr (Or.inr ⟨rfl, rfl⟩))) (fun _ => rfl) (by decide) (by omega) rfl dX1_clear_17 (np := 18) rfl ?_
        refine WG.weak (S' := XW D Λ I (cpS σ 52 (va_up f k (nI (0))))) (fun h hs => by rw [cpS_sA]; exact hs) ?_
        refine g_iinc F (v := (nI (k + 1))) (lv' := [some (.ref (Λ.1 0 12)), some (.int (nI (k + 1)))]) dX1_clear_18 rfl (nI_add _ _) (by decide) rfl rfl (np := 21) rfl ?_
        refine g_goto F dX1_clear_21 (np := 2) (by decide) ?_
        exact ih2 (k + 1) ((va_up f k (nI (0)))) (by exact cp_step (P := fun _ => 0) h1 rfl) (by omega) (by omega)
  refine WG.weak (S' := XW D Λ I (cpS σ 52 (σ.2.1 52))) (fun h hs => by rw [cpS_id]; exact hs) ?_
  exact L2 _ 0 ((σ.2.1 52)) (by intro j; rw [if_neg (Nat.not_lt_zero j)]) (by omega) (Nat.lt_succ_self _)
