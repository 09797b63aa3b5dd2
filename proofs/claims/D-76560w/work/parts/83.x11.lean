/-! WALKS (printed by walk.py): put, element, taken -/
set_option maxRecDepth 100000
set_option maxRecDepth 100000 in
theorem ct_X0_put {l : Launch} {D : va_G} {B : Nat} {Λ : LT} {I : AH} {L : LawT} (σ : MSt)  (i : Int32) (j : Int32) (v : Int64) (hho : hoOK σ) (hnb : σ.1 34 ≤ 50) (hsh : shOK σ) (hbo : boOK σ) : CtP l D B (wsW_ yX0_put cX0_put 6 (some .int) [(9, 31, 32, 109), (9, 31, 37, 107), (9, 31, 42, 111)]) yX0_put 12 10500 3 910 [.ref (Λ.1 0 38), .int i, .int j, .long (v)] (XH D Λ I L σ) (RI (rPut σ i j) (XH D Λ I L (gPut σ i j v))) := by
  refine CtP.ofW (nL := 6) (lv := [some (.ref (Λ.1 0 38)), some (.int i), some (.int j), some (.long (v)), none, none]) (by decide) (Nat.le_of_ble_eq_true rfl) 1 rfl ?_
  generalize hT : RI (rPut σ i j) (XH D Λ I L (gPut σ i j v)) = T
  intro zp ze zs zm zb zt zc F hZ hr hnm hX
  generalize ([.ref (Λ.1 0 38), .int i, .int j, .long (v)] : List Value).toArray = za at F ⊢
  refine g_iload_n F dX0_put_0 rfl rfl (np := 1) rfl ?_
  refine g_runS F (rest := []) (ct_X0_isShelf i ) (lw_S q493 q494 q100 q495) hcS_X0_isShelf ⟨Nat.le_of_ble_eq_true rfl, Nat.le_of_ble_eq_true rfl⟩ rfl rfl (Nat.le_of_ble_eq_true rfl) dX0_put_1 ⟨Nat.le_of_ble_eq_true rfl, Nat.le_of_ble_eq_true rfl⟩ (np := 4) rfl (k_RI ?_)
  refine g_if_neB F dX0_put_4 (tp := 9) (by decide) (np := 7) rfl (fun c4 => ?_) (fun c4 => ?_)
  · obtain ⟨hil, hie⟩ := inN_cl (by decide) c4
    obtain ⟨n0, hn0, en0⟩ := hsh _ hil
    have en1 : lenN σ i.toNatClampNeg = n0 := by unfold lenN; rw [en0]; exact nI_clamp (by omega)
    have h60 : lenN σ i.toNatClampNeg ≤ 60 := by omega
    refine WG.eqv (lv' := [some (.ref (Λ.1 0 38)), some (.int (nI (i.toNatClampNeg))), some (.int j), some (.long (v)), none, none]) rfl (congrArg (fun z => ([some (.ref (Λ.1 0 38)), some (.int z), some (.int j), some (.long (v)), none, none] : List (Option Value))) (show i = (nI (i.toNatClampNeg)) from by exact hie)) ?_
    refine g_aload_n F dX0_put_9 rfl rfl (np := 10) rfl ?_
    refine x_get F (k := 37) (v := .ref (Λ.1 0 37)) (by decide) rfl (Or.inl q216) dX0_put_10 (np := 13) rfl ?_
    refine g_iload_n F dX0_put_13 rfl rfl (np := 14) rfl ?_
    refine WG.obt (fun h hs => XH.shelf hs hho hnb (i := i.toNatClampNeg) hil) (fun hsv => ?_)
    rcases hsv with ⟨hv1, hv2⟩ | ⟨k, hk5, hrk, hv1, hv2⟩ | ⟨b, hbb, hv1, ba, hv2, hbI⟩
    · refine x_ald F (k := 37) (i := i.toNatClampNeg) (n := 6) (t0 := 9) (v := none) rfl (fun _ _ _ => rfl) (by decide) (by decide) (by omega) rfl (fun _ _ _ _ => hv2) dX0_put_14 (np := 15) rfl ?_
      refine g_castN F dX0_put_15 (np := 18) rfl ?_
      refine g_iload_n F dX0_put_18 rfl rfl (np := 19) rfl ?_
      refine g_lload_n F dX0_put_19 rfl rfl (np := 20) rfl ?_
      refine z_invNA F hZ ⟨(Nat.le_of_ble_eq_true rfl), (Nat.le_of_ble_eq_true rfl), (Nat.le_of_ble_eq_true rfl), (Nat.le_of_ble_eq_true rfl)⟩ (by decide) (x := ⟨"PromiseRoofs$Row", "put", "(IJ)Z"⟩) (As := [.int j, .long (v)]) (rest := []) q1408 ze1409 (by decide +kernel) (show (parseMethodDescriptor "(IJ)Z").map (fun d => d.parameters.length) = some 2 from by decide +kernel) q1410 dX0_put_20 rfl ?_
      refine z_catch F (name := "java/lang/NullPointerException") [] ⟨9, 31, 32, 109⟩ [(⟨9, 31, 37, 107⟩ : ExceptionTableEntry), (⟨9, 31, 42, 111⟩ : ExceptionTableEntry)] (hX.trans rfl) (fun z hz => by cases hz) (by decide) (by decide) q449 ze471 (fun zq => ?_)
      refine g_astore F (lv' := [some (.ref (Λ.1 0 38)), some (.int (nI (i.toNatClampNeg))), some (.int j), some (.long (v)), none, some (.ref (zq))]) dX0_put_32 (by decide) rfl rfl (np := 34) rfl ?_
      refine g_bipush F (v := (-11)) dX0_put_34 (by decide) (np := 36) rfl ?_
      have hσ : σ = (gPut σ i j v) := by unfold gPut; rw [pif_f (fun z => by obtain ⟨_, z2, _⟩ := z; rw [hv1] at z2; exact nN1 z2)]
      have hv : -11 = rPut σ i j := by unfold rPut; rw [pif_t c4, if_pos hv1]
      exact g_iret F hr rfl (Nat.le_of_ble_eq_true rfl) (Nat.le_of_ble_eq_true rfl) dX0_put_36 (fun h hs => by rw [← hT]; exact ⟨congrArg (fun z => some (Value.int z)) hv, (hσ ▸ hs)⟩)
    · refine x_ald F (k := 37) (i := i.toNatClampNeg) (n := 6) (t0 := 9) (v := some (Λ.1 3 i.toNatClampNeg)) rfl (fun _ _ _ => rfl) (by decide) (by decide) (by omega) rfl (fun _ _ _ _ => hv2) dX0_put_14 (np := 15) rfl ?_
      refine g_castY F (ci := 24 + k) (yesRR _ hk5) q1407 (fun h hs => ⟨_, XH.rowC hs hrk⟩) dX0_put_15 (np := 18) rfl ?_
      refine g_iload_n F dX0_put_18 rfl rfl (np := 19) rfl ?_
      refine g_lload_n F dX0_put_19 rfl rfl (np := 20) rfl ?_
      by_cases hj : inN j (lenN σ i.toNatClampNeg)
      · obtain ⟨hjl, hje⟩ := inN_cl (by omega) hj
        refine WG.eqv (st' := [.long (v), .int (nI j.toNatClampNeg), .ref (Λ.1 3 i.toNatClampNeg)]) (congrArg (fun z => ([.long (v), .int z, .ref (Λ.1 3 i.toNatClampNeg)] : List Value)) (show j = nI j.toNatClampNeg from hje)) rfl ?_
        refine gw_put F (rest := []) q1408 hk5 hrk h60 hjl ⟨(Nat.le_of_ble_eq_true rfl), (Nat.le_of_ble_eq_true rfl)⟩ (Nat.le_of_ble_eq_true rfl) dX0_put_20 ⟨(Nat.le_of_ble_eq_true rfl), (Nat.le_of_ble_eq_true rfl)⟩ (np := 23) rfl ?_
        refine g_if_eqN F (by decide) dX0_put_23 (tp := 30) (by decide) (np := 26) rfl (fun c23 => ?_) (fun c23 => ?_)
        · exact absurd c23 (by decide)
        · refine g_iconst F (v := (nI 1)) dX0_put_26 (by decide) (np := 27) rfl ?_
          refine g_goto F dX0_put_27 (np := 31) (by decide) ?_
          have hσ : (sR σ (60 * i.toNatClampNeg + j.toNatClampNeg) (sKept (nI k) v)) = (gPut σ i j v) := by unfold gPut; rw [pif_t ⟨c4, by rw [hv1]; exact (hoR hk5).2, hj⟩, hv1]
          have hv : nI (1) = rPut σ i j := by unfold rPut; rw [pif_t c4, hv1, if_neg (hoR hk5).1, pif_t (hoR hk5).2, pif_t hj]; rfl
          exact g_iret F hr rfl (Nat.le_of_ble_eq_true rfl) (Nat.le_of_ble_eq_true rfl) dX0_put_31 (fun h hs => by rw [← hT]; exact ⟨congrArg (fun z => some (Value.int z)) hv, (hσ ▸ hs)⟩)
      · refine gw_putX F hZ (np := 0) (rest := []) q1408 hk5 hrk h60 hj ⟨(Nat.le_of_ble_eq_true rfl), (Nat.le_of_ble_eq_true rfl)⟩ (Nat.le_of_ble_eq_true rfl) dX0_put_20 ⟨(Nat.le_of_ble_eq_true rfl), (Nat.le_of_ble_eq_true rfl)⟩ ?_
        refine z_catch F (name := "java/lang/IndexOutOfBoundsException") [(⟨9, 31, 32, 109⟩ : ExceptionTableEntry), (⟨9, 31, 37, 107⟩ : ExceptionTableEntry)] ⟨9, 31, 42, 111⟩ [] (hX.trans rfl) (List.forall_mem_cons.mpr ⟨Or.inr ⟨by decide, _, q449, hZ.2.2.2.2 ("java/lang/ArrayIndexOutOfBoundsException", "java/lang/NullPointerException") (List.mem_append_left _ (by decide))⟩, (List.forall_mem_cons.mpr ⟨Or.inr ⟨by decide, _, q365, hZ.2.2.2.2 ("java/lang/ArrayIndexOutOfBoundsException", "java/lang/ClassCastException") (List.mem_append_left _ (by decide))⟩, (fun _ hz => by cases hz)⟩)⟩) (by decide) (by decide) q474 ze2069 (fun zq => ?_)
        refine g_astore F (lv' := [some (.ref (Λ.1 0 38)), some (.int (nI (i.toNatClampNeg))), some (.int j), some (.long (v)), none, some (.ref (zq))]) dX0_put_42 (by decide) rfl rfl (np := 44) rfl ?_
        refine g_bipush F (v := (-13)) dX0_put_44 (by decide) (np := 46) rfl ?_
        have hσ : σ = (gPut σ i j v) := by unfold gPut; rw [pif_f (fun z => hj z.2.2)]
        have hv : -13 = rPut σ i j := by unfold rPut; rw [pif_t c4, hv1, if_neg (hoR hk5).1, pif_t (hoR hk5).2, pif_f hj]
        exact g_iret F hr rfl (Nat.le_of_ble_eq_true rfl) (Nat.le_of_ble_eq_true rfl) dX0_put_46 (fun h hs => by rw [← hT]; exact ⟨congrArg (fun z => some (Value.int z)) hv, (hσ ▸ hs)⟩)
    · have hkd7 : kdN σ b ≤ 7 := by obtain ⟨kk, q1, q2⟩ := hbo.2 _ hbb; unfold kdN; rw [q2, nI_clamp (by omega)]; exact q1
      refine x_ald F (k := 37) (i := i.toNatClampNeg) (n := 6) (t0 := 9) (v := some ba) rfl (fun _ _ _ => rfl) (by decide) (by decide) (by omega) rfl (fun _ _ _ _ => hv2) dX0_put_14 (np := 15) rfl ?_
      refine z_castA F hZ ⟨(Nat.le_of_ble_eq_true rfl), (Nat.le_of_ble_eq_true rfl), (Nat.le_of_ble_eq_true rfl), (Nat.le_of_ble_eq_true rfl)⟩ (by decide) (ci := 15 + kdN σ b) (noBR _ hkd7) q1407 (fun h hs => ⟨_, XH.kn hs hbI⟩) sh_m dX0_put_15 ?_
      refine z_catch F (name := "java/lang/ClassCastException") [(⟨9, 31, 32, 109⟩ : ExceptionTableEntry)] ⟨9, 31, 37, 107⟩ [(⟨9, 31, 42, 111⟩ : ExceptionTableEntry)] (hX.trans rfl) (List.forall_mem_cons.mpr ⟨Or.inr ⟨by decide, _, q449, hZ.2.2.2.2 ("java/lang/ClassCastException", "java/lang/NullPointerException") (List.mem_append_left _ (by decide))⟩, (fun _ hz => by cases hz)⟩) (by decide) (by decide) q365 ze427 (fun zq => ?_)
      refine g_astore F (lv' := [some (.ref (Λ.1 0 38)), some (.int (nI (i.toNatClampNeg))), some (.int j), some (.long (v)), none, some (.ref (zq))]) dX0_put_37 (by decide) rfl rfl (np := 39) rfl ?_
      refine g_bipush F (v := (-12)) dX0_put_39 (by decide) (np := 41) rfl ?_
      have hσ : σ = (gPut σ i j v) := by unfold gPut; rw [pif_f (fun z => by obtain ⟨_, z2, _⟩ := z; rw [hv1] at z2; exact (hoB (by omega)).2 z2)]
      have hv : -12 = rPut σ i j := by unfold rPut; rw [pif_t c4, hv1, if_neg (hoB (by omega)).1, pif_f (hoB (by omega)).2]
      exact g_iret F hr rfl (Nat.le_of_ble_eq_true rfl) (Nat.le_of_ble_eq_true rfl) dX0_put_41 (fun h hs => by rw [← hT]; exact ⟨congrArg (fun z => some (Value.int z)) hv, (hσ ▸ hs)⟩)
  · refine g_iconst F (v := (-1)) dX0_put_7 (by decide) (np := 8) rfl ?_
    have hσ : σ = (gPut σ i j v) := by unfold gPut; rw [pif_f (fun z => c4 z.1)]
    have hv : -1 = rPut σ i j := by unfold rPut; rw [pif_f c4]
    exact g_iret F hr rfl (Nat.le_of_ble_eq_true rfl) (Nat.le_of_ble_eq_true rfl) dX0_put_8 (fun h hs => by rw [← hT]; exact ⟨congrArg (fun z => some (Value.int z)) hv, (hσ ▸ hs)⟩)

set_option maxRecDepth 100000 in
theorem ct_X0_element {l : Launch} {D : va_G} {B : Nat} {Λ : LT} {I : AH} {L : LawT} (σ : MSt)  (i : Int32) (j : Int32) (hho : hoOK σ) (hnb : σ.1 34 ≤ 50) (hsh : shOK σ) (hbo : boOK σ) (hkp : kpOK σ) : CtP l D B (wsW_ yX0_element cX0_element 4 (some .long) [(11, 24, 25, 109), (11, 24, 30, 107), (11, 24, 35, 111)]) yX0_element 12 10500 3 910 [.ref (Λ.1 0 38), .int i, .int j] (XH D Λ I L σ) (RL (rEl σ i j) (XH D Λ I L σ)) := by
  refine CtP.ofW (nL := 4) (lv := [some (.ref (Λ.1 0 38)), some (.int i), some (.int j), none]) (by decide) (Nat.le_of_ble_eq_true rfl) 1 rfl ?_
  generalize hT : RL (rEl σ i j) (XH D Λ I L σ) = T
  intro zp ze zs zm zb zt zc F hZ hr hnm hX
  generalize ([.ref (Λ.1 0 38), .int i, .int j] : List Value).toArray = za at F ⊢
  refine g_iload_n F dX0_element_0 rfl rfl (np := 1) rfl ?_
  refine g_runS F (rest := []) (ct_X0_isShelf i ) (lw_S q493 q494 q100 q495) hcS_X0_isShelf ⟨Nat.le_of_ble_eq_true rfl, Nat.le_of_ble_eq_true rfl⟩ rfl rfl (Nat.le_of_ble_eq_true rfl) dX0_element_1 ⟨Nat.le_of_ble_eq_true rfl, Nat.le_of_ble_eq_true rfl⟩ (np := 4) rfl (k_RI ?_)
  refine g_if_neB F dX0_element_4 (tp := 11) (by decide) (np := 7) rfl (fun c4 => ?_) (fun c4 => ?_)
  · obtain ⟨hil, hie⟩ := inN_cl (by decide) c4
    obtain ⟨n0, hn0, en0⟩ := hsh _ hil
    have en1 : lenN σ i.toNatClampNeg = n0 := by unfold lenN; rw [en0]; exact nI_clamp (by omega)
    have h60 : lenN σ i.toNatClampNeg ≤ 60 := by omega
    refine WG.eqv (lv' := [some (.ref (Λ.1 0 38)), some (.int (nI (i.toNatClampNeg))), some (.int j), none]) rfl (congrArg (fun z => ([some (.ref (Λ.1 0 38)), some (.int z), some (.int j), none] : List (Option Value))) (show i = (nI (i.toNatClampNeg)) from by exact hie)) ?_
    refine g_aload_n F dX0_element_11 rfl rfl (np := 12) rfl ?_
    refine x_get F (k := 37) (v := .ref (Λ.1 0 37)) (by decide) rfl (Or.inl q216) dX0_element_12 (np := 15) rfl ?_
    refine g_iload_n F dX0_element_15 rfl rfl (np := 16) rfl ?_
    refine WG.obt (fun h hs => XH.shelf hs hho hnb (i := i.toNatClampNeg) hil) (fun hsv => ?_)
    rcases hsv with ⟨hv1, hv2⟩ | ⟨k, hk5, hrk, hv1, hv2⟩ | ⟨b, hbb, hv1, ba, hv2, hbI⟩
    · refine x_ald F (k := 37) (i := i.toNatClampNeg) (n := 6) (t0 := 9) (v := none) rfl (fun _ _ _ => rfl) (by decide) (by decide) (by omega) rfl (fun _ _ _ _ => hv2) dX0_element_16 (np := 17) rfl ?_
      refine g_castN F dX0_element_17 (np := 20) rfl ?_
      refine g_iload_n F dX0_element_20 rfl rfl (np := 21) rfl ?_
      refine z_invNA F hZ ⟨(Nat.le_of_ble_eq_true rfl), (Nat.le_of_ble_eq_true rfl), (Nat.le_of_ble_eq_true rfl), (Nat.le_of_ble_eq_true rfl)⟩ (by decide) (x := ⟨"PromiseRoofs$Row", "at", "(I)J"⟩) (As := [.int j]) (rest := []) q1431 ze1432 (by decide +kernel) (show (parseMethodDescriptor "(I)J").map (fun d => d.parameters.length) = some 1 from by decide +kernel) q1433 dX0_element_21 rfl ?_
      refine z_catch F (name := "java/lang/NullPointerException") [] ⟨11, 24, 25, 109⟩ [(⟨11, 24, 30, 107⟩ : ExceptionTableEntry), (⟨11, 24, 35, 111⟩ : ExceptionTableEntry)] (hX.trans rfl) (fun z hz => by cases hz) (by decide) (by decide) q449 ze471 (fun zq => ?_)
      refine g_astore_n F (lv' := [some (.ref (Λ.1 0 38)), some (.int (nI (i.toNatClampNeg))), some (.int j), some (.ref (zq))]) dX0_element_25 rfl (by decide) rfl rfl (np := 26) rfl ?_
      refine g_ldc2 F q1430 dX0_element_26 (np := 29) rfl ?_
      have hv : (-9223372036854775808) = (rEl σ i j) := by unfold rEl; rw [pif_f (fun z => by obtain ⟨_, z2, _⟩ := z; rw [hv1] at z2; exact nN1 z2)]
      exact g_lret F hr (Nat.le_of_ble_eq_true rfl) (Nat.le_of_ble_eq_true rfl) dX0_element_29 (fun h hs => by rw [← hT]; exact ⟨congrArg (fun z => some (Value.long z)) hv, hs⟩)
    · refine x_ald F (k := 37) (i := i.toNatClampNeg) (n := 6) (t0 := 9) (v := some (Λ.1 3 i.toNatClampNeg)) rfl (fun _ _ _ => rfl) (by decide) (by decide) (by omega) rfl (fun _ _ _ _ => hv2) dX0_element_16 (np := 17) rfl ?_
      refine g_castY F (ci := 24 + k) (yesRR _ hk5) q1407 (fun h hs => ⟨_, XH.rowC hs hrk⟩) dX0_element_17 (np := 20) rfl ?_
      refine g_iload_n F dX0_element_20 rfl rfl (np := 21) rfl ?_
      by_cases hj : inN j (lenN σ i.toNatClampNeg)
      · obtain ⟨hjl, hje⟩ := inN_cl (by omega) hj
        refine WG.eqv (st' := [.int (nI j.toNatClampNeg), .ref (Λ.1 3 i.toNatClampNeg)]) (congrArg (fun z => ([.int z, .ref (Λ.1 3 i.toNatClampNeg)] : List Value)) (show j = nI j.toNatClampNeg from hje)) rfl ?_
        refine gw_at F (rest := []) q1431 hk5 hrk h60 hjl ⟨(Nat.le_of_ble_eq_true rfl), (Nat.le_of_ble_eq_true rfl)⟩ (Nat.le_of_ble_eq_true rfl) dX0_element_21 ⟨(Nat.le_of_ble_eq_true rfl), (Nat.le_of_ble_eq_true rfl)⟩ (np := 24) rfl ?_
        have hv : (rowV k (σ.2.2 (60 * i.toNatClampNeg + j.toNatClampNeg))) = (rEl σ i j) := by unfold rEl; rw [pif_t ⟨c4, by rw [hv1]; exact (hoR hk5).2, hj⟩]; exact hkp _ _ hil hrk _ hjl
        exact g_lret F hr (Nat.le_of_ble_eq_true rfl) (Nat.le_of_ble_eq_true rfl) dX0_element_24 (fun h hs => by rw [← hT]; exact ⟨congrArg (fun z => some (Value.long z)) hv, hs⟩)
      · refine gw_atX F hZ (np := 0) (rest := []) q1431 hk5 hrk h60 hj ⟨(Nat.le_of_ble_eq_true rfl), (Nat.le_of_ble_eq_true rfl)⟩ (Nat.le_of_ble_eq_true rfl) dX0_element_21 ⟨(Nat.le_of_ble_eq_true rfl), (Nat.le_of_ble_eq_true rfl)⟩ ?_
        refine z_catch F (name := "java/lang/IndexOutOfBoundsException") [(⟨11, 24, 25, 109⟩ : ExceptionTableEntry), (⟨11, 24, 30, 107⟩ : ExceptionTableEntry)] ⟨11, 24, 35, 111⟩ [] (hX.trans rfl) (List.forall_mem_cons.mpr ⟨Or.inr ⟨by decide, _, q449, hZ.2.2.2.2 ("java/lang/ArrayIndexOutOfBoundsException", "java/lang/NullPointerException") (List.mem_append_left _ (by decide))⟩, (List.forall_mem_cons.mpr ⟨Or.inr ⟨by decide, _, q365, hZ.2.2.2.2 ("java/lang/ArrayIndexOutOfBoundsException", "java/lang/ClassCastException") (List.mem_append_left _ (by decide))⟩, (fun _ hz => by cases hz)⟩)⟩) (by decide) (by decide) q474 ze2069 (fun zq => ?_)
        refine g_astore_n F (lv' := [some (.ref (Λ.1 0 38)), some (.int (nI (i.toNatClampNeg))), some (.int j), some (.ref (zq))]) dX0_element_35 rfl (by decide) rfl rfl (np := 36) rfl ?_
        refine g_ldc2 F q1430 dX0_element_36 (np := 39) rfl ?_
        have hv : (-9223372036854775808) = (rEl σ i j) := by unfold rEl; rw [pif_f (fun z => hj z.2.2)]
        exact g_lret F hr (Nat.le_of_ble_eq_true rfl) (Nat.le_of_ble_eq_true rfl) dX0_element_39 (fun h hs => by rw [← hT]; exact ⟨congrArg (fun z => some (Value.long z)) hv, hs⟩)
    · have hkd7 : kdN σ b ≤ 7 := by obtain ⟨kk, q1, q2⟩ := hbo.2 _ hbb; unfold kdN; rw [q2, nI_clamp (by omega)]; exact q1
      refine x_ald F (k := 37) (i := i.toNatClampNeg) (n := 6) (t0 := 9) (v := some ba) rfl (fun _ _ _ => rfl) (by decide) (by decide) (by omega) rfl (fun _ _ _ _ => hv2) dX0_element_16 (np := 17) rfl ?_
      refine z_castA F hZ ⟨(Nat.le_of_ble_eq_true rfl), (Nat.le_of_ble_eq_true rfl), (Nat.le_of_ble_eq_true rfl), (Nat.le_of_ble_eq_true rfl)⟩ (by decide) (ci := 15 + kdN σ b) (noBR _ hkd7) q1407 (fun h hs => ⟨_, XH.kn hs hbI⟩) sh_m dX0_element_17 ?_
      refine z_catch F (name := "java/lang/ClassCastException") [(⟨11, 24, 25, 109⟩ : ExceptionTableEntry)] ⟨11, 24, 30, 107⟩ [(⟨11, 24, 35, 111⟩ : ExceptionTableEntry)] (hX.trans rfl) (List.forall_mem_cons.mpr ⟨Or.inr ⟨by decide, _, q449, hZ.2.2.2.2 ("java/lang/ClassCastException", "java/lang/NullPointerException") (List.mem_append_left _ (by decide))⟩, (fun _ hz => by cases hz)⟩) (by decide) (by decide) q365 ze427 (fun zq => ?_)
      refine g_astore_n F (lv' := [some (.ref (Λ.1 0 38)), some (.int (nI (i.toNatClampNeg))), some (.int j), some (.ref (zq))]) dX0_element_30 rfl (by decide) rfl rfl (np := 31) rfl ?_
      refine g_ldc2 F q1430 dX0_element_31 (np := 34) rfl ?_
      have hv : (-9223372036854775808) = (rEl σ i j) := by unfold rEl; rw [pif_f (fun z => by obtain ⟨_, z2, _⟩ := z; rw [hv1] at z2; exact (hoB (by omega)).2 z2)]
      exact g_lret F hr (Nat.le_of_ble_eq_true rfl) (Nat.le_of_ble_eq_true rfl) dX0_element_34 (fun h hs => by rw [← hT]; exact ⟨congrArg (fun z => some (Value.long z)) hv, hs⟩)
  · refine g_ldc2 F q1430 dX0_element_7 (np := 10) rfl ?_
    have hv : (-9223372036854775808) = (rEl σ i j) := by unfold rEl; rw [pif_f (fun z => c4 z.1)]
    exact g_lret F hr (Nat.le_of_ble_eq_true rfl) (Nat.le_of_ble_eq_true rfl) dX0_element_10 (fun h hs => by rw [← hT]; exact ⟨congrArg (fun z => some (Value.long z)) hv, hs⟩)

set_option maxRecDepth 100000 in
theorem ct_X0_taken {l : Launch} {D : va_G} {B : Nat} {Λ : LT} {I : AH} {L : LawT} (σ : MSt)  (i : Int32) (q : Int32) (hho : hoOK σ) (hnb : σ.1 34 ≤ 50) (hbo : boOK σ) : CtP l D B (wsW_ yX0_taken cX0_taken 4 (some .int) [(19, 46, 47, 109), (19, 46, 51, 107)]) yX0_taken 12 10500 3 910 [.ref (Λ.1 0 38), .int i, .int q] (XH D Λ I L σ) (RI (rTaken σ i q) (XH D Λ I L σ)) := by
  refine CtP.ofW (nL := 4) (lv := [some (.ref (Λ.1 0 38)), some (.int i), some (.int q), none]) (by decide) (Nat.le_of_ble_eq_true rfl) 1 rfl ?_
  generalize hT : RI (rTaken σ i q) (XH D Λ I L σ) = T
  intro zp ze zs zm zb zt zc F hZ hr hnm hX
  generalize ([.ref (Λ.1 0 38), .int i, .int q] : List Value).toArray = za at F ⊢
  refine g_iload_n F dX0_taken_0 rfl rfl (np := 1) rfl ?_
  refine g_runS F (rest := []) (ct_X0_isShelf i ) (lw_S q493 q494 q100 q495) hcS_X0_isShelf ⟨Nat.le_of_ble_eq_true rfl, Nat.le_of_ble_eq_true rfl⟩ rfl rfl (Nat.le_of_ble_eq_true rfl) dX0_taken_1 ⟨Nat.le_of_ble_eq_true rfl, Nat.le_of_ble_eq_true rfl⟩ (np := 4) rfl (k_RI ?_)
  refine g_if_eqB F dX0_taken_4 (tp := 17) (by decide) (np := 7) rfl (fun c4 => ?_) (fun c4 => ?_)
  · refine g_iconst F (v := (-1)) dX0_taken_17 (by decide) (np := 18) rfl ?_
    have hv : -1 = rTaken σ i q := by unfold rTaken; first | (rw [pif_f (fun z => c4 z.1)]; done) | (rw [pif_f (fun z => c14 (bt7.mpr z.2))]; done)
    exact g_iret F hr rfl (Nat.le_of_ble_eq_true rfl) (Nat.le_of_ble_eq_true rfl) dX0_taken_18 (fun h hs => by rw [← hT]; exact ⟨congrArg (fun z => some (Value.int z)) hv, hs⟩)
  · obtain ⟨hil, hie⟩ := inN_cl (by decide) c4
    refine WG.eqv (lv' := [some (.ref (Λ.1 0 38)), some (.int (nI (i.toNatClampNeg))), some (.int q), none]) rfl (congrArg (fun z => ([some (.ref (Λ.1 0 38)), some (.int z), some (.int q), none] : List (Option Value))) (show i = (nI (i.toNatClampNeg)) from by exact hie)) ?_
    refine g_iload_n F dX0_taken_7 rfl rfl (np := 8) rfl ?_
    refine g_iconst F (v := (nI 0)) dX0_taken_8 (by decide) (np := 9) rfl ?_
    refine g_bipush F (v := (nI 7)) dX0_taken_9 (by decide) (np := 11) rfl ?_
    refine g_runS F (rest := []) (ct_X0_in q (nI (0)) (nI (7)) ) (lw_S q298 q299 q100 q300) hcS_X0_in ⟨Nat.le_of_ble_eq_true rfl, Nat.le_of_ble_eq_true rfl⟩ rfl rfl (Nat.le_of_ble_eq_true rfl) dX0_taken_11 ⟨Nat.le_of_ble_eq_true rfl, Nat.le_of_ble_eq_true rfl⟩ (np := 14) rfl (k_RI ?_)
    refine g_if_neB F dX0_taken_14 (tp := 19) (by decide) (np := 17) rfl (fun c14 => ?_) (fun c14 => ?_)
    · have hk8 := bt7.mp c14
      obtain ⟨hkl, hke⟩ := inN_cl (by decide) hk8
      refine WG.eqv (lv' := [some (.ref (Λ.1 0 38)), some (.int (nI (i.toNatClampNeg))), some (.int (nI (q.toNatClampNeg))), none]) rfl (congrArg (fun z => ([some (.ref (Λ.1 0 38)), some (.int (nI (i.toNatClampNeg))), some (.int z), none] : List (Option Value))) (show q = (nI (q.toNatClampNeg)) from by exact hke)) ?_
      refine g_aload_n F dX0_taken_19 rfl rfl (np := 20) rfl ?_
      refine x_get F (k := 37) (v := .ref (Λ.1 0 37)) (by decide) rfl (Or.inl q216) dX0_taken_20 (np := 23) rfl ?_
      refine g_iload_n F dX0_taken_23 rfl rfl (np := 24) rfl ?_
      refine WG.obt (fun h hs => XH.shelf hs hho hnb (i := i.toNatClampNeg) hil) (fun hsv => ?_)
      rcases hsv with ⟨hv1, hv2⟩ | ⟨k, hk5, hrk, hv1, hv2⟩ | ⟨b, hbb, hv1, ba, hv2, hbI⟩
      · refine x_ald F (k := 37) (i := i.toNatClampNeg) (n := 6) (t0 := 9) (v := none) rfl (fun _ _ _ => rfl) (by decide) (by decide) (by omega) rfl (fun _ _ _ _ => hv2) dX0_taken_24 (np := 25) rfl ?_
        refine g_castN F dX0_taken_25 (np := 28) rfl ?_
        refine g_astore_nN F (lv' := [some (.ref (Λ.1 0 38)), some (.int (nI (i.toNatClampNeg))), some (.int (nI (q.toNatClampNeg))), some (.null)]) dX0_taken_28 rfl (by decide) rfl rfl (np := 29) rfl ?_
        refine g_aload_nN F dX0_taken_29 rfl rfl (np := 30) rfl ?_
        refine g_iload_n F dX0_taken_30 rfl rfl (np := 31) rfl ?_
        refine z_invN F hZ ⟨(Nat.le_of_ble_eq_true rfl), (Nat.le_of_ble_eq_true rfl), (Nat.le_of_ble_eq_true rfl), (Nat.le_of_ble_eq_true rfl)⟩ (by decide) (C := RX15) (As := [.int (nI (q.toNatClampNeg))]) (rest := []) q1485 q1486 q1493 q1487 (by decide +kernel) (show (parseMethodDescriptor "(I)Z").map (fun d => d.parameters.length) = some 1 from by decide +kernel) dX0_taken_31 rfl ?_
        refine z_catch F (name := "java/lang/NullPointerException") [] ⟨19, 46, 47, 109⟩ [(⟨19, 46, 51, 107⟩ : ExceptionTableEntry)] (hX.trans rfl) (fun z hz => by cases hz) (by decide) (by decide) q449 ze471 (fun zq => ?_)
        refine g_astore_n F (lv' := [some (.ref (Λ.1 0 38)), some (.int (nI (i.toNatClampNeg))), some (.int (nI (q.toNatClampNeg))), some (.ref (zq))]) dX0_taken_47 rfl (by decide) rfl rfl (np := 48) rfl ?_
        refine g_bipush F (v := (-11)) dX0_taken_48 (by decide) (np := 50) rfl ?_
        have hv : -11 = rTaken σ i q := by unfold rTaken; rw [pif_t ⟨c4, hk8⟩, if_pos hv1]
        exact g_iret F hr rfl (Nat.le_of_ble_eq_true rfl) (Nat.le_of_ble_eq_true rfl) dX0_taken_50 (fun h hs => by rw [← hT]; exact ⟨congrArg (fun z => some (Value.int z)) hv, hs⟩)
      · refine x_ald F (k := 37) (i := i.toNatClampNeg) (n := 6) (t0 := 9) (v := some (Λ.1 3 i.toNatClampNeg)) rfl (fun _ _ _ => rfl) (by decide) (by decide) (by omega) rfl (fun _ _ _ _ => hv2) dX0_taken_24 (np := 25) rfl ?_
        refine z_castA F hZ ⟨(Nat.le_of_ble_eq_true rfl), (Nat.le_of_ble_eq_true rfl), (Nat.le_of_ble_eq_true rfl), (Nat.le_of_ble_eq_true rfl)⟩ (by decide) (ci := 24 + k) (noRS _ hk5) q173 (fun h hs => ⟨_, XH.rowC hs hrk⟩) shX15 dX0_taken_25 ?_
        refine z_catch F (name := "java/lang/ClassCastException") [(⟨19, 46, 47, 109⟩ : ExceptionTableEntry)] ⟨19, 46, 51, 107⟩ [] (hX.trans rfl) (List.forall_mem_cons.mpr ⟨Or.inr ⟨by decide, _, q449, hZ.2.2.2.2 ("java/lang/ClassCastException", "java/lang/NullPointerException") (List.mem_append_left _ (by decide))⟩, (fun _ hz => by cases hz)⟩) (by decide) (by decide) q365 ze427 (fun zq => ?_)
        refine g_astore_n F (lv' := [some (.ref (Λ.1 0 38)), some (.int (nI (i.toNatClampNeg))), some (.int (nI (q.toNatClampNeg))), some (.ref (zq))]) dX0_taken_51 rfl (by decide) rfl rfl (np := 52) rfl ?_
        refine g_bipush F (v := (-12)) dX0_taken_52 (by decide) (np := 54) rfl ?_
        have hv : -12 = rTaken σ i q := by unfold rTaken; rw [pif_t ⟨c4, hk8⟩, hv1, if_neg (hoR hk5).1, pif_t (hoR hk5).2]
        exact g_iret F hr rfl (Nat.le_of_ble_eq_true rfl) (Nat.le_of_ble_eq_true rfl) dX0_taken_54 (fun h hs => by rw [← hT]; exact ⟨congrArg (fun z => some (Value.int z)) hv, hs⟩)
      · have hkd7 : kdN σ b ≤ 7 := by obtain ⟨kk, q1, q2⟩ := hbo.2 _ hbb; unfold kdN; rw [q2, nI_clamp (by omega)]; exact q1
        refine x_ald F (k := 37) (i := i.toNatClampNeg) (n := 6) (t0 := 9) (v := some ba) rfl (fun _ _ _ => rfl) (by decide) (by decide) (by omega) rfl (fun _ _ _ _ => hv2) dX0_taken_24 (np := 25) rfl ?_
        refine g_castY F (ci := 15 + kdN σ b) (yesBS _ hkd7) q173 (fun h hs => ⟨_, XH.kn hs hbI⟩) dX0_taken_25 (np := 28) rfl ?_
        refine g_astore_n F (lv' := [some (.ref (Λ.1 0 38)), some (.int (nI (i.toNatClampNeg))), some (.int (nI (q.toNatClampNeg))), some (.ref (ba))]) dX0_taken_28 rfl (by decide) rfl rfl (np := 29) rfl ?_
        refine g_aload_n F dX0_taken_29 rfl rfl (np := 30) rfl ?_
        refine g_iload_n F dX0_taken_30 rfl rfl (np := 31) rfl ?_
        refine gb_isUnder F (rest := []) (kd := kdN σ b) (b := b) q1485 hkd7 (by omega) hbI ⟨(Nat.le_of_ble_eq_true rfl), (Nat.le_of_ble_eq_true rfl)⟩ (Nat.le_of_ble_eq_true rfl) dX0_taken_31 ⟨(Nat.le_of_ble_eq_true rfl), (Nat.le_of_ble_eq_true rfl)⟩ (np := 34) rfl ?_
        refine g_if_eqB F dX0_taken_34 (tp := 44) (by decide) (np := 37) rfl (fun c34 => ?_) (fun c34 => ?_)
        · refine g_bipush F (v := (-12)) dX0_taken_44 (by decide) (np := 46) rfl ?_
          have hv : -12 = rTaken σ i q := by unfold rTaken; rw [pif_t ⟨c4, hk8⟩, hv1, if_neg (hoB (by omega)).1, pif_f (hoB (by omega)).2, nI_clamp (show 10 + b < 2 ^ 31 by omega), Nat.add_sub_cancel_left]; first | (rw [pif_t (show isUp (σ.2.1 35 b).toNatClampNeg q.toNatClampNeg from c34)]; obtain ⟨kk, q1, q2⟩ := hbo.2 _ hbb; unfold kdN; rw [q2, nI_clamp (by omega)]) | (rw [pif_f (show ¬ isUp (σ.2.1 35 b).toNatClampNeg q.toNatClampNeg from c34)])
          exact g_iret F hr rfl (Nat.le_of_ble_eq_true rfl) (Nat.le_of_ble_eq_true rfl) dX0_taken_46 (fun h hs => by rw [← hT]; exact ⟨congrArg (fun z => some (Value.int z)) hv, hs⟩)
        · refine g_aload_n F dX0_taken_37 rfl rfl (np := 38) rfl ?_
          refine gb_kind F (rest := []) (kd := kdN σ b) (b := b) q1535 hkd7 hbI ⟨(Nat.le_of_ble_eq_true rfl), (Nat.le_of_ble_eq_true rfl)⟩ (Nat.le_of_ble_eq_true rfl) dX0_taken_38 ⟨(Nat.le_of_ble_eq_true rfl), (Nat.le_of_ble_eq_true rfl)⟩ (np := 41) rfl ?_
          refine g_goto F dX0_taken_41 (np := 46) (by decide) ?_
          have hv : nI (kdN σ b) = rTaken σ i q := by unfold rTaken; rw [pif_t ⟨c4, hk8⟩, hv1, if_neg (hoB (by omega)).1, pif_f (hoB (by omega)).2, nI_clamp (show 10 + b < 2 ^ 31 by omega), Nat.add_sub_cancel_left]; first | (rw [pif_t (show isUp (σ.2.1 35 b).toNatClampNeg q.toNatClampNeg from c34)]; obtain ⟨kk, q1, q2⟩ := hbo.2 _ hbb; unfold kdN; rw [q2, nI_clamp (by omega)]) | (rw [pif_f (show ¬ isUp (σ.2.1 35 b).toNatClampNeg q.toNatClampNeg from c34)])
          exact g_iret F hr rfl (Nat.le_of_ble_eq_true rfl) (Nat.le_of_ble_eq_true rfl) dX0_taken_46 (fun h hs => by rw [← hT]; exact ⟨congrArg (fun z => some (Value.int z)) hv, hs⟩)
    · refine g_iconst F (v := (-1)) dX0_taken_17 (by decide) (np := 18) rfl ?_
      have hv : -1 = rTaken σ i q := by unfold rTaken; first | (rw [pif_f (fun z => c4 z.1)]; done) | (rw [pif_f (fun z => c14 (bt7.mpr z.2))]; done)
      exact g_iret F hr rfl (Nat.le_of_ble_eq_true rfl) (Nat.le_of_ble_eq_true rfl) dX0_taken_18 (fun h hs => by rw [← hT]; exact ⟨congrArg (fun z => some (Value.int z)) hv, hs⟩)
