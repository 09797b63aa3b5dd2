/-! WALKS (printed by walk.py): storeys, roofOf, highOf, allHigh, ahead, roof, high, opens, falls -/
set_option maxRecDepth 100000
set_option maxRecDepth 100000 in
theorem ct_X2_storeys {l : Launch} {D : va_G} {E : State → Prop} {B : Nat} (hE : Stab E) {ad : Nat → Nat} {h0 : AH} (σ : MSt) (L : LawT) (p : Int32) (hok : mOK σ L) : Ct l D E B yX2_storeys cX2_storeys 2 (some .int) 4 92 0 0 [.ref (ad 0), .int p] (MH D ad h0 σ) (RI (rStoreys (mV σ L) (σ.1 6) p) (MH D ad h0 σ)) := by
  refine Ct.of (nL := 2) (lv := [some (.ref (ad 0)), some (.int p)]) (by decide) (Nat.le_of_ble_eq_true rfl) hE 0 rfl ?_
  generalize hT : RI (rStoreys (mV σ L) (σ.1 6) p) (MH D ad h0 σ) = T
  intro zp ze zs zm zb zt zc F hr hnm
  generalize ([.ref (ad 0), .int p] : List Value).toArray = za at F ⊢
  have hok2 := hok
  obtain ⟨ho8, hm15, ht99, hby, hlaw⟩ := hok2
  refine g_aload_n F dX2_storeys_0 rfl rfl (np := 1) rfl ?_
  refine g_iload_n F dX2_storeys_1 rfl rfl (np := 2) rfl ?_
  refine g_runV F (C := RX2) (ci := 2) (T0 := TX2) (N := 42) (rest := []) (ct_X2_isOne hE σ p (by first | assumption | omega)) (lw_V q1720 q1722 qs59 q102 q1723) hcV_X2_isOne ⟨Nat.le_of_ble_eq_true rfl, Nat.le_of_ble_eq_true rfl⟩ rfl (fun h hs => hs.obj) rfl rfl (Nat.le_of_ble_eq_true rfl) dX2_storeys_2 ⟨Nat.le_of_ble_eq_true rfl, Nat.le_of_ble_eq_true rfl⟩ (np := 5) rfl (k_RI ?_)
  refine g_if_eqB F dX2_storeys_5 (tp := 16) (by decide) (np := 8) rfl (fun c5 => ?_) (fun c5 => ?_)
  · refine g_iconst F (v := (-1)) dX2_storeys_16 (by decide) (np := 17) rfl ?_
    have hv : -1 = rStoreys (mV σ L) (σ.1 6) p := by first | (unfold rStoreys; rw [pif_t (by assumption)]; done) | (unfold rStoreys; rw [pif_f (by assumption)]; done)
    exact g_iret F hr rfl (Nat.le_of_ble_eq_true rfl) (Nat.le_of_ble_eq_true rfl) dX2_storeys_17 (fun h hs => by rw [← hT]; exact ⟨congrArg (fun z => some (Value.int z)) hv, hs⟩)
  · obtain ⟨hpl, hpe⟩ := inN_cl (by omega) c5
    refine g_aload_n F dX2_storeys_8 rfl rfl (np := 9) rfl ?_
    refine g_iload_n F dX2_storeys_9 rfl rfl (np := 10) rfl ?_
    refine WG.eqv (st' := [.int (nI (p.toNatClampNeg)), .ref (ad 0)]) (congrArg (fun z => ([.int z, .ref (ad 0)] : List Value)) (show p = (nI (p.toNatClampNeg)) from by exact hpe)) rfl ?_
    refine g_runV F (C := RX2) (ci := 2) (T0 := TX2) (N := 42) (rest := []) (ct_X2_storeysOf hE σ L p.toNatClampNeg (by first | assumption | omega) (by first | assumption | omega)) (lw_V q1807 q1809 qs73 q102 q1810) hcV_X2_storeysOf ⟨Nat.le_of_ble_eq_true rfl, Nat.le_of_ble_eq_true rfl⟩ rfl (fun h hs => hs.obj) rfl rfl (Nat.le_of_ble_eq_true rfl) dX2_storeys_10 ⟨Nat.le_of_ble_eq_true rfl, Nat.le_of_ble_eq_true rfl⟩ (np := 13) rfl (k_RI ?_)
    refine g_goto F dX2_storeys_13 (np := 17) (by decide) ?_
    have hv : sSt (mV σ L) (σ.1 6) p.toNatClampNeg = rStoreys (mV σ L) (σ.1 6) p := by first | (unfold rStoreys; rw [pif_t (by assumption)]; done) | (unfold rStoreys; rw [pif_f (by assumption)]; done)
    exact g_iret F hr rfl (Nat.le_of_ble_eq_true rfl) (Nat.le_of_ble_eq_true rfl) dX2_storeys_17 (fun h hs => by rw [← hT]; exact ⟨congrArg (fun z => some (Value.int z)) hv, hs⟩)

set_option maxRecDepth 100000 in
theorem ct_X2_roofOf {l : Launch} {D : va_G} {E : State → Prop} {B : Nat} (hE : Stab E) {ad : Nat → Nat} {h0 : AH} (σ : MSt) (L : LawT) (o : Int32) (hok : mOK σ L) : Ct l D E B yX2_roofOf cX2_roofOf 4 (some .int) 4 92 0 0 [.ref (ad 0), .int o] (MH D ad h0 σ) (RI (oI (sRoof (mV σ L) (σ.1 6) o)) (MH D ad h0 σ)) := by
  refine Ct.of (nL := 4) (lv := [some (.ref (ad 0)), some (.int o), none, none]) (by decide) (Nat.le_of_ble_eq_true rfl) hE 2 rfl ?_
  generalize hT : RI (oI (sRoof (mV σ L) (σ.1 6) o)) (MH D ad h0 σ) = T
  intro zp ze zs zm zb zt zc F hr hnm
  generalize ([.ref (ad 0), .int o] : List Value).toArray = za at F ⊢
  have hok2 := hok
  obtain ⟨ho8, hm15, ht99, hby, hlaw⟩ := hok2
  refine g_bipush F (v := (-2)) dX2_roofOf_0 (by decide) (np := 2) rfl ?_
  refine g_istore_n F (lv' := [some (.ref (ad 0)), some (.int o), some (.int (-2)), none]) dX2_roofOf_2 rfl (by decide) rfl rfl (np := 3) rfl ?_
  refine g_iconst F (v := (nI 0)) dX2_roofOf_3 (by decide) (np := 4) rfl ?_
  refine g_istore_n F (lv' := [some (.ref (ad 0)), some (.int o), some (.int (-2)), some (.int (nI 0))]) dX2_roofOf_4 rfl (by decide) rfl rfl (np := 5) rfl ?_
  have L5 : ∀ (zn : Nat) (f : Int32) (p : Nat), (f = oI (sRoofN (mV σ L) (σ.1 6) o p)) → (p ≤ σ.1 2) → σ.1 2 - p < zn → WG zp l ze ({ frames := 4, cells := 0, slots := 0, locals := 92 } : Room) zs zm za zb zt zc D B 4 (MQ zb (QT D B T) za zs 0 0 (zA B)) (MH D ad h0 σ) 0 0 5 [some (.ref (ad 0)), some (.int o), some (.int f), some (.int (nI p))] [] := by
    intro zn
    induction zn with
    | zero => intro f p h1 h2 hm; exact absurd hm (Nat.not_lt_zero _)
    | succ zn ih5 =>
      intro f p h1 h2 hm
      refine g_iload_n F dX2_roofOf_5 rfl rfl (np := 6) rfl ?_
      refine g_aload_n F dX2_roofOf_6 rfl rfl (np := 7) rfl ?_
      refine h_get F (k := 2) (v := .int (nI (σ.1 2))) (by decide) rfl q1548 dX2_roofOf_7 (np := 10) rfl ?_
      refine g_icmp_geN F (by omega) (by omega) dX2_roofOf_10 (tp := 49) (by decide) (np := 13) rfl (fun c10 => ?_) (fun c10 => ?_)
      · refine g_iload_n F dX2_roofOf_49 rfl rfl (np := 50) rfl ?_
        have hv : f = oI (sRoof (mV σ L) (σ.1 6) o) := by rw [h1, show p = σ.1 2 by omega]; rfl
        exact g_iret F hr rfl (Nat.le_of_ble_eq_true rfl) (Nat.le_of_ble_eq_true rfl) dX2_roofOf_50 (fun h hs => by rw [← hT]; exact ⟨congrArg (fun z => some (Value.int z)) hv, hs⟩)
      · refine g_aload_n F dX2_roofOf_13 rfl rfl (np := 14) rfl ?_
        refine g_iload_n F dX2_roofOf_14 rfl rfl (np := 15) rfl ?_
        refine g_iload_n F dX2_roofOf_15 rfl rfl (np := 16) rfl ?_
        refine g_runV F (C := RX2) (ci := 2) (T0 := TX2) (N := 42) (rest := []) (ct_X2_isHis hE σ p o (by omega)) (lw_V q1819 q1821 qs76 q102 q1822) hcV_X2_isHis ⟨Nat.le_of_ble_eq_true rfl, Nat.le_of_ble_eq_true rfl⟩ rfl (fun h hs => hs.obj) rfl rfl (Nat.le_of_ble_eq_true rfl) dX2_roofOf_16 ⟨Nat.le_of_ble_eq_true rfl, Nat.le_of_ble_eq_true rfl⟩ (np := 19) rfl (k_RI ?_)
        refine g_if_eqB F dX2_roofOf_19 (tp := 43) (by decide) (np := 22) rfl (fun c19 => ?_) (fun c19 => ?_)
        · refine g_iinc F (v := (nI (p + 1))) (lv' := [some (.ref (ad 0)), some (.int o), some (.int f), some (.int (nI (p + 1)))]) dX2_roofOf_43 rfl (nI_add _ _) (by decide) rfl rfl (np := 46) rfl ?_
          refine g_goto F dX2_roofOf_46 (np := 5) (by decide) ?_
          exact ih5 f (p + 1) (by first | (rw [sRoofN_f (v := mV σ L) ‹_›]; exact h1) | (rw [sRoofN_t (v := mV σ L) ‹_›, oI_none (sRoofN_lt _ _ _ p) (by omega) (h1.symm.trans ‹_›)]; rfl) | (rw [sRoofN_t (v := mV σ L) ‹_›, hr1]; simp only; rw [if_pos (Int32.not_le.mp ‹_›)]; rfl) | (rw [sRoofN_t (v := mV σ L) ‹_›, hr1]; simp only; rw [if_neg (Int32.not_lt.mpr ‹_›), h1, hr1])) (by first | assumption | omega) (by omega)
        · refine g_iload_n F dX2_roofOf_22 rfl rfl (np := 23) rfl ?_
          refine g_bipush F (v := (-2)) dX2_roofOf_23 (by decide) (np := 25) rfl ?_
          refine g_icmp_eq F dX2_roofOf_25 (tp := 41) (by decide) (np := 28) rfl (fun c25 => ?_) (fun c25 => ?_)
          · refine g_iload_n F dX2_roofOf_41 rfl rfl (np := 42) rfl ?_
            refine g_istore_n F (lv' := [some (.ref (ad 0)), some (.int o), some (.int (nI p)), some (.int (nI p))]) dX2_roofOf_42 rfl (by decide) rfl rfl (np := 43) rfl ?_
            refine g_iinc F (v := (nI (p + 1))) (lv' := [some (.ref (ad 0)), some (.int o), some (.int (nI p)), some (.int (nI (p + 1)))]) dX2_roofOf_43 rfl (nI_add _ _) (by decide) rfl rfl (np := 46) rfl ?_
            refine g_goto F dX2_roofOf_46 (np := 5) (by decide) ?_
            exact ih5 (nI (p)) (p + 1) (by first | (rw [sRoofN_f (v := mV σ L) ‹_›]; exact h1) | (rw [sRoofN_t (v := mV σ L) ‹_›, oI_none (sRoofN_lt _ _ _ p) (by omega) (h1.symm.trans ‹_›)]; rfl) | (rw [sRoofN_t (v := mV σ L) ‹_›, hr1]; simp only; rw [if_pos (Int32.not_le.mp ‹_›)]; rfl) | (rw [sRoofN_t (v := mV σ L) ‹_›, hr1]; simp only; rw [if_neg (Int32.not_lt.mpr ‹_›), h1, hr1])) (by first | assumption | omega) (by omega)
          · obtain ⟨r0, hr1, hr2, hr3⟩ := oI_some (sRoofN_lt _ _ _ p) (by omega) (fun z => c25 (h1.trans z))
            refine g_aload_n F dX2_roofOf_28 rfl rfl (np := 29) rfl ?_
            refine g_iload_n F dX2_roofOf_29 rfl rfl (np := 30) rfl ?_
            refine g_runV F (C := RX2) (ci := 2) (T0 := TX2) (N := 42) (rest := []) (ct_X2_storeysOf hE σ L p (by omega) (by assumption)) (lw_V q1807 q1809 qs73 q102 q1810) hcV_X2_storeysOf ⟨Nat.le_of_ble_eq_true rfl, Nat.le_of_ble_eq_true rfl⟩ rfl (fun h hs => hs.obj) rfl rfl (Nat.le_of_ble_eq_true rfl) dX2_roofOf_30 ⟨Nat.le_of_ble_eq_true rfl, Nat.le_of_ble_eq_true rfl⟩ (np := 33) rfl (k_RI ?_)
            refine g_aload_n F dX2_roofOf_33 rfl rfl (np := 34) rfl ?_
            refine g_iload_n F dX2_roofOf_34 rfl rfl (np := 35) rfl ?_
            refine WG.eqv (st' := [.int (nI r0), .ref (ad 0), .int (sSt (mV σ L) (σ.1 6) p)]) (congrArg (fun z => ([.int z, .ref (ad 0), .int (sSt (mV σ L) (σ.1 6) p)] : List Value)) (show f = (nI r0) from by exact h1.trans hr2)) rfl ?_
            refine g_runV F (C := RX2) (ci := 2) (T0 := TX2) (N := 42) (rest := [.int (sSt (mV σ L) (σ.1 6) p)]) (ct_X2_storeysOf hE σ L r0 (by omega) (by assumption)) (lw_V q1807 q1809 qs73 q102 q1810) hcV_X2_storeysOf ⟨Nat.le_of_ble_eq_true rfl, Nat.le_of_ble_eq_true rfl⟩ rfl (fun h hs => hs.obj) rfl rfl (Nat.le_of_ble_eq_true rfl) dX2_roofOf_35 ⟨Nat.le_of_ble_eq_true rfl, Nat.le_of_ble_eq_true rfl⟩ (np := 38) rfl (k_RI ?_)
            refine g_icmp_le F dX2_roofOf_38 (tp := 43) (by decide) (np := 41) rfl (fun c38 => ?_) (fun c38 => ?_)
            · refine g_iinc F (v := (nI (p + 1))) (lv' := [some (.ref (ad 0)), some (.int o), some (.int f), some (.int (nI (p + 1)))]) dX2_roofOf_43 rfl (nI_add _ _) (by decide) rfl rfl (np := 46) rfl ?_
              refine g_goto F dX2_roofOf_46 (np := 5) (by decide) ?_
              exact ih5 f (p + 1) (by first | (rw [sRoofN_f (v := mV σ L) ‹_›]; exact h1) | (rw [sRoofN_t (v := mV σ L) ‹_›, oI_none (sRoofN_lt _ _ _ p) (by omega) (h1.symm.trans ‹_›)]; rfl) | (rw [sRoofN_t (v := mV σ L) ‹_›, hr1]; simp only; rw [if_pos (Int32.not_le.mp ‹_›)]; rfl) | (rw [sRoofN_t (v := mV σ L) ‹_›, hr1]; simp only; rw [if_neg (Int32.not_lt.mpr ‹_›), h1, hr1])) (by first | assumption | omega) (by omega)
            · refine g_iload_n F dX2_roofOf_41 rfl rfl (np := 42) rfl ?_
              refine g_istore_n F (lv' := [some (.ref (ad 0)), some (.int o), some (.int (nI p)), some (.int (nI p))]) dX2_roofOf_42 rfl (by decide) rfl rfl (np := 43) rfl ?_
              refine g_iinc F (v := (nI (p + 1))) (lv' := [some (.ref (ad 0)), some (.int o), some (.int (nI p)), some (.int (nI (p + 1)))]) dX2_roofOf_43 rfl (nI_add _ _) (by decide) rfl rfl (np := 46) rfl ?_
              refine g_goto F dX2_roofOf_46 (np := 5) (by decide) ?_
              exact ih5 (nI (p)) (p + 1) (by first | (rw [sRoofN_f (v := mV σ L) ‹_›]; exact h1) | (rw [sRoofN_t (v := mV σ L) ‹_›, oI_none (sRoofN_lt _ _ _ p) (by omega) (h1.symm.trans ‹_›)]; rfl) | (rw [sRoofN_t (v := mV σ L) ‹_›, hr1]; simp only; rw [if_pos (Int32.not_le.mp ‹_›)]; rfl) | (rw [sRoofN_t (v := mV σ L) ‹_›, hr1]; simp only; rw [if_neg (Int32.not_lt.mpr ‹_›), h1, hr1])) (by first | assumption | omega) (by omega)
  exact L5 _ (-2) 0 (by rfl) (by omega) (Nat.lt_succ_self _)

set_option maxRecDepth 100000 in
theorem ct_X2_highOf {l : Launch} {D : va_G} {E : State → Prop} {B : Nat} (hE : Stab E) {ad : Nat → Nat} {h0 : AH} (σ : MSt) (L : LawT) (o : Int32) (hok : mOK σ L) : Ct l D E B yX2_highOf cX2_highOf 3 (some .int) 5 115 0 0 [.ref (ad 0), .int o] (MH D ad h0 σ) (RI (sHigh (mV σ L) (σ.1 6) o) (MH D ad h0 σ)) := by
  refine Ct.of (nL := 3) (lv := [some (.ref (ad 0)), some (.int o), none]) (by decide) (Nat.le_of_ble_eq_true rfl) hE 1 rfl ?_
  generalize hT : RI (sHigh (mV σ L) (σ.1 6) o) (MH D ad h0 σ) = T
  intro zp ze zs zm zb zt zc F hr hnm
  generalize ([.ref (ad 0), .int o] : List Value).toArray = za at F ⊢
  have hok2 := hok
  obtain ⟨ho8, hm15, ht99, hby, hlaw⟩ := hok2
  refine g_aload_n F dX2_highOf_0 rfl rfl (np := 1) rfl ?_
  refine g_iload_n F dX2_highOf_1 rfl rfl (np := 2) rfl ?_
  refine g_runV F (C := RX2) (ci := 2) (T0 := TX2) (N := 42) (rest := []) (ct_X2_roofOf hE σ L o (by first | assumption | omega)) (lw_V q1848 q1850 qs81 q102 q1851) hcV_X2_roofOf ⟨Nat.le_of_ble_eq_true rfl, Nat.le_of_ble_eq_true rfl⟩ rfl (fun h hs => hs.obj) rfl rfl (Nat.le_of_ble_eq_true rfl) dX2_highOf_2 ⟨Nat.le_of_ble_eq_true rfl, Nat.le_of_ble_eq_true rfl⟩ (np := 5) rfl (k_RI ?_)
  refine g_istore_n F (lv' := [some (.ref (ad 0)), some (.int o), some (.int (oI (sRoof (mV σ L) (σ.1 6) o)))]) dX2_highOf_5 rfl (by decide) rfl rfl (np := 6) rfl ?_
  refine g_iload_n F dX2_highOf_6 rfl rfl (np := 7) rfl ?_
  refine g_bipush F (v := (-2)) dX2_highOf_7 (by decide) (np := 9) rfl ?_
  refine g_icmp_ne F dX2_highOf_9 (tp := 16) (by decide) (np := 12) rfl (fun c9 => ?_) (fun c9 => ?_)
  · obtain ⟨r0, hr1, hr2, hr3⟩ := oI_some (sRoofN_lt _ _ _ (σ.1 2)) (by omega) c9
    refine g_aload_n F dX2_highOf_16 rfl rfl (np := 17) rfl ?_
    refine g_iload_n F dX2_highOf_17 rfl rfl (np := 18) rfl ?_
    refine WG.eqv (st' := [.int (nI r0), .ref (ad 0)]) (congrArg (fun z => ([.int z, .ref (ad 0)] : List Value)) (show (oI (sRoof (mV σ L) (σ.1 6) o)) = (nI r0) from by exact hr2)) rfl ?_
    refine g_runV F (C := RX2) (ci := 2) (T0 := TX2) (N := 42) (rest := []) (ct_X2_storeysOf hE σ L r0 (by exact hr3) (by assumption)) (lw_V q1807 q1809 qs73 q102 q1810) hcV_X2_storeysOf ⟨Nat.le_of_ble_eq_true rfl, Nat.le_of_ble_eq_true rfl⟩ rfl (fun h hs => hs.obj) rfl rfl (Nat.le_of_ble_eq_true rfl) dX2_highOf_18 ⟨Nat.le_of_ble_eq_true rfl, Nat.le_of_ble_eq_true rfl⟩ (np := 21) rfl (k_RI ?_)
    have hv : sSt (mV σ L) (σ.1 6) r0 = sHigh (mV σ L) (σ.1 6) o := by first | (unfold sHigh; rw [oI_none (r := sRoof (mV σ L) (σ.1 6) o) (sRoofN_lt _ _ _ (σ.1 2)) (by omega) c9]; rfl) | (unfold sHigh; rw [show sRoof (mV σ L) (σ.1 6) o = some r0 from hr1]; done)
    exact g_iret F hr rfl (Nat.le_of_ble_eq_true rfl) (Nat.le_of_ble_eq_true rfl) dX2_highOf_21 (fun h hs => by rw [← hT]; exact ⟨congrArg (fun z => some (Value.int z)) hv, hs⟩)
  · refine g_iconst F (v := (nI 0)) dX2_highOf_12 (by decide) (np := 13) rfl ?_
    refine g_goto F dX2_highOf_13 (np := 21) (by decide) ?_
    have hv : nI (0) = sHigh (mV σ L) (σ.1 6) o := by first | (unfold sHigh; rw [oI_none (r := sRoof (mV σ L) (σ.1 6) o) (sRoofN_lt _ _ _ (σ.1 2)) (by omega) c9]; rfl) | (unfold sHigh; rw [show sRoof (mV σ L) (σ.1 6) o = some r0 from hr1]; done)
    exact g_iret F hr rfl (Nat.le_of_ble_eq_true rfl) (Nat.le_of_ble_eq_true rfl) dX2_highOf_21 (fun h hs => by rw [← hT]; exact ⟨congrArg (fun z => some (Value.int z)) hv, hs⟩)

set_option maxRecDepth 100000 in
theorem ct_X2_allHigh {l : Launch} {D : va_G} {E : State → Prop} {B : Nat} (hE : Stab E) {ad : Nat → Nat} {h0 : AH} (σ : MSt) (L : LawT)  (hok : mOK σ L) : Ct l D E B yX2_allHigh cX2_allHigh 3 (some .int) 6 137 0 0 [.ref (ad 0)] (MH D ad h0 σ) (RI (sAll (mV σ L) (σ.1 6) (σ.1 0)) (MH D ad h0 σ)) := by
  refine Ct.of (nL := 3) (lv := [some (.ref (ad 0)), none, none]) (by decide) (Nat.le_of_ble_eq_true rfl) hE 2 rfl ?_
  generalize hT : RI (sAll (mV σ L) (σ.1 6) (σ.1 0)) (MH D ad h0 σ) = T
  intro zp ze zs zm zb zt zc F hr hnm
  generalize ([.ref (ad 0)] : List Value).toArray = za at F ⊢
  have hok2 := hok
  obtain ⟨ho8, hm15, ht99, hby, hlaw⟩ := hok2
  refine g_iconst F (v := (nI 0)) dX2_allHigh_0 (by decide) (np := 1) rfl ?_
  refine g_istore_n F (lv' := [some (.ref (ad 0)), some (.int (nI 0)), none]) dX2_allHigh_1 rfl (by decide) rfl rfl (np := 2) rfl ?_
  refine g_iconst F (v := (nI 0)) dX2_allHigh_2 (by decide) (np := 3) rfl ?_
  refine g_istore_n F (lv' := [some (.ref (ad 0)), some (.int (nI 0)), some (.int (nI 0))]) dX2_allHigh_3 rfl (by decide) rfl rfl (np := 4) rfl ?_
  have L4 : ∀ (zn : Nat) (a : Int32) (o : Nat), (a = sAll (mV σ L) (σ.1 6) o) → (o ≤ σ.1 0) → σ.1 0 - o < zn → WG zp l ze ({ frames := 6, cells := 0, slots := 0, locals := 137 } : Room) zs zm za zb zt zc D B 3 (MQ zb (QT D B T) za zs 0 0 (zA B)) (MH D ad h0 σ) 0 0 4 [some (.ref (ad 0)), some (.int a), some (.int (nI o))] [] := by
    intro zn
    induction zn with
    | zero => intro a o h1 h2 hm; exact absurd hm (Nat.not_lt_zero _)
    | succ zn ih4 =>
      intro a o h1 h2 hm
      refine g_iload_n F dX2_allHigh_4 rfl rfl (np := 5) rfl ?_
      refine g_aload_n F dX2_allHigh_5 rfl rfl (np := 6) rfl ?_
      refine h_get F (k := 0) (v := .int (nI (σ.1 0))) (by decide) rfl q1546 dX2_allHigh_6 (np := 9) rfl ?_
      refine g_icmp_geN F (by omega) (by omega) dX2_allHigh_9 (tp := 26) (by decide) (np := 12) rfl (fun c9 => ?_) (fun c9 => ?_)
      · refine g_iload_n F dX2_allHigh_26 rfl rfl (np := 27) rfl ?_
        have hv : a = sAll (mV σ L) (σ.1 6) (σ.1 0) := by rw [h1, show o = σ.1 0 by omega]
        exact g_iret F hr rfl (Nat.le_of_ble_eq_true rfl) (Nat.le_of_ble_eq_true rfl) dX2_allHigh_27 (fun h hs => by rw [← hT]; exact ⟨congrArg (fun z => some (Value.int z)) hv, hs⟩)
      · refine g_iload_n F dX2_allHigh_12 rfl rfl (np := 13) rfl ?_
        refine g_aload_n F dX2_allHigh_13 rfl rfl (np := 14) rfl ?_
        refine g_iload_n F dX2_allHigh_14 rfl rfl (np := 15) rfl ?_
        refine g_runV F (C := RX2) (ci := 2) (T0 := TX2) (N := 42) (rest := [.int a]) (ct_X2_highOf hE σ L (nI (o)) (by first | assumption | omega)) (lw_V q1844 q1846 qs80 q102 q1847) hcV_X2_highOf ⟨Nat.le_of_ble_eq_true rfl, Nat.le_of_ble_eq_true rfl⟩ rfl (fun h hs => hs.obj) rfl rfl (Nat.le_of_ble_eq_true rfl) dX2_allHigh_15 ⟨Nat.le_of_ble_eq_true rfl, Nat.le_of_ble_eq_true rfl⟩ (np := 18) rfl (k_RI ?_)
        refine g_iadd F dX2_allHigh_18 (np := 19) rfl ?_
        refine g_istore_n F (lv' := [some (.ref (ad 0)), some (.int (a + (sHigh (mV σ L) (σ.1 6) (nI (o))))), some (.int (nI o))]) dX2_allHigh_19 rfl (by decide) rfl rfl (np := 20) rfl ?_
        refine g_iinc F (v := (nI (o + 1))) (lv' := [some (.ref (ad 0)), some (.int (a + (sHigh (mV σ L) (σ.1 6) (nI (o))))), some (.int (nI (o + 1)))]) dX2_allHigh_20 rfl (nI_add _ _) (by decide) rfl rfl (np := 23) rfl ?_
        refine g_goto F dX2_allHigh_23 (np := 4) (by decide) ?_
        exact ih4 (a + (sHigh (mV σ L) (σ.1 6) (nI (o)))) (o + 1) (by rw [h1]; rfl) (by first | assumption | omega) (by omega)
  exact L4 _ (nI (0)) 0 (by rfl) (by omega) (Nat.lt_succ_self _)

set_option maxRecDepth 100000 in
theorem ct_X2_ahead {l : Launch} {D : va_G} {E : State → Prop} {B : Nat} (hE : Stab E) {ad : Nat → Nat} {h0 : AH} (σ : MSt)  (n : Nat) (hn : n < 2 ^ 30) (ht : σ.1 6 < 2 ^ 30) : Ct l D E B yX2_ahead cX2_ahead 2 (some .int) 1 21 0 0 [.ref (ad 0), .int (nI n)] (MH D ad h0 σ) (RI (nI (day (σ.1 6) n)) (MH D ad h0 σ)) := by
  refine Ct.of (nL := 2) (lv := [some (.ref (ad 0)), some (.int (nI n))]) (by decide) (Nat.le_of_ble_eq_true rfl) hE 0 rfl ?_
  generalize hT : RI (nI (day (σ.1 6) n)) (MH D ad h0 σ) = T
  intro zp ze zs zm zb zt zc F hr hnm
  generalize ([.ref (ad 0), .int (nI n)] : List Value).toArray = za at F ⊢
  refine g_bipush F (v := (nI 99)) dX2_ahead_0 (by decide) (np := 2) rfl ?_
  refine g_aload_n F dX2_ahead_2 rfl rfl (np := 3) rfl ?_
  refine h_get F (k := 6) (v := .int (nI (σ.1 6))) (by decide) rfl q1552 dX2_ahead_3 (np := 6) rfl ?_
  refine g_iload_n F dX2_ahead_6 rfl rfl (np := 7) rfl ?_
  refine g_iaddN F dX2_ahead_7 (np := 8) rfl ?_
  refine g_min F (rest := []) q1831 (by decide) (by decide) (Nat.le_of_ble_eq_true rfl) (Nat.le_of_ble_eq_true rfl) dX2_ahead_8 (np := 11) rfl ?_
  have hv : jmin (nI (99)) (nI ((σ.1 6) + n)) = nI (day (σ.1 6) n) := by exact jmin_N (by decide) (by omega)
  exact g_iret F hr rfl (Nat.le_of_ble_eq_true rfl) (Nat.le_of_ble_eq_true rfl) dX2_ahead_11 (fun h hs => by rw [← hT]; exact ⟨congrArg (fun z => some (Value.int z)) hv, hs⟩)

set_option maxRecDepth 100000 in
theorem ct_X2_roof {l : Launch} {D : va_G} {E : State → Prop} {B : Nat} (hE : Stab E) {ad : Nat → Nat} {h0 : AH} (σ : MSt) (L : LawT) (o : Int32) (hok : mOK σ L) : Ct l D E B yX2_roof cX2_roof 2 (some .int) 5 115 0 0 [.ref (ad 0), .int o] (MH D ad h0 σ) (RI (rRoof (mV σ L) (σ.1 6) (σ.1 0) o) (MH D ad h0 σ)) := by
  refine Ct.of (nL := 2) (lv := [some (.ref (ad 0)), some (.int o)]) (by decide) (Nat.le_of_ble_eq_true rfl) hE 0 rfl ?_
  generalize hT : RI (rRoof (mV σ L) (σ.1 6) (σ.1 0) o) (MH D ad h0 σ) = T
  intro zp ze zs zm zb zt zc F hr hnm
  generalize ([.ref (ad 0), .int o] : List Value).toArray = za at F ⊢
  have hok2 := hok
  obtain ⟨ho8, hm15, ht99, hby, hlaw⟩ := hok2
  refine g_aload_n F dX2_roof_0 rfl rfl (np := 1) rfl ?_
  refine g_iload_n F dX2_roof_1 rfl rfl (np := 2) rfl ?_
  refine g_runV F (C := RX2) (ci := 2) (T0 := TX2) (N := 42) (rest := []) (ct_X2_isOwner hE σ o (by first | assumption | omega)) (lw_V q1688 q1690 qs54 q102 q1691) hcV_X2_isOwner ⟨Nat.le_of_ble_eq_true rfl, Nat.le_of_ble_eq_true rfl⟩ rfl (fun h hs => hs.obj) rfl rfl (Nat.le_of_ble_eq_true rfl) dX2_roof_2 ⟨Nat.le_of_ble_eq_true rfl, Nat.le_of_ble_eq_true rfl⟩ (np := 5) rfl (k_RI ?_)
  refine g_if_eqB F dX2_roof_5 (tp := 16) (by decide) (np := 8) rfl (fun c5 => ?_) (fun c5 => ?_)
  · refine g_iconst F (v := (-1)) dX2_roof_16 (by decide) (np := 17) rfl ?_
    have hv : -1 = rRoof (mV σ L) (σ.1 6) (σ.1 0) o := by first | (unfold rRoof; rw [pif_t (by assumption)]; done) | (unfold rRoof; rw [pif_f (by assumption)]; done)
    exact g_iret F hr rfl (Nat.le_of_ble_eq_true rfl) (Nat.le_of_ble_eq_true rfl) dX2_roof_17 (fun h hs => by rw [← hT]; exact ⟨congrArg (fun z => some (Value.int z)) hv, hs⟩)
  · refine g_aload_n F dX2_roof_8 rfl rfl (np := 9) rfl ?_
    refine g_iload_n F dX2_roof_9 rfl rfl (np := 10) rfl ?_
    refine g_runV F (C := RX2) (ci := 2) (T0 := TX2) (N := 42) (rest := []) (ct_X2_roofOf hE σ L o (by first | assumption | omega)) (lw_V q1848 q1850 qs81 q102 q1851) hcV_X2_roofOf ⟨Nat.le_of_ble_eq_true rfl, Nat.le_of_ble_eq_true rfl⟩ rfl (fun h hs => hs.obj) rfl rfl (Nat.le_of_ble_eq_true rfl) dX2_roof_10 ⟨Nat.le_of_ble_eq_true rfl, Nat.le_of_ble_eq_true rfl⟩ (np := 13) rfl (k_RI ?_)
    refine g_goto F dX2_roof_13 (np := 17) (by decide) ?_
    have hv : oI (sRoof (mV σ L) (σ.1 6) o) = rRoof (mV σ L) (σ.1 6) (σ.1 0) o := by first | (unfold rRoof; rw [pif_t (by assumption)]; done) | (unfold rRoof; rw [pif_f (by assumption)]; done)
    exact g_iret F hr rfl (Nat.le_of_ble_eq_true rfl) (Nat.le_of_ble_eq_true rfl) dX2_roof_17 (fun h hs => by rw [← hT]; exact ⟨congrArg (fun z => some (Value.int z)) hv, hs⟩)

set_option maxRecDepth 100000 in
theorem ct_X2_high {l : Launch} {D : va_G} {E : State → Prop} {B : Nat} (hE : Stab E) {ad : Nat → Nat} {h0 : AH} (σ : MSt) (L : LawT) (n : Int32) (o : Int32) (hok : mOK σ L) : Ct l D E B yX2_high cX2_high 5 (some .int) 7 159 0 0 [.ref (ad 0), .int n, .int o] (MH D ad h0 σ) (RI (rHigh (mV σ L) (σ.1 6) (σ.1 0) n o) (MH D ad h0 σ)) := by
  refine Ct.of (nL := 5) (lv := [some (.ref (ad 0)), some (.int n), some (.int o), none, none]) (by decide) (Nat.le_of_ble_eq_true rfl) hE 2 rfl ?_
  generalize hT : RI (rHigh (mV σ L) (σ.1 6) (σ.1 0) n o) (MH D ad h0 σ) = T
  intro zp ze zs zm zb zt zc F hr hnm
  generalize ([.ref (ad 0), .int n, .int o] : List Value).toArray = za at F ⊢
  have hok2 := hok
  obtain ⟨ho8, hm15, ht99, hby, hlaw⟩ := hok2
  have J25 : (inN n 100) → (o = -1 ∨ inN o (σ.1 0)) → WG zp l ze ({ frames := 7, cells := 0, slots := 0, locals := 159 } : Room) zs zm za zb zt zc D B 5 (MQ zb (QT D B T) za zs 0 0 (zA B)) (MH D ad h0 σ) 0 0 25 [some (.ref (ad 0)), some (.int n), some (.int o), none, none] [] := by
    intro  k1 k2
    obtain ⟨hnl, hne⟩ := inN_cl (by decide) k1
    refine WG.eqv (lv' := [some (.ref (ad 0)), some (.int (nI (n.toNatClampNeg))), some (.int o), none, none]) rfl (congrArg (fun z => ([some (.ref (ad 0)), some (.int z), some (.int o), none, none] : List (Option Value))) (show n = (nI (n.toNatClampNeg)) from by exact hne)) ?_
    refine g_aload_n F dX2_high_25 rfl rfl (np := 26) rfl ?_
    refine h_get F (k := 6) (v := .int (nI (σ.1 6))) (by decide) rfl q1552 dX2_high_26 (np := 29) rfl ?_
    refine g_istore_n F (lv' := [some (.ref (ad 0)), some (.int (nI (n.toNatClampNeg))), some (.int o), some (.int (nI (σ.1 6))), none]) dX2_high_29 rfl (by decide) rfl rfl (np := 30) rfl ?_
    refine g_aload_n F dX2_high_30 rfl rfl (np := 31) rfl ?_
    refine g_aload_n F dX2_high_31 rfl rfl (np := 32) rfl ?_
    refine g_iload_n F dX2_high_32 rfl rfl (np := 33) rfl ?_
    refine g_runV F (C := RX2) (ci := 2) (T0 := TX2) (N := 42) (rest := [.ref (ad 0)]) (ct_X2_ahead hE σ n.toNatClampNeg (by omega) (by omega)) (lw_V q1836 q1838 qs78 q102 q1839) hcV_X2_ahead ⟨Nat.le_of_ble_eq_true rfl, Nat.le_of_ble_eq_true rfl⟩ rfl (fun h hs => hs.obj) rfl rfl (Nat.le_of_ble_eq_true rfl) dX2_high_33 ⟨Nat.le_of_ble_eq_true rfl, Nat.le_of_ble_eq_true rfl⟩ (np := 36) rfl (k_RI ?_)
    refine h_put F (k := 6) (n := day (σ.1 6) n.toNatClampNeg) (ty := .int) rfl (by decide) (mset_6 _ _ _) rfl rfl rfl rfl q1552 dX2_high_36 (np := 39) rfl ?_
    refine g_iload_n F dX2_high_39 rfl rfl (np := 40) rfl ?_
    refine g_iconst F (v := (-1)) dX2_high_40 (by decide) (np := 41) rfl ?_
    refine g_icmp_ne F dX2_high_41 (tp := 51) (by decide) (np := 44) rfl (fun c41 => ?_) (fun c41 => ?_)
    · refine g_aload_n F dX2_high_51 rfl rfl (np := 52) rfl ?_
      refine g_iload_n F dX2_high_52 rfl rfl (np := 53) rfl ?_
      refine g_runV F (C := RX2) (ci := 2) (T0 := TX2) (N := 42) (rest := []) (ct_X2_highOf hE (sN σ 6 (day (σ.1 6) n.toNatClampNeg)) L o (by exact hok.day (day_le _ _))) (lw_V q1844 q1846 qs80 q102 q1847) hcV_X2_highOf ⟨Nat.le_of_ble_eq_true rfl, Nat.le_of_ble_eq_true rfl⟩ rfl (fun h hs => hs.obj) rfl rfl (Nat.le_of_ble_eq_true rfl) dX2_high_53 ⟨Nat.le_of_ble_eq_true rfl, Nat.le_of_ble_eq_true rfl⟩ (np := 56) rfl (k_RI ?_)
      refine g_istore F (lv' := [some (.ref (ad 0)), some (.int (nI (n.toNatClampNeg))), some (.int o), some (.int (nI (σ.1 6))), some (.int (sHigh (mV (sN σ 6 (day (σ.1 6) n.toNatClampNeg)) L) ((sN σ 6 (day (σ.1 6) n.toNatClampNeg)).1 6) o))]) dX2_high_56 (by decide) rfl rfl (np := 58) rfl ?_
      refine g_aload_n F dX2_high_58 rfl rfl (np := 59) rfl ?_
      refine g_iload_n F dX2_high_59 rfl rfl (np := 60) rfl ?_
      refine h_put F (k := 6) (n := σ.1 6) (ty := .int) rfl (by decide) (mset_6 _ _ _) rfl rfl rfl rfl q1552 dX2_high_60 (np := 63) rfl ?_
      refine WG.weak (S' := MH D ad h0 (sN σ 6 (σ.1 6))) (fun h hs => by rw [sN_sN] at hs; exact hs) ?_
      refine WG.weak (S' := MH D ad h0 σ) (fun h hs => by rw [show σ = sN σ 6 (σ.1 6) from (sN_same σ 6).symm]; exact hs) ?_
      refine g_iload F dX2_high_63 rfl (np := 65) rfl ?_
      have hv : sHigh (mV (sN σ 6 (day (σ.1 6) n.toNatClampNeg)) L) ((sN σ 6 (day (σ.1 6) n.toNatClampNeg)).1 6) o = rHigh (mV σ L) (σ.1 6) (σ.1 0) n o := by unfold rHigh; rw [pif_t ⟨k1, k2⟩]; unfold sHighs; first | (rw [if_pos ‹_›]; rfl) | (rw [if_neg ‹_›]; rfl)
      exact g_iret F hr rfl (Nat.le_of_ble_eq_true rfl) (Nat.le_of_ble_eq_true rfl) dX2_high_65 (fun h hs => by rw [← hT]; exact ⟨congrArg (fun z => some (Value.int z)) hv, hs⟩)
    · refine g_aload_n F dX2_high_44 rfl rfl (np := 45) rfl ?_
      refine g_runV F (C := RX2) (ci := 2) (T0 := TX2) (N := 42) (rest := []) (ct_X2_allHigh hE (sN σ 6 (day (σ.1 6) n.toNatClampNeg)) L (by exact hok.day (day_le _ _))) (lw_V q1840 q1842 qs79 q102 q1843) hcV_X2_allHigh ⟨Nat.le_of_ble_eq_true rfl, Nat.le_of_ble_eq_true rfl⟩ rfl (fun h hs => hs.obj) rfl rfl (Nat.le_of_ble_eq_true rfl) dX2_high_45 ⟨Nat.le_of_ble_eq_true rfl, Nat.le_of_ble_eq_true rfl⟩ (np := 48) rfl (k_RI ?_)
      refine g_goto F dX2_high_48 (np := 56) (by decide) ?_
      refine g_istore F (lv' := [some (.ref (ad 0)), some (.int (nI (n.toNatClampNeg))), some (.int o), some (.int (nI (σ.1 6))), some (.int (sAll (mV (sN σ 6 (day (σ.1 6) n.toNatClampNeg)) L) ((sN σ 6 (day (σ.1 6) n.toNatClampNeg)).1 6) ((sN σ 6 (day (σ.1 6) n.toNatClampNeg)).1 0)))]) dX2_high_56 (by decide) rfl rfl (np := 58) rfl ?_
      refine g_aload_n F dX2_high_58 rfl rfl (np := 59) rfl ?_
      refine g_iload_n F dX2_high_59 rfl rfl (np := 60) rfl ?_
      refine h_put F (k := 6) (n := σ.1 6) (ty := .int) rfl (by decide) (mset_6 _ _ _) rfl rfl rfl rfl q1552 dX2_high_60 (np := 63) rfl ?_
      refine WG.weak (S' := MH D ad h0 (sN σ 6 (σ.1 6))) (fun h hs => by rw [sN_sN] at hs; exact hs) ?_
      refine WG.weak (S' := MH D ad h0 σ) (fun h hs => by rw [show σ = sN σ 6 (σ.1 6) from (sN_same σ 6).symm]; exact hs) ?_
      refine g_iload F dX2_high_63 rfl (np := 65) rfl ?_
      have hv : sAll (mV (sN σ 6 (day (σ.1 6) n.toNatClampNeg)) L) ((sN σ 6 (day (σ.1 6) n.toNatClampNeg)).1 6) ((sN σ 6 (day (σ.1 6) n.toNatClampNeg)).1 0) = rHigh (mV σ L) (σ.1 6) (σ.1 0) n o := by unfold rHigh; rw [pif_t ⟨k1, k2⟩]; unfold sHighs; first | (rw [if_pos ‹_›]; rfl) | (rw [if_neg ‹_›]; rfl)
      exact g_iret F hr rfl (Nat.le_of_ble_eq_true rfl) (Nat.le_of_ble_eq_true rfl) dX2_high_65 (fun h hs => by rw [← hT]; exact ⟨congrArg (fun z => some (Value.int z)) hv, hs⟩)
  refine g_iload_n F dX2_high_0 rfl rfl (np := 1) rfl ?_
  refine g_iconst F (v := (nI 0)) dX2_high_1 (by decide) (np := 2) rfl ?_
  refine g_bipush F (v := (nI 99)) dX2_high_2 (by decide) (np := 4) rfl ?_
  refine g_runS F (rest := []) (ct_X2_within hE n (nI (0)) (nI (99)) ) (lw_S q1677 q1678 q102 q1679) hcS_X2_within ⟨Nat.le_of_ble_eq_true rfl, Nat.le_of_ble_eq_true rfl⟩ rfl rfl (Nat.le_of_ble_eq_true rfl) dX2_high_4 ⟨Nat.le_of_ble_eq_true rfl, Nat.le_of_ble_eq_true rfl⟩ (np := 7) rfl (k_RI ?_)
  refine g_if_eqB F dX2_high_7 (tp := 23) (by decide) (np := 10) rfl (fun c7 => ?_) (fun c7 => ?_)
  · refine g_iconst F (v := (-1)) dX2_high_23 (by decide) (np := 24) rfl ?_
    have hv : -1 = rHigh (mV σ L) (σ.1 6) (σ.1 0) n o := by first | (unfold rHigh; rw [pif_f (fun z => ‹¬ _› (bt99.mpr z.1))]; done) | (unfold rHigh; rw [pif_f (fun z => z.2.elim ‹_› ‹_›)]; done)
    exact g_iret F hr rfl (Nat.le_of_ble_eq_true rfl) (Nat.le_of_ble_eq_true rfl) dX2_high_24 (fun h hs => by rw [← hT]; exact ⟨congrArg (fun z => some (Value.int z)) hv, hs⟩)
  · refine g_iload_n F dX2_high_10 rfl rfl (np := 11) rfl ?_
    refine g_iconst F (v := (-1)) dX2_high_11 (by decide) (np := 12) rfl ?_
    refine g_icmp_eq F dX2_high_12 (tp := 25) (by decide) (np := 15) rfl (fun c12 => ?_) (fun c12 => ?_)
    · exact J25  (by exact bt99.mp ‹_›) (by first | exact Or.inl ‹_› | exact Or.inr ‹_›)
    · refine g_aload_n F dX2_high_15 rfl rfl (np := 16) rfl ?_
      refine g_iload_n F dX2_high_16 rfl rfl (np := 17) rfl ?_
      refine g_runV F (C := RX2) (ci := 2) (T0 := TX2) (N := 42) (rest := []) (ct_X2_isOwner hE σ o (by first | assumption | omega)) (lw_V q1688 q1690 qs54 q102 q1691) hcV_X2_isOwner ⟨Nat.le_of_ble_eq_true rfl, Nat.le_of_ble_eq_true rfl⟩ rfl (fun h hs => hs.obj) rfl rfl (Nat.le_of_ble_eq_true rfl) dX2_high_17 ⟨Nat.le_of_ble_eq_true rfl, Nat.le_of_ble_eq_true rfl⟩ (np := 20) rfl (k_RI ?_)
      refine g_if_neB F dX2_high_20 (tp := 25) (by decide) (np := 23) rfl (fun c20 => ?_) (fun c20 => ?_)
      · exact J25  (by exact bt99.mp ‹_›) (by first | exact Or.inl ‹_› | exact Or.inr ‹_›)
      · refine g_iconst F (v := (-1)) dX2_high_23 (by decide) (np := 24) rfl ?_
        have hv : -1 = rHigh (mV σ L) (σ.1 6) (σ.1 0) n o := by first | (unfold rHigh; rw [pif_f (fun z => ‹¬ _› (bt99.mpr z.1))]; done) | (unfold rHigh; rw [pif_f (fun z => z.2.elim ‹_› ‹_›)]; done)
        exact g_iret F hr rfl (Nat.le_of_ble_eq_true rfl) (Nat.le_of_ble_eq_true rfl) dX2_high_24 (fun h hs => by rw [← hT]; exact ⟨congrArg (fun z => some (Value.int z)) hv, hs⟩)

set_option maxRecDepth 100000 in
theorem ct_X2_opens {l : Launch} {D : va_G} {E : State → Prop} {B : Nat} (hE : Stab E) {ad : Nat → Nat} {h0 : AH} (σ : MSt) (L : LawT) (n : Int32) (hok : mOK σ L) : Ct l D E B yX2_opens cX2_opens 5 (some .int) 2 42 0 0 [.ref (ad 0), .int n] (MH D ad h0 σ) (RI (rOpens (mV σ L) (σ.1 6) n) (MH D ad h0 σ)) := by
  refine Ct.of (nL := 5) (lv := [some (.ref (ad 0)), some (.int n), none, none, none]) (by decide) (Nat.le_of_ble_eq_true rfl) hE 3 rfl ?_
  generalize hT : RI (rOpens (mV σ L) (σ.1 6) n) (MH D ad h0 σ) = T
  intro zp ze zs zm zb zt zc F hr hnm
  generalize ([.ref (ad 0), .int n] : List Value).toArray = za at F ⊢
  have hok2 := hok
  obtain ⟨ho8, hm15, ht99, hby, hlaw⟩ := hok2
  refine g_iload_n F dX2_opens_0 rfl rfl (np := 1) rfl ?_
  refine g_iconst F (v := (nI 0)) dX2_opens_1 (by decide) (np := 2) rfl ?_
  refine g_bipush F (v := (nI 99)) dX2_opens_2 (by decide) (np := 4) rfl ?_
  refine g_runS F (rest := []) (ct_X2_within hE n (nI (0)) (nI (99)) ) (lw_S q1677 q1678 q102 q1679) hcS_X2_within ⟨Nat.le_of_ble_eq_true rfl, Nat.le_of_ble_eq_true rfl⟩ rfl rfl (Nat.le_of_ble_eq_true rfl) dX2_opens_4 ⟨Nat.le_of_ble_eq_true rfl, Nat.le_of_ble_eq_true rfl⟩ (np := 7) rfl (k_RI ?_)
  refine g_if_neB F dX2_opens_7 (tp := 12) (by decide) (np := 10) rfl (fun c7 => ?_) (fun c7 => ?_)
  · have k1 := (btw_0 (n := 100) (by decide) (by decide)).mp c7
    obtain ⟨hnl, hne⟩ := inN_cl (by decide) k1
    refine WG.eqv (lv' := [some (.ref (ad 0)), some (.int (nI (n.toNatClampNeg))), none, none, none]) rfl (congrArg (fun z => ([some (.ref (ad 0)), some (.int z), none, none, none] : List (Option Value))) (show n = (nI (n.toNatClampNeg)) from by exact hne)) ?_
    refine g_aload_n F dX2_opens_12 rfl rfl (np := 13) rfl ?_
    refine h_get F (k := 6) (v := .int (nI (σ.1 6))) (by decide) rfl q1552 dX2_opens_13 (np := 16) rfl ?_
    refine g_istore_n F (lv' := [some (.ref (ad 0)), some (.int (nI (n.toNatClampNeg))), some (.int (nI (σ.1 6))), none, none]) dX2_opens_16 rfl (by decide) rfl rfl (np := 17) rfl ?_
    refine g_aload_n F dX2_opens_17 rfl rfl (np := 18) rfl ?_
    refine g_aload_n F dX2_opens_18 rfl rfl (np := 19) rfl ?_
    refine g_iload_n F dX2_opens_19 rfl rfl (np := 20) rfl ?_
    refine g_runV F (C := RX2) (ci := 2) (T0 := TX2) (N := 42) (rest := [.ref (ad 0)]) (ct_X2_ahead hE σ n.toNatClampNeg (by omega) (by omega)) (lw_V q1836 q1838 qs78 q102 q1839) hcV_X2_ahead ⟨Nat.le_of_ble_eq_true rfl, Nat.le_of_ble_eq_true rfl⟩ rfl (fun h hs => hs.obj) rfl rfl (Nat.le_of_ble_eq_true rfl) dX2_opens_20 ⟨Nat.le_of_ble_eq_true rfl, Nat.le_of_ble_eq_true rfl⟩ (np := 23) rfl (k_RI ?_)
    refine h_put F (k := 6) (n := day (σ.1 6) n.toNatClampNeg) (ty := .int) rfl (by decide) (mset_6 _ _ _) rfl rfl rfl rfl q1552 dX2_opens_23 (np := 26) rfl ?_
    refine g_iconst F (v := (nI 0)) dX2_opens_26 (by decide) (np := 27) rfl ?_
    refine g_istore_n F (lv' := [some (.ref (ad 0)), some (.int (nI (n.toNatClampNeg))), some (.int (nI (σ.1 6))), some (.int (nI 0)), none]) dX2_opens_27 rfl (by decide) rfl rfl (np := 28) rfl ?_
    refine g_iconst F (v := (nI 0)) dX2_opens_28 (by decide) (np := 29) rfl ?_
    refine g_istore F (lv' := [some (.ref (ad 0)), some (.int (nI (n.toNatClampNeg))), some (.int (nI (σ.1 6))), some (.int (nI 0)), some (.int (nI 0))]) dX2_opens_29 (by decide) rfl rfl (np := 31) rfl ?_
    have L31 : ∀ (zn : Nat) (b : Int32) (p : Nat), (b = sBits (mP σ) (day (σ.1 6) n.toNatClampNeg) p) → (p ≤ σ.1 2) → σ.1 2 - p < zn → WG zp l ze ({ frames := 2, cells := 0, slots := 0, locals := 42 } : Room) zs zm za zb zt zc D B 5 (MQ zb (QT D B T) za zs 0 0 (zA B)) (MH D ad h0 (sN σ 6 (day (σ.1 6) n.toNatClampNeg))) 0 0 31 [some (.ref (ad 0)), some (.int (nI (n.toNatClampNeg))), some (.int (nI (σ.1 6))), some (.int b), some (.int (nI p))] [] := by
      intro zn
      induction zn with
      | zero => intro b p h1 h2 hm; exact absurd hm (Nat.not_lt_zero _)
      | succ zn ih31 =>
        intro b p h1 h2 hm
        refine g_iload F dX2_opens_31 rfl (np := 33) rfl ?_
        refine g_aload_n F dX2_opens_33 rfl rfl (np := 34) rfl ?_
        refine h_get F (k := 2) (v := .int (nI (σ.1 2))) (by decide) rfl q1548 dX2_opens_34 (np := 37) rfl ?_
        refine g_icmp_geN F (by omega) (by omega) dX2_opens_37 (tp := 62) (by decide) (np := 40) rfl (fun c37 => ?_) (fun c37 => ?_)
        · refine g_aload_n F dX2_opens_62 rfl rfl (np := 63) rfl ?_
          refine g_iload_n F dX2_opens_63 rfl rfl (np := 64) rfl ?_
          refine h_put F (k := 6) (n := σ.1 6) (ty := .int) rfl (by decide) (mset_6 _ _ _) rfl rfl rfl rfl q1552 dX2_opens_64 (np := 67) rfl ?_
          refine WG.weak (S' := MH D ad h0 (sN σ 6 (σ.1 6))) (fun h hs => by rw [sN_sN] at hs; exact hs) ?_
          refine WG.weak (S' := MH D ad h0 σ) (fun h hs => by rw [show σ = sN σ 6 (σ.1 6) from (sN_same σ 6).symm]; exact hs) ?_
          refine g_iload_n F dX2_opens_67 rfl rfl (np := 68) rfl ?_
          have hv : b = rOpens (mV σ L) (σ.1 6) n := by unfold rOpens; rw [pif_t k1, h1, show p = σ.1 2 by omega]; rfl
          exact g_iret F hr rfl (Nat.le_of_ble_eq_true rfl) (Nat.le_of_ble_eq_true rfl) dX2_opens_68 (fun h hs => by rw [← hT]; exact ⟨congrArg (fun z => some (Value.int z)) hv, hs⟩)
        · refine g_aload_n F dX2_opens_40 rfl rfl (np := 41) rfl ?_
          refine g_iload F dX2_opens_41 rfl (np := 43) rfl ?_
          refine g_runV F (C := RX2) (ci := 2) (T0 := TX2) (N := 42) (rest := []) (ct_X2_isOpen hE (sN σ 6 (day (σ.1 6) n.toNatClampNeg)) p (by omega)) (lw_V q1811 q1813 qs74 q102 q1814) hcV_X2_isOpen ⟨Nat.le_of_ble_eq_true rfl, Nat.le_of_ble_eq_true rfl⟩ rfl (fun h hs => hs.obj) rfl rfl (Nat.le_of_ble_eq_true rfl) dX2_opens_43 ⟨Nat.le_of_ble_eq_true rfl, Nat.le_of_ble_eq_true rfl⟩ (np := 46) rfl (k_RI ?_)
          refine g_if_eqB F dX2_opens_46 (tp := 56) (by decide) (np := 49) rfl (fun c46 => ?_) (fun c46 => ?_)
          · refine g_iinc F (v := (nI (p + 1))) (lv' := [some (.ref (ad 0)), some (.int (nI (n.toNatClampNeg))), some (.int (nI (σ.1 6))), some (.int b), some (.int (nI (p + 1)))]) dX2_opens_56 rfl (nI_add _ _) (by decide) rfl rfl (np := 59) rfl ?_
            refine g_goto F dX2_opens_59 (np := 31) (by decide) ?_
            exact ih31 b (p + 1) (by first | (unfold sBits; rw [pif_t (by assumption), h1]; done) | (unfold sBits; rw [pif_f (by assumption), h1]; done)) (by first | assumption | omega) (by omega)
          · refine g_iload_n F dX2_opens_49 rfl rfl (np := 50) rfl ?_
            refine g_iconst F (v := (nI 1)) dX2_opens_50 (by decide) (np := 51) rfl ?_
            refine g_iload F dX2_opens_51 rfl (np := 53) rfl ?_
            refine g_ishl F dX2_opens_53 (np := 54) rfl ?_
            refine g_ior F dX2_opens_54 (np := 55) rfl ?_
            refine g_istore_n F (lv' := [some (.ref (ad 0)), some (.int (nI (n.toNatClampNeg))), some (.int (nI (σ.1 6))), some (.int (b ||| ((nI (1)) <<< ((nI (p)) &&& 31)))), some (.int (nI p))]) dX2_opens_55 rfl (by decide) rfl rfl (np := 56) rfl ?_
            refine g_iinc F (v := (nI (p + 1))) (lv' := [some (.ref (ad 0)), some (.int (nI (n.toNatClampNeg))), some (.int (nI (σ.1 6))), some (.int (b ||| ((nI (1)) <<< ((nI (p)) &&& 31)))), some (.int (nI (p + 1)))]) dX2_opens_56 rfl (nI_add _ _) (by decide) rfl rfl (np := 59) rfl ?_
            refine g_goto F dX2_opens_59 (np := 31) (by decide) ?_
            exact ih31 (b ||| ((nI (1)) <<< ((nI (p)) &&& 31))) (p + 1) (by first | (unfold sBits; rw [pif_t (by assumption), h1]; done) | (unfold sBits; rw [pif_f (by assumption), h1]; done)) (by first | assumption | omega) (by omega)
    exact L31 _ (nI (0)) 0 (by rfl) (by omega) (Nat.lt_succ_self _)
  · refine g_iconst F (v := (-1)) dX2_opens_10 (by decide) (np := 11) rfl ?_
    have hv : -1 = rOpens (mV σ L) (σ.1 6) n := by unfold rOpens; rw [pif_f (fun z => c7 (bt99.mpr z))]
    exact g_iret F hr rfl (Nat.le_of_ble_eq_true rfl) (Nat.le_of_ble_eq_true rfl) dX2_opens_11 (fun h hs => by rw [← hT]; exact ⟨congrArg (fun z => some (Value.int z)) hv, hs⟩)

set_option maxRecDepth 100000 in
theorem ct_X2_falls {l : Launch} {D : va_G} {E : State → Prop} {B : Nat} (hE : Stab E) {ad : Nat → Nat} {h0 : AH} (σ : MSt) (L : LawT) (o : Int32) (x : Int32) (hok : mOK σ L) : Ct l D E B yX2_falls cX2_falls 6 (some .int) 6 137 0 0 [.ref (ad 0), .int o, .int x] (MH D ad h0 σ) (RI (rFalls (mV σ L) (σ.1 6) (σ.1 0) o x) (MH D ad h0 σ)) := by
  refine Ct.of (nL := 6) (lv := [some (.ref (ad 0)), some (.int o), some (.int x), none, none, none]) (by decide) (Nat.le_of_ble_eq_true rfl) hE 3 rfl ?_
  generalize hT : RI (rFalls (mV σ L) (σ.1 6) (σ.1 0) o x) (MH D ad h0 σ) = T
  intro zp ze zs zm zb zt zc F hr hnm
  generalize ([.ref (ad 0), .int o, .int x] : List Value).toArray = za at F ⊢
  have hok2 := hok
  obtain ⟨ho8, hm15, ht99, hby, hlaw⟩ := hok2
  refine g_aload_n F dX2_falls_0 rfl rfl (np := 1) rfl ?_
  refine g_iload_n F dX2_falls_1 rfl rfl (np := 2) rfl ?_
  refine g_runV F (C := RX2) (ci := 2) (T0 := TX2) (N := 42) (rest := []) (ct_X2_isOwner hE σ o (by first | assumption | omega)) (lw_V q1688 q1690 qs54 q102 q1691) hcV_X2_isOwner ⟨Nat.le_of_ble_eq_true rfl, Nat.le_of_ble_eq_true rfl⟩ rfl (fun h hs => hs.obj) rfl rfl (Nat.le_of_ble_eq_true rfl) dX2_falls_2 ⟨Nat.le_of_ble_eq_true rfl, Nat.le_of_ble_eq_true rfl⟩ (np := 5) rfl (k_RI ?_)
  refine g_if_eqB F dX2_falls_5 (tp := 18) (by decide) (np := 8) rfl (fun c5 => ?_) (fun c5 => ?_)
  · refine g_iconst F (v := (-1)) dX2_falls_18 (by decide) (np := 19) rfl ?_
    have hv : -1 = rFalls (mV σ L) (σ.1 6) (σ.1 0) o x := by first | (unfold rFalls; rw [pif_f (fun z => ‹¬ inN _ _› z.1)]; done) | (unfold rFalls; rw [pif_f (fun z => c15 (bt9.mpr z.2))]; done)
    exact g_iret F hr rfl (Nat.le_of_ble_eq_true rfl) (Nat.le_of_ble_eq_true rfl) dX2_falls_19 (fun h hs => by rw [← hT]; exact ⟨congrArg (fun z => some (Value.int z)) hv, hs⟩)
  · refine g_iload_n F dX2_falls_8 rfl rfl (np := 9) rfl ?_
    refine g_iconst F (v := (nI 0)) dX2_falls_9 (by decide) (np := 10) rfl ?_
    refine g_bipush F (v := (nI 9)) dX2_falls_10 (by decide) (np := 12) rfl ?_
    refine g_runS F (rest := []) (ct_X2_within hE x (nI (0)) (nI (9)) ) (lw_S q1677 q1678 q102 q1679) hcS_X2_within ⟨Nat.le_of_ble_eq_true rfl, Nat.le_of_ble_eq_true rfl⟩ rfl rfl (Nat.le_of_ble_eq_true rfl) dX2_falls_12 ⟨Nat.le_of_ble_eq_true rfl, Nat.le_of_ble_eq_true rfl⟩ (np := 15) rfl (k_RI ?_)
    refine g_if_neB F dX2_falls_15 (tp := 20) (by decide) (np := 18) rfl (fun c15 => ?_) (fun c15 => ?_)
    · have k1 := (btw_0 (n := 10) (by decide) (by decide)).mp c15
      refine g_aload_n F dX2_falls_20 rfl rfl (np := 21) rfl ?_
      refine h_get F (k := 6) (v := .int (nI (σ.1 6))) (by decide) rfl q1552 dX2_falls_21 (np := 24) rfl ?_
      refine g_istore_n F (lv' := [some (.ref (ad 0)), some (.int o), some (.int x), some (.int (nI (σ.1 6))), none, none]) dX2_falls_24 rfl (by decide) rfl rfl (np := 25) rfl ?_
      refine WG.weak (S' := MH D ad h0 (sN σ 6 (σ.1 6))) (fun h hs => by rw [show (sN σ 6 (σ.1 6)) = σ from by exact sN_same _ _]; exact hs) ?_
      refine g_bipush F (v := (-2)) dX2_falls_25 (by decide) (np := 27) rfl ?_
      refine g_istore F (lv' := [some (.ref (ad 0)), some (.int o), some (.int x), some (.int (nI (σ.1 6))), some (.int (-2)), none]) dX2_falls_27 (by decide) rfl rfl (np := 29) rfl ?_
      refine g_bipush F (v := (nI 99)) dX2_falls_29 (by decide) (np := 31) rfl ?_
      refine g_istore F (lv' := [some (.ref (ad 0)), some (.int o), some (.int x), some (.int (nI (σ.1 6))), some (.int (-2)), some (.int (nI 99))]) dX2_falls_31 (by decide) rfl rfl (np := 33) rfl ?_
      have L33 : ∀ (zn : Nat) (f : Int32) (q : Int32) (t : Nat) (k : Nat), (f = oI (sLeast (fun k => sHigh (mV σ L) (day (σ.1 6) k) o < x) k (100 - k))) → (k ≤ 100) → (q = nI k - 1) → k < zn → WG zp l ze ({ frames := 6, cells := 0, slots := 0, locals := 137 } : Room) zs zm za zb zt zc D B 6 (MQ zb (QT D B T) za zs 0 0 (zA B)) (MH D ad h0 (sN σ 6 t)) 0 0 33 [some (.ref (ad 0)), some (.int o), some (.int x), some (.int (nI (σ.1 6))), some (.int f), some (.int q)] [] := by
        intro zn
        induction zn with
        | zero => intro f q t k h1 h2 h3 hm; exact absurd hm (Nat.not_lt_zero _)
        | succ zn ih33 =>
          intro f q t k h1 h2 h3 hm
          refine g_iload F dX2_falls_33 rfl (np := 35) rfl ?_
          refine g_if_lt F dX2_falls_35 (tp := 70) (by decide) (np := 38) rfl (fun c35 => ?_) (fun c35 => ?_)
          · refine g_aload_n F dX2_falls_70 rfl rfl (np := 71) rfl ?_
            refine g_iload_n F dX2_falls_71 rfl rfl (np := 72) rfl ?_
            refine h_put F (k := 6) (n := σ.1 6) (ty := .int) rfl (by decide) (mset_6 _ _ _) rfl rfl rfl rfl q1552 dX2_falls_72 (np := 75) rfl ?_
            refine WG.weak (S' := MH D ad h0 (sN σ 6 (σ.1 6))) (fun h hs => by rw [sN_sN] at hs; exact hs) ?_
            refine WG.weak (S' := MH D ad h0 σ) (fun h hs => by rw [show σ = sN σ 6 (σ.1 6) from (sN_same σ 6).symm]; exact hs) ?_
            refine g_iload F dX2_falls_75 rfl (np := 77) rfl ?_
            have hv : f = rFalls (mV σ L) (σ.1 6) (σ.1 0) o x := by unfold rFalls; rw [pif_t ⟨by assumption, k1⟩, h1, show k = 0 by
  rcases Nat.eq_zero_or_pos k with z | z
  · exact z
  · exfalso; obtain ⟨k0, rfl⟩ : ∃ k0, k = k0 + 1 := ⟨k - 1, by omega⟩; rw [h3, nI_pred] at c35; exact absurd c35 (nI_pos (by omega))]
            exact g_iret F hr rfl (Nat.le_of_ble_eq_true rfl) (Nat.le_of_ble_eq_true rfl) dX2_falls_77 (fun h hs => by rw [← hT]; exact ⟨congrArg (fun z => some (Value.int z)) hv, hs⟩)
          · obtain ⟨k0, rfl⟩ : ∃ k0, k = k0 + 1 := by
              rcases Nat.eq_zero_or_pos k with rfl | z
              · exact absurd (by rw [h3]; decide) c35
              · exact ⟨k - 1, by omega⟩
            have e0 : q = nI k0 := by rw [h3]; exact (nI_pred k0)
            refine WG.eqv (lv' := [some (.ref (ad 0)), some (.int o), some (.int x), some (.int (nI (σ.1 6))), some (.int f), some (.int (nI k0))]) rfl (congrArg (fun z => ([some (.ref (ad 0)), some (.int o), some (.int x), some (.int (nI (σ.1 6))), some (.int f), some (.int z)] : List (Option Value))) (show q = (nI k0) from by exact e0)) ?_
            refine g_aload_n F dX2_falls_38 rfl rfl (np := 39) rfl ?_
            refine g_bipush F (v := (nI 99)) dX2_falls_39 (by decide) (np := 41) rfl ?_
            refine g_iload_n F dX2_falls_41 rfl rfl (np := 42) rfl ?_
            refine g_iload F dX2_falls_42 rfl (np := 44) rfl ?_
            refine g_iaddN F dX2_falls_44 (np := 45) rfl ?_
            refine g_min F (rest := [.ref (ad 0)]) q1831 (by decide) (by decide) (Nat.le_of_ble_eq_true rfl) (Nat.le_of_ble_eq_true rfl) dX2_falls_45 (np := 48) rfl ?_
            refine WG.eqv (st' := [.int (nI (day (σ.1 6) k0)), .ref (ad 0)]) (congrArg (fun z => ([.int z, .ref (ad 0)] : List Value)) (show (jmin (nI (99)) (nI ((σ.1 6) + k0))) = (nI (day (σ.1 6) k0)) from by exact jmin_N (by decide) (by omega))) rfl ?_
            refine h_put F (k := 6) (n := day (σ.1 6) k0) (ty := .int) rfl (by decide) (mset_6 _ _ _) rfl rfl rfl rfl q1552 dX2_falls_48 (np := 51) rfl ?_
            refine WG.weak (S' := MH D ad h0 (sN σ 6 (day (σ.1 6) k0))) (fun h hs => by rw [sN_sN] at hs; exact hs) ?_
            refine g_aload_n F dX2_falls_51 rfl rfl (np := 52) rfl ?_
            refine g_iload_n F dX2_falls_52 rfl rfl (np := 53) rfl ?_
            refine g_runV F (C := RX2) (ci := 2) (T0 := TX2) (N := 42) (rest := []) (ct_X2_highOf hE (sN σ 6 (day (σ.1 6) k0)) L o (by exact hok.day (day_le _ _))) (lw_V q1844 q1846 qs80 q102 q1847) hcV_X2_highOf ⟨Nat.le_of_ble_eq_true rfl, Nat.le_of_ble_eq_true rfl⟩ rfl (fun h hs => hs.obj) rfl rfl (Nat.le_of_ble_eq_true rfl) dX2_falls_53 ⟨Nat.le_of_ble_eq_true rfl, Nat.le_of_ble_eq_true rfl⟩ (np := 56) rfl (k_RI ?_)
            refine g_iload_n F dX2_falls_56 rfl rfl (np := 57) rfl ?_
            refine g_icmp_ge F dX2_falls_57 (tp := 64) (by decide) (np := 60) rfl (fun c57 => ?_) (fun c57 => ?_)
            · refine g_iinc F (v := (nI (k0) - 1)) (lv' := [some (.ref (ad 0)), some (.int o), some (.int x), some (.int (nI (σ.1 6))), some (.int f), some (.int (nI (k0) - 1))]) dX2_falls_64 rfl (zi_sub1 _) (by decide) rfl rfl (np := 67) rfl ?_
              refine g_goto F dX2_falls_67 (np := 33) (by decide) ?_
              exact ih33 f (nI (k0) - 1) ((day (σ.1 6) k0)) k0 (by rw [show 100 - k0 = (100 - (k0 + 1)) + 1 by omega]; first | (rw [sLeast_t (K := fun k => sHigh (mV σ L) (day (σ.1 6) k) o < x) (Int32.not_le.mp ‹_›)]; rfl) | (rw [sLeast_f (K := fun k => sHigh (mV σ L) (day (σ.1 6) k) o < x) (Int32.not_lt.mpr ‹_›)]; exact h1)) (by first | assumption | omega) (by rfl) (by omega)
            · refine g_iload F dX2_falls_60 rfl (np := 62) rfl ?_
              refine g_istore F (lv' := [some (.ref (ad 0)), some (.int o), some (.int x), some (.int (nI (σ.1 6))), some (.int (nI k0)), some (.int (nI k0))]) dX2_falls_62 (by decide) rfl rfl (np := 64) rfl ?_
              refine g_iinc F (v := (nI (k0) - 1)) (lv' := [some (.ref (ad 0)), some (.int o), some (.int x), some (.int (nI (σ.1 6))), some (.int (nI k0)), some (.int (nI (k0) - 1))]) dX2_falls_64 rfl (zi_sub1 _) (by decide) rfl rfl (np := 67) rfl ?_
              refine g_goto F dX2_falls_67 (np := 33) (by decide) ?_
              exact ih33 (nI (k0)) (nI (k0) - 1) ((day (σ.1 6) k0)) k0 (by rw [show 100 - k0 = (100 - (k0 + 1)) + 1 by omega]; first | (rw [sLeast_t (K := fun k => sHigh (mV σ L) (day (σ.1 6) k) o < x) (Int32.not_le.mp ‹_›)]; rfl) | (rw [sLeast_f (K := fun k => sHigh (mV σ L) (day (σ.1 6) k) o < x) (Int32.not_lt.mpr ‹_›)]; exact h1)) (by first | assumption | omega) (by rfl) (by omega)
      exact L33 _ (-2) (nI (99)) ((σ.1 6)) 100 (by rfl) (by omega) (by decide) (Nat.lt_succ_self _)
    · refine g_iconst F (v := (-1)) dX2_falls_18 (by decide) (np := 19) rfl ?_
      have hv : -1 = rFalls (mV σ L) (σ.1 6) (σ.1 0) o x := by first | (unfold rFalls; rw [pif_f (fun z => ‹¬ inN _ _› z.1)]; done) | (unfold rFalls; rw [pif_f (fun z => c15 (bt9.mpr z.2))]; done)
      exact g_iret F hr rfl (Nat.le_of_ble_eq_true rfl) (Nat.le_of_ble_eq_true rfl) dX2_falls_19 (fun h hs => by rw [← hT]; exact ⟨congrArg (fun z => some (Value.int z)) hv, hs⟩)
