/-! WALKS (printed by walk.py): judge, fits -/
set_option maxRecDepth 100000
set_option maxRecDepth 100000 in
theorem ct_X2_judge {l : Launch} {D : va_G} {E : State → Prop} {B : Nat} (hE : Stab E) {ad : Nat → Nat} {h0 : AH} (σ : MSt) (L : LawT) (i : Int32) (o : Int32) (hok : mOK σ L) (hsh : shOK σ) : Ct l D E B yX2_judge cX2_judge 4 (some .int) 7 162 0 0 [.ref (ad 0), .int i, .int o] (MH D ad h0 σ) (RI (rJudge (mV σ L) (σ.1 6) (σ.1 0) (σ.2.1 38) (σ.2.1 39) (toldM σ) i o) (MH D ad h0 σ)) := by
  refine Ct.of (nL := 4) (lv := [some (.ref (ad 0)), some (.int i), some (.int o), none]) (by decide) (Nat.le_of_ble_eq_true rfl) hE 1 rfl ?_
  generalize hT : RI (rJudge (mV σ L) (σ.1 6) (σ.1 0) (σ.2.1 38) (σ.2.1 39) (toldM σ) i o) (MH D ad h0 σ) = T
  intro zp ze zs zm zb zt zc F hr hnm
  generalize ([.ref (ad 0), .int i, .int o] : List Value).toArray = za at F ⊢
  have hok2 := hok
  obtain ⟨ho8, hm15, ht99, hby, hlaw⟩ := hok2
  refine g_iload_n F dX2_judge_0 rfl rfl (np := 1) rfl ?_
  refine g_runS F (rest := []) (ct_X2_isShelf hE i ) (lw_S q1704 q1705 q102 q1706) hcS_X2_isShelf ⟨Nat.le_of_ble_eq_true rfl, Nat.le_of_ble_eq_true rfl⟩ rfl rfl (Nat.le_of_ble_eq_true rfl) dX2_judge_1 ⟨Nat.le_of_ble_eq_true rfl, Nat.le_of_ble_eq_true rfl⟩ (np := 4) rfl (k_RI ?_)
  refine g_if_eqB F dX2_judge_4 (tp := 15) (by decide) (np := 7) rfl (fun c4 => ?_) (fun c4 => ?_)
  · refine g_iconst F (v := (-1)) dX2_judge_15 (by decide) (np := 16) rfl ?_
    have hv : -1 = rJudge (mV σ L) (σ.1 6) (σ.1 0) (σ.2.1 38) (σ.2.1 39) (toldM σ) i o := by first | (unfold rJudge; rw [pif_f (fun z => c4 z.1)]; done) | (unfold rJudge; rw [pif_f (fun z => c12 z.2)]; done)
    exact g_iret F hr rfl (Nat.le_of_ble_eq_true rfl) (Nat.le_of_ble_eq_true rfl) dX2_judge_16 (fun h hs => by rw [← hT]; exact ⟨congrArg (fun z => some (Value.int z)) hv, hs⟩)
  · refine g_aload_n F dX2_judge_7 rfl rfl (np := 8) rfl ?_
    refine g_iload_n F dX2_judge_8 rfl rfl (np := 9) rfl ?_
    refine g_runV F (C := RX2) (ci := 2) (T0 := TX2) (N := 42) (rest := []) (ct_X2_isOwner hE σ o (by first | assumption | omega)) (lw_V q1688 q1690 qs54 q102 q1691) hcV_X2_isOwner ⟨Nat.le_of_ble_eq_true rfl, Nat.le_of_ble_eq_true rfl⟩ rfl (fun h hs => hs.obj) rfl rfl (Nat.le_of_ble_eq_true rfl) dX2_judge_9 ⟨Nat.le_of_ble_eq_true rfl, Nat.le_of_ble_eq_true rfl⟩ (np := 12) rfl (k_RI ?_)
    refine g_if_neB F dX2_judge_12 (tp := 17) (by decide) (np := 15) rfl (fun c12 => ?_) (fun c12 => ?_)
    · obtain ⟨hil, hie⟩ := inN_cl (by decide) c4
      obtain ⟨n0, hn0, en0⟩ := hsh _ hil
      have en1 : (σ.2.1 39 i.toNatClampNeg).toNatClampNeg = n0 := by rw [en0]; exact nI_clamp (by omega)
      refine WG.eqv (lv' := [some (.ref (ad 0)), some (.int (nI (i.toNatClampNeg))), some (.int o), none]) rfl (congrArg (fun z => ([some (.ref (ad 0)), some (.int z), some (.int o), none] : List (Option Value))) (show i = (nI (i.toNatClampNeg)) from by exact hie)) ?_
      refine g_aload_n F dX2_judge_17 rfl rfl (np := 18) rfl ?_
      refine g_iload_n F dX2_judge_18 rfl rfl (np := 19) rfl ?_
      refine g_runV F (C := RX2) (ci := 2) (T0 := TX2) (N := 42) (rest := []) (ct_X2_noBytes hE σ i.toNatClampNeg (by first | assumption | omega)) (lw_V q1917 q1919 qs89 q102 q1920) hcV_X2_noBytes ⟨Nat.le_of_ble_eq_true rfl, Nat.le_of_ble_eq_true rfl⟩ rfl (fun h hs => hs.obj) rfl rfl (Nat.le_of_ble_eq_true rfl) dX2_judge_19 ⟨Nat.le_of_ble_eq_true rfl, Nat.le_of_ble_eq_true rfl⟩ (np := 22) rfl (k_RI ?_)
      refine g_istore_n F (lv' := [some (.ref (ad 0)), some (.int (nI (i.toNatClampNeg))), some (.int o), some (.int (sNB (σ.2.1 38 i.toNatClampNeg)))]) dX2_judge_22 rfl (by decide) rfl rfl (np := 23) rfl ?_
      refine g_iload_n F dX2_judge_23 rfl rfl (np := 24) rfl ?_
      refine g_if_ge F dX2_judge_24 (tp := 31) (by decide) (np := 27) rfl (fun c24 => ?_) (fun c24 => ?_)
      · refine g_aload_n F dX2_judge_31 rfl rfl (np := 32) rfl ?_
        refine g_iload_n F dX2_judge_32 rfl rfl (np := 33) rfl ?_
        refine g_iload_n F dX2_judge_33 rfl rfl (np := 34) rfl ?_
        refine g_runV F (C := RX2) (ci := 2) (T0 := TX2) (N := 42) (rest := []) (ct_X2_unlike hE σ L n0 i.toNatClampNeg o (by first | assumption | omega) (by first | assumption | omega) (by first | assumption | omega) (by first | assumption | omega)) (lw_V q1921 q1923 qs90 q102 q1924) hcV_X2_unlike ⟨Nat.le_of_ble_eq_true rfl, Nat.le_of_ble_eq_true rfl⟩ rfl (fun h hs => hs.obj) rfl rfl (Nat.le_of_ble_eq_true rfl) dX2_judge_34 ⟨Nat.le_of_ble_eq_true rfl, Nat.le_of_ble_eq_true rfl⟩ (np := 37) rfl (k_RI ?_)
        have hv : oI (sUnlike (mV σ L) (σ.1 6) (toldM σ i.toNatClampNeg) n0 o) = rJudge (mV σ L) (σ.1 6) (σ.1 0) (σ.2.1 38) (σ.2.1 39) (toldM σ) i o := by unfold rJudge; rw [pif_t ⟨c4, c12⟩]; first | (rw [if_pos (Int32.not_le.mp c24)]; done) | (rw [if_neg (Int32.not_lt.mpr c24), en1]; done)
        exact g_iret F hr rfl (Nat.le_of_ble_eq_true rfl) (Nat.le_of_ble_eq_true rfl) dX2_judge_37 (fun h hs => by rw [← hT]; exact ⟨congrArg (fun z => some (Value.int z)) hv, hs⟩)
      · refine g_iload_n F dX2_judge_27 rfl rfl (np := 28) rfl ?_
        refine g_goto F dX2_judge_28 (np := 37) (by decide) ?_
        have hv : sNB (σ.2.1 38 i.toNatClampNeg) = rJudge (mV σ L) (σ.1 6) (σ.1 0) (σ.2.1 38) (σ.2.1 39) (toldM σ) i o := by unfold rJudge; rw [pif_t ⟨c4, c12⟩]; first | (rw [if_pos (Int32.not_le.mp c24)]; done) | (rw [if_neg (Int32.not_lt.mpr c24), en1]; done)
        exact g_iret F hr rfl (Nat.le_of_ble_eq_true rfl) (Nat.le_of_ble_eq_true rfl) dX2_judge_37 (fun h hs => by rw [← hT]; exact ⟨congrArg (fun z => some (Value.int z)) hv, hs⟩)
    · refine g_iconst F (v := (-1)) dX2_judge_15 (by decide) (np := 16) rfl ?_
      have hv : -1 = rJudge (mV σ L) (σ.1 6) (σ.1 0) (σ.2.1 38) (σ.2.1 39) (toldM σ) i o := by first | (unfold rJudge; rw [pif_f (fun z => c4 z.1)]; done) | (unfold rJudge; rw [pif_f (fun z => c12 z.2)]; done)
      exact g_iret F hr rfl (Nat.le_of_ble_eq_true rfl) (Nat.le_of_ble_eq_true rfl) dX2_judge_16 (fun h hs => by rw [← hT]; exact ⟨congrArg (fun z => some (Value.int z)) hv, hs⟩)

set_option maxRecDepth 100000 in
theorem ct_X2_fits {l : Launch} {D : va_G} {E : State → Prop} {B : Nat} (hE : Stab E) {ad : Nat → Nat} {h0 : AH} (σ : MSt) (L : LawT) (i : Int32) (o : Int32) (p : Int32) (w : Int32) (hok : mOK σ L) (hsh : shOK σ) : Ct l D E B yX2_fits cX2_fits 11 (some .int) 7 162 0 0 [.ref (ad 0), .int i, .int o, .int p, .int w] (MH D ad h0 σ) (RI (rFits (mV σ L) (σ.1 6) (σ.1 0) (σ.2.1 38) (σ.2.1 39) (toldM σ) i o p w) (MH D ad h0 σ)) := by
  refine Ct.of (nL := 11) (lv := [some (.ref (ad 0)), some (.int i), some (.int o), some (.int p), some (.int w), none, none, none, none, none, none]) (by decide) (Nat.le_of_ble_eq_true rfl) hE 6 rfl ?_
  generalize hT : RI (rFits (mV σ L) (σ.1 6) (σ.1 0) (σ.2.1 38) (σ.2.1 39) (toldM σ) i o p w) (MH D ad h0 σ) = T
  intro zp ze zs zm zb zt zc F hr hnm
  generalize ([.ref (ad 0), .int i, .int o, .int p, .int w] : List Value).toArray = za at F ⊢
  have hok2 := hok
  obtain ⟨ho8, hm15, ht99, hby, hlaw⟩ := hok2
  refine g_iload_n F dX2_fits_0 rfl rfl (np := 1) rfl ?_
  refine g_runS F (rest := []) (ct_X2_isShelf hE i ) (lw_S q1704 q1705 q102 q1706) hcS_X2_isShelf ⟨Nat.le_of_ble_eq_true rfl, Nat.le_of_ble_eq_true rfl⟩ rfl rfl (Nat.le_of_ble_eq_true rfl) dX2_fits_1 ⟨Nat.le_of_ble_eq_true rfl, Nat.le_of_ble_eq_true rfl⟩ (np := 4) rfl (k_RI ?_)
  refine g_if_eqB F dX2_fits_4 (tp := 33) (by decide) (np := 7) rfl (fun c4 => ?_) (fun c4 => ?_)
  · refine g_iconst F (v := (-1)) dX2_fits_33 (by decide) (np := 34) rfl ?_
    have hv : -1 = rFits (mV σ L) (σ.1 6) (σ.1 0) (σ.2.1 38) (σ.2.1 39) (toldM σ) i o p w := by unfold rFits; rw [pif_f (fun z => by obtain ⟨z1, z2, z3, z4⟩ := z; first | exact c4 z1 | exact c12 z2 | exact c20 z3 | exact c30 (bt3.mpr z4))]
    exact g_iret F hr rfl (Nat.le_of_ble_eq_true rfl) (Nat.le_of_ble_eq_true rfl) dX2_fits_34 (fun h hs => by rw [← hT]; exact ⟨congrArg (fun z => some (Value.int z)) hv, hs⟩)
  · refine g_aload_n F dX2_fits_7 rfl rfl (np := 8) rfl ?_
    refine g_iload_n F dX2_fits_8 rfl rfl (np := 9) rfl ?_
    refine g_runV F (C := RX2) (ci := 2) (T0 := TX2) (N := 42) (rest := []) (ct_X2_isOwner hE σ o (by first | assumption | omega)) (lw_V q1688 q1690 qs54 q102 q1691) hcV_X2_isOwner ⟨Nat.le_of_ble_eq_true rfl, Nat.le_of_ble_eq_true rfl⟩ rfl (fun h hs => hs.obj) rfl rfl (Nat.le_of_ble_eq_true rfl) dX2_fits_9 ⟨Nat.le_of_ble_eq_true rfl, Nat.le_of_ble_eq_true rfl⟩ (np := 12) rfl (k_RI ?_)
    refine g_if_eqB F dX2_fits_12 (tp := 33) (by decide) (np := 15) rfl (fun c12 => ?_) (fun c12 => ?_)
    · refine g_iconst F (v := (-1)) dX2_fits_33 (by decide) (np := 34) rfl ?_
      have hv : -1 = rFits (mV σ L) (σ.1 6) (σ.1 0) (σ.2.1 38) (σ.2.1 39) (toldM σ) i o p w := by unfold rFits; rw [pif_f (fun z => by obtain ⟨z1, z2, z3, z4⟩ := z; first | exact c4 z1 | exact c12 z2 | exact c20 z3 | exact c30 (bt3.mpr z4))]
      exact g_iret F hr rfl (Nat.le_of_ble_eq_true rfl) (Nat.le_of_ble_eq_true rfl) dX2_fits_34 (fun h hs => by rw [← hT]; exact ⟨congrArg (fun z => some (Value.int z)) hv, hs⟩)
    · refine g_aload_n F dX2_fits_15 rfl rfl (np := 16) rfl ?_
      refine g_iload_n F dX2_fits_16 rfl rfl (np := 17) rfl ?_
      refine g_runV F (C := RX2) (ci := 2) (T0 := TX2) (N := 42) (rest := []) (ct_X2_isOne hE σ p (by first | assumption | omega)) (lw_V q1720 q1722 qs59 q102 q1723) hcV_X2_isOne ⟨Nat.le_of_ble_eq_true rfl, Nat.le_of_ble_eq_true rfl⟩ rfl (fun h hs => hs.obj) rfl rfl (Nat.le_of_ble_eq_true rfl) dX2_fits_17 ⟨Nat.le_of_ble_eq_true rfl, Nat.le_of_ble_eq_true rfl⟩ (np := 20) rfl (k_RI ?_)
      refine g_if_eqB F dX2_fits_20 (tp := 33) (by decide) (np := 23) rfl (fun c20 => ?_) (fun c20 => ?_)
      · refine g_iconst F (v := (-1)) dX2_fits_33 (by decide) (np := 34) rfl ?_
        have hv : -1 = rFits (mV σ L) (σ.1 6) (σ.1 0) (σ.2.1 38) (σ.2.1 39) (toldM σ) i o p w := by unfold rFits; rw [pif_f (fun z => by obtain ⟨z1, z2, z3, z4⟩ := z; first | exact c4 z1 | exact c12 z2 | exact c20 z3 | exact c30 (bt3.mpr z4))]
        exact g_iret F hr rfl (Nat.le_of_ble_eq_true rfl) (Nat.le_of_ble_eq_true rfl) dX2_fits_34 (fun h hs => by rw [← hT]; exact ⟨congrArg (fun z => some (Value.int z)) hv, hs⟩)
      · refine g_iload F dX2_fits_23 rfl (np := 25) rfl ?_
        refine g_iconst F (v := (nI 0)) dX2_fits_25 (by decide) (np := 26) rfl ?_
        refine g_iconst F (v := (nI 3)) dX2_fits_26 (by decide) (np := 27) rfl ?_
        refine g_runS F (rest := []) (ct_X2_within hE w (nI (0)) (nI (3)) ) (lw_S q1677 q1678 q102 q1679) hcS_X2_within ⟨Nat.le_of_ble_eq_true rfl, Nat.le_of_ble_eq_true rfl⟩ rfl rfl (Nat.le_of_ble_eq_true rfl) dX2_fits_27 ⟨Nat.le_of_ble_eq_true rfl, Nat.le_of_ble_eq_true rfl⟩ (np := 30) rfl (k_RI ?_)
        refine g_if_neB F dX2_fits_30 (tp := 35) (by decide) (np := 33) rfl (fun c30 => ?_) (fun c30 => ?_)
        · obtain ⟨hil, hie⟩ := inN_cl (by decide) c4
          obtain ⟨n0, hn0, en0⟩ := hsh _ hil
          have en1 : (σ.2.1 39 i.toNatClampNeg).toNatClampNeg = n0 := by rw [en0]; exact nI_clamp (by omega)
          obtain ⟨hpl, hpe⟩ := inN_cl (by omega) c20
          have hw4 := bt3.mp c30
          obtain ⟨hwl, hwe⟩ := inN_cl (by decide) hw4
          refine WG.eqv (lv' := [some (.ref (ad 0)), some (.int (nI (i.toNatClampNeg))), some (.int o), some (.int p), some (.int w), none, none, none, none, none, none]) rfl (congrArg (fun z => ([some (.ref (ad 0)), some (.int z), some (.int o), some (.int p), some (.int w), none, none, none, none, none, none] : List (Option Value))) (show i = (nI (i.toNatClampNeg)) from by exact hie)) ?_
          refine WG.eqv (lv' := [some (.ref (ad 0)), some (.int (nI (i.toNatClampNeg))), some (.int o), some (.int (nI (p.toNatClampNeg))), some (.int w), none, none, none, none, none, none]) rfl (congrArg (fun z => ([some (.ref (ad 0)), some (.int (nI (i.toNatClampNeg))), some (.int o), some (.int z), some (.int w), none, none, none, none, none, none] : List (Option Value))) (show p = (nI (p.toNatClampNeg)) from by exact hpe)) ?_
          refine WG.eqv (lv' := [some (.ref (ad 0)), some (.int (nI (i.toNatClampNeg))), some (.int o), some (.int (nI (p.toNatClampNeg))), some (.int (nI (w.toNatClampNeg))), none, none, none, none, none, none]) rfl (congrArg (fun z => ([some (.ref (ad 0)), some (.int (nI (i.toNatClampNeg))), some (.int o), some (.int (nI (p.toNatClampNeg))), some (.int z), none, none, none, none, none, none] : List (Option Value))) (show w = (nI (w.toNatClampNeg)) from by exact hwe)) ?_
          refine g_aload_n F dX2_fits_35 rfl rfl (np := 36) rfl ?_
          refine g_iload_n F dX2_fits_36 rfl rfl (np := 37) rfl ?_
          refine g_runV F (C := RX2) (ci := 2) (T0 := TX2) (N := 42) (rest := []) (ct_X2_noBytes hE σ i.toNatClampNeg (by first | assumption | omega)) (lw_V q1917 q1919 qs89 q102 q1920) hcV_X2_noBytes ⟨Nat.le_of_ble_eq_true rfl, Nat.le_of_ble_eq_true rfl⟩ rfl (fun h hs => hs.obj) rfl rfl (Nat.le_of_ble_eq_true rfl) dX2_fits_37 ⟨Nat.le_of_ble_eq_true rfl, Nat.le_of_ble_eq_true rfl⟩ (np := 40) rfl (k_RI ?_)
          refine g_istore F (lv' := [some (.ref (ad 0)), some (.int (nI (i.toNatClampNeg))), some (.int o), some (.int (nI (p.toNatClampNeg))), some (.int (nI (w.toNatClampNeg))), some (.int (sNB (σ.2.1 38 i.toNatClampNeg))), none, none, none, none, none]) dX2_fits_40 (by decide) rfl rfl (np := 42) rfl ?_
          refine g_iload F dX2_fits_42 rfl (np := 44) rfl ?_
          refine g_if_ge F dX2_fits_44 (tp := 50) (by decide) (np := 47) rfl (fun c44 => ?_) (fun c44 => ?_)
          · have J61 : ∀ (pt : Nat), ((w.toNatClampNeg < 2 ∧ pt = 1) ∨ (¬ w.toNatClampNeg < 2 ∧ pt = 3)) → WG zp l ze ({ frames := 7, cells := 0, slots := 0, locals := 162 } : Room) zs zm za zb zt zc D B 11 (MQ zb (QT D B T) za zs 0 0 (zA B)) (MH D ad h0 σ) 0 0 61 [some (.ref (ad 0)), some (.int (nI (i.toNatClampNeg))), some (.int o), some (.int (nI (p.toNatClampNeg))), some (.int (nI (w.toNatClampNeg))), some (.int (sNB (σ.2.1 38 i.toNatClampNeg))), none, none, none, none, none] [.int (nI pt)] := by
              intro pt hpt
              refine g_istore F (lv' := [some (.ref (ad 0)), some (.int (nI (i.toNatClampNeg))), some (.int o), some (.int (nI (p.toNatClampNeg))), some (.int (nI (w.toNatClampNeg))), some (.int (sNB (σ.2.1 38 i.toNatClampNeg))), some (.int (nI pt)), none, none, none, none]) dX2_fits_61 (by decide) rfl rfl (np := 63) rfl ?_
              refine g_aload_n F dX2_fits_63 rfl rfl (np := 64) rfl ?_
              refine g_iload_n F dX2_fits_64 rfl rfl (np := 65) rfl ?_
              refine g_iload F dX2_fits_65 rfl (np := 67) rfl ?_
              refine g_runV F (C := RX2) (ci := 2) (T0 := TX2) (N := 42) (rest := []) (ct_X2_get hE σ p.toNatClampNeg pt (by omega) (by omega) (by omega)) (lw_V q1728 q1730 qs60 q102 q1731) hcV_X2_get ⟨Nat.le_of_ble_eq_true rfl, Nat.le_of_ble_eq_true rfl⟩ rfl (fun h hs => hs.obj) rfl rfl (Nat.le_of_ble_eq_true rfl) dX2_fits_67 ⟨Nat.le_of_ble_eq_true rfl, Nat.le_of_ble_eq_true rfl⟩ (np := 70) rfl (k_RI ?_)
              refine g_istore F (lv' := [some (.ref (ad 0)), some (.int (nI (i.toNatClampNeg))), some (.int o), some (.int (nI (p.toNatClampNeg))), some (.int (nI (w.toNatClampNeg))), some (.int (sNB (σ.2.1 38 i.toNatClampNeg))), some (.int (nI pt)), some (.int (sGet σ p.toNatClampNeg pt)), none, none, none]) dX2_fits_70 (by decide) rfl rfl (np := 72) rfl ?_
              refine g_iconst F (v := (nI 0)) dX2_fits_72 (by decide) (np := 73) rfl ?_
              refine g_istore F (lv' := [some (.ref (ad 0)), some (.int (nI (i.toNatClampNeg))), some (.int o), some (.int (nI (p.toNatClampNeg))), some (.int (nI (w.toNatClampNeg))), some (.int (sNB (σ.2.1 38 i.toNatClampNeg))), some (.int (nI pt)), some (.int (sGet σ p.toNatClampNeg pt)), some (.int (nI 0)), none, none]) dX2_fits_73 (by decide) rfl rfl (np := 75) rfl ?_
              refine g_bipush F (v := (-2)) dX2_fits_75 (by decide) (np := 77) rfl ?_
              refine g_istore F (lv' := [some (.ref (ad 0)), some (.int (nI (i.toNatClampNeg))), some (.int o), some (.int (nI (p.toNatClampNeg))), some (.int (nI (w.toNatClampNeg))), some (.int (sNB (σ.2.1 38 i.toNatClampNeg))), some (.int (nI pt)), some (.int (sGet σ p.toNatClampNeg pt)), some (.int (nI 0)), some (.int (-2)), none]) dX2_fits_77 (by decide) rfl rfl (np := 79) rfl ?_
              refine g_bipush F (v := (nI 99)) dX2_fits_79 (by decide) (np := 81) rfl ?_
              refine g_istore F (lv' := [some (.ref (ad 0)), some (.int (nI (i.toNatClampNeg))), some (.int o), some (.int (nI (p.toNatClampNeg))), some (.int (nI (w.toNatClampNeg))), some (.int (sNB (σ.2.1 38 i.toNatClampNeg))), some (.int (nI pt)), some (.int (sGet σ p.toNatClampNeg pt)), some (.int (nI 0)), some (.int (-2)), some (.int (nI 99))]) dX2_fits_81 (by decide) rfl rfl (np := 83) rfl ?_
              have L83 : ∀ (zn : Nat) (sm : Nat) (f : Int32) (q : Int32) (xx : Int32) (k : Nat), (f = oI (sLeast (sFitOK (mV σ L) (σ.1 6) (toldM σ i.toNatClampNeg) n0 o p.toNatClampNeg (if w.toNatClampNeg < 2 then 2 else 4)) k (100 - k))) → (k ≤ 100 ∧ (if w.toNatClampNeg < 2 then 0 else 1) ≤ k) → (q = nI k - 1) → (sm = sNum (sFitOK (mV σ L) (σ.1 6) (toldM σ i.toNatClampNeg) n0 o p.toNatClampNeg (if w.toNatClampNeg < 2 then 2 else 4)) k (100 - k)) → k < zn → WG zp l ze ({ frames := 7, cells := 0, slots := 0, locals := 162 } : Room) zs zm za zb zt zc D B 11 (MQ zb (QT D B T) za zs 0 0 (zA B)) (MH D ad h0 (sSet σ p.toNatClampNeg pt xx)) 0 0 83 [some (.ref (ad 0)), some (.int (nI (i.toNatClampNeg))), some (.int o), some (.int (nI (p.toNatClampNeg))), some (.int (nI (w.toNatClampNeg))), some (.int (sNB (σ.2.1 38 i.toNatClampNeg))), some (.int (nI pt)), some (.int (sGet σ p.toNatClampNeg pt)), some (.int (nI sm)), some (.int f), some (.int q)] [] := by
                intro zn
                induction zn with
                | zero => intro sm f q xx k h1 h2 h3 h4 hm; exact absurd hm (Nat.not_lt_zero _)
                | succ zn ih83 =>
                  intro sm f q xx k h1 h2 h3 h4 hm
                  have J96 : ∀ (ba : Nat) (q0 : Int32), (ba = (if w.toNatClampNeg < 2 then 0 else 1)) → (q0 = q) → WG zp l ze ({ frames := 7, cells := 0, slots := 0, locals := 162 } : Room) zs zm za zb zt zc D B 11 (MQ zb (QT D B T) za zs 0 0 (zA B)) (MH D ad h0 (sSet σ p.toNatClampNeg pt xx)) 0 0 96 [some (.ref (ad 0)), some (.int (nI (i.toNatClampNeg))), some (.int o), some (.int (nI (p.toNatClampNeg))), some (.int (nI (w.toNatClampNeg))), some (.int (sNB (σ.2.1 38 i.toNatClampNeg))), some (.int (nI pt)), some (.int (sGet σ p.toNatClampNeg pt)), some (.int (nI sm)), some (.int f), some (.int q)] [.int (nI ba), .int q0] := by
                    intro ba q0 hba hq0
                    refine g_icmp_lt F dX2_fits_96 (tp := 135) (by decide) (np := 99) rfl (fun c96 => ?_) (fun c96 => ?_)
                    · have hka : k = (if w.toNatClampNeg < 2 then 0 else 1) := by
                        have := (zi_dlt (k := k) (a := ba) (by omega) (by rw [hba]; split <;> omega)).mp (by rw [← h3, ← hq0]; exact c96)
                        omega
                      refine g_aload_n F dX2_fits_135 rfl rfl (np := 136) rfl ?_
                      refine g_iload_n F dX2_fits_136 rfl rfl (np := 137) rfl ?_
                      refine g_iload F dX2_fits_137 rfl (np := 139) rfl ?_
                      refine g_iload F dX2_fits_139 rfl (np := 141) rfl ?_
                      refine g_runV F (C := RX2) (ci := 2) (T0 := TX2) (N := 42) (rest := []) (ct_X2_becomes hE (sSet σ p.toNatClampNeg pt xx) p.toNatClampNeg pt (sGet σ p.toNatClampNeg pt) (by omega) (by omega) (by omega) (by omega)) (lw_V q1732 q1734 qs61 q102 q1735) hcV_X2_becomes ⟨Nat.le_of_ble_eq_true rfl, Nat.le_of_ble_eq_true rfl⟩ rfl (fun h hs => hs.obj) rfl rfl (Nat.le_of_ble_eq_true rfl) dX2_fits_141 ⟨Nat.le_of_ble_eq_true rfl, Nat.le_of_ble_eq_true rfl⟩ (np := 144) rfl (k_RV ?_)
                      refine WG.weak (S' := MH D ad h0 σ) (fun h hs => by rw [show σ = (sSet (sSet σ p.toNatClampNeg pt xx) p.toNatClampNeg pt (sGet σ p.toNatClampNeg pt)) from by rw [sSet_sSet _ _ (by omega) (by omega)]; exact (sSet_same _ _ (by omega) (by omega)).symm]; exact hs) ?_
                      refine g_iload F dX2_fits_144 rfl (np := 146) rfl ?_
                      refine g_iconst F (v := (nI 2)) dX2_fits_146 (by decide) (np := 147) rfl ?_
                      refine g_iremN F (by omega) (by decide) (by decide) dX2_fits_147 (np := 148) rfl ?_
                      refine g_if_neN F (by omega) dX2_fits_148 (tp := 156) (by decide) (np := 151) rfl (fun c148 => ?_) (fun c148 => ?_)
                      · refine g_iload F dX2_fits_156 rfl (np := 158) rfl ?_
                        have hv : f = rFits (mV σ L) (σ.1 6) (σ.1 0) (σ.2.1 38) (σ.2.1 39) (toldM σ) i o p w := by unfold rFits; rw [pif_t ⟨c4, c12, c20, hw4⟩, if_neg (Int32.not_lt.mpr c44), en1]; first | (rw [if_pos c148, h4, hka]; done) | (rw [if_neg c148, h1, hka]; done)
                        exact g_iret F hr rfl (Nat.le_of_ble_eq_true rfl) (Nat.le_of_ble_eq_true rfl) dX2_fits_158 (fun h hs => by rw [← hT]; exact ⟨congrArg (fun z => some (Value.int z)) hv, hs⟩)
                      · refine g_iload F dX2_fits_151 rfl (np := 153) rfl ?_
                        refine g_goto F dX2_fits_153 (np := 158) (by decide) ?_
                        have hv : nI (sm) = rFits (mV σ L) (σ.1 6) (σ.1 0) (σ.2.1 38) (σ.2.1 39) (toldM σ) i o p w := by unfold rFits; rw [pif_t ⟨c4, c12, c20, hw4⟩, if_neg (Int32.not_lt.mpr c44), en1]; first | (rw [if_pos c148, h4, hka]; done) | (rw [if_neg c148, h1, hka]; done)
                        exact g_iret F hr rfl (Nat.le_of_ble_eq_true rfl) (Nat.le_of_ble_eq_true rfl) dX2_fits_158 (fun h hs => by rw [← hT]; exact ⟨congrArg (fun z => some (Value.int z)) hv, hs⟩)
                    · have hb1 : ba ≤ 1 := by rw [hba]; split <;> omega
                      have hbk : ¬ k ≤ ba := fun z => c96 (by rw [hq0, h3]; exact (zi_dlt (by omega) (by omega)).mpr z)
                      obtain ⟨k0, rfl⟩ : ∃ k0, k = k0 + 1 := ⟨k - 1, by omega⟩
                      have e0 : q = nI k0 := by rw [h3]; exact (nI_pred k0)
                      refine WG.eqv (lv' := [some (.ref (ad 0)), some (.int (nI (i.toNatClampNeg))), some (.int o), some (.int (nI (p.toNatClampNeg))), some (.int (nI (w.toNatClampNeg))), some (.int (sNB (σ.2.1 38 i.toNatClampNeg))), some (.int (nI pt)), some (.int (sGet σ p.toNatClampNeg pt)), some (.int (nI sm)), some (.int f), some (.int (nI k0))]) rfl (congrArg (fun z => ([some (.ref (ad 0)), some (.int (nI (i.toNatClampNeg))), some (.int o), some (.int (nI (p.toNatClampNeg))), some (.int (nI (w.toNatClampNeg))), some (.int (sNB (σ.2.1 38 i.toNatClampNeg))), some (.int (nI pt)), some (.int (sGet σ p.toNatClampNeg pt)), some (.int (nI sm)), some (.int f), some (.int z)] : List (Option Value))) (show q = (nI k0) from by exact e0)) ?_
                      have e6 : (sSet σ p.toNatClampNeg pt (nI k0)).1 6 = σ.1 6 := by rw [sSet_12 _ _ (by omega) (by omega)]; rfl
                      have et : toldM (sSet σ p.toNatClampNeg pt (nI k0)) i.toNatClampNeg = toldM σ i.toNatClampNeg := by rw [sSet_12 _ _ (by omega) (by omega)]; rfl
                      have hK : oI (sUnlike (mV (sSet σ p.toNatClampNeg pt (nI k0)) L) ((sSet σ p.toNatClampNeg pt (nI k0)).1 6) (toldM (sSet σ p.toNatClampNeg pt (nI k0)) i.toNatClampNeg) n0 o) = -2 ↔ (sFitOK (mV σ L) (σ.1 6) (toldM σ i.toNatClampNeg) n0 o p.toNatClampNeg (if w.toNatClampNeg < 2 then 2 else 4)) k0 := by
                        rw [e6, et, oI_iff (sUnlike_lt _ _ _ _ _) (by omega), fit_unlike (by omega) (by omega) (by omega) (by omega)]
                        unfold sFitOK
                        rcases hpt with ⟨a, b⟩ | ⟨a, b⟩
                        · rw [if_pos a, b]; rfl
                        · rw [if_neg a, b]; rfl
                      refine g_aload_n F dX2_fits_99 rfl rfl (np := 100) rfl ?_
                      refine g_iload_n F dX2_fits_100 rfl rfl (np := 101) rfl ?_
                      refine g_iload F dX2_fits_101 rfl (np := 103) rfl ?_
                      refine g_iload F dX2_fits_103 rfl (np := 105) rfl ?_
                      refine g_runV F (C := RX2) (ci := 2) (T0 := TX2) (N := 42) (rest := []) (ct_X2_becomes hE (sSet σ p.toNatClampNeg pt xx) p.toNatClampNeg pt (nI (k0)) (by omega) (by omega) (by omega) (by omega)) (lw_V q1732 q1734 qs61 q102 q1735) hcV_X2_becomes ⟨Nat.le_of_ble_eq_true rfl, Nat.le_of_ble_eq_true rfl⟩ rfl (fun h hs => hs.obj) rfl rfl (Nat.le_of_ble_eq_true rfl) dX2_fits_105 ⟨Nat.le_of_ble_eq_true rfl, Nat.le_of_ble_eq_true rfl⟩ (np := 108) rfl (k_RV ?_)
                      refine WG.weak (S' := MH D ad h0 (sSet σ p.toNatClampNeg pt (nI k0))) (fun h hs => by rw [show (sSet σ p.toNatClampNeg pt (nI k0)) = (sSet (sSet σ p.toNatClampNeg pt xx) p.toNatClampNeg pt (nI (k0))) from by exact (sSet_sSet _ _ (by omega) (by omega) _ _).symm]; exact hs) ?_
                      refine g_aload_n F dX2_fits_108 rfl rfl (np := 109) rfl ?_
                      refine g_iload_n F dX2_fits_109 rfl rfl (np := 110) rfl ?_
                      refine g_iload_n F dX2_fits_110 rfl rfl (np := 111) rfl ?_
                      refine g_runV F (C := RX2) (ci := 2) (T0 := TX2) (N := 42) (rest := []) (ct_X2_unlike hE (sSet σ p.toNatClampNeg pt (nI k0)) L n0 i.toNatClampNeg o (by exact hok.sSet _ (by omega) (by omega) _) (by omega) (by omega) (by rw [sSet_12 _ _ (by omega) (by omega)]; exact en0)) (lw_V q1921 q1923 qs90 q102 q1924) hcV_X2_unlike ⟨Nat.le_of_ble_eq_true rfl, Nat.le_of_ble_eq_true rfl⟩ rfl (fun h hs => hs.obj) rfl rfl (Nat.le_of_ble_eq_true rfl) dX2_fits_111 ⟨Nat.le_of_ble_eq_true rfl, Nat.le_of_ble_eq_true rfl⟩ (np := 114) rfl (k_RI ?_)
                      refine g_bipush F (v := (-2)) dX2_fits_114 (by decide) (np := 116) rfl ?_
                      refine g_icmp_eq F dX2_fits_116 (tp := 122) (by decide) (np := 119) rfl (fun c116 => ?_) (fun c116 => ?_)
                      · refine g_iinc F (v := (nI (sm + 1))) (lv' := [some (.ref (ad 0)), some (.int (nI (i.toNatClampNeg))), some (.int o), some (.int (nI (p.toNatClampNeg))), some (.int (nI (w.toNatClampNeg))), some (.int (sNB (σ.2.1 38 i.toNatClampNeg))), some (.int (nI pt)), some (.int (sGet σ p.toNatClampNeg pt)), some (.int (nI (sm + 1))), some (.int f), some (.int (nI k0))]) dX2_fits_122 rfl (nI_add _ _) (by decide) rfl rfl (np := 125) rfl ?_
                        refine g_iload F dX2_fits_125 rfl (np := 127) rfl ?_
                        refine g_istore F (lv' := [some (.ref (ad 0)), some (.int (nI (i.toNatClampNeg))), some (.int o), some (.int (nI (p.toNatClampNeg))), some (.int (nI (w.toNatClampNeg))), some (.int (sNB (σ.2.1 38 i.toNatClampNeg))), some (.int (nI pt)), some (.int (sGet σ p.toNatClampNeg pt)), some (.int (nI (sm + 1))), some (.int (nI k0)), some (.int (nI k0))]) dX2_fits_127 (by decide) rfl rfl (np := 129) rfl ?_
                        refine g_iinc F (v := (nI (k0) - 1)) (lv' := [some (.ref (ad 0)), some (.int (nI (i.toNatClampNeg))), some (.int o), some (.int (nI (p.toNatClampNeg))), some (.int (nI (w.toNatClampNeg))), some (.int (sNB (σ.2.1 38 i.toNatClampNeg))), some (.int (nI pt)), some (.int (sGet σ p.toNatClampNeg pt)), some (.int (nI (sm + 1))), some (.int (nI k0)), some (.int (nI (k0) - 1))]) dX2_fits_129 rfl (zi_sub1 _) (by decide) rfl rfl (np := 132) rfl ?_
                        refine g_goto F dX2_fits_132 (np := 83) (by decide) ?_
                        exact ih83 (sm + 1) (nI (k0)) (nI (k0) - 1) ((nI k0)) k0 (by rw [show 100 - k0 = (100 - (k0 + 1)) + 1 by omega]; first | (rw [sLeast_t (hK.mp c116)]; rfl) | (rw [sLeast_f (fun z => c116 (hK.mpr z))]; exact h1)) (by exact ⟨by omega, by rw [← hba]; omega⟩) (by rfl) (by rw [show 100 - k0 = (100 - (k0 + 1)) + 1 by omega, sNum_s]; first | (rw [pif_t (hK.mp c116), h4]; done) | (rw [pif_f (fun z => c116 (hK.mpr z)), h4]; rfl)) (by omega)
                      · refine g_goto F dX2_fits_119 (np := 129) (by decide) ?_
                        refine g_iinc F (v := (nI (k0) - 1)) (lv' := [some (.ref (ad 0)), some (.int (nI (i.toNatClampNeg))), some (.int o), some (.int (nI (p.toNatClampNeg))), some (.int (nI (w.toNatClampNeg))), some (.int (sNB (σ.2.1 38 i.toNatClampNeg))), some (.int (nI pt)), some (.int (sGet σ p.toNatClampNeg pt)), some (.int (nI sm)), some (.int f), some (.int (nI (k0) - 1))]) dX2_fits_129 rfl (zi_sub1 _) (by decide) rfl rfl (np := 132) rfl ?_
                        refine g_goto F dX2_fits_132 (np := 83) (by decide) ?_
                        exact ih83 sm f (nI (k0) - 1) ((nI k0)) k0 (by rw [show 100 - k0 = (100 - (k0 + 1)) + 1 by omega]; first | (rw [sLeast_t (hK.mp c116)]; rfl) | (rw [sLeast_f (fun z => c116 (hK.mpr z))]; exact h1)) (by exact ⟨by omega, by rw [← hba]; omega⟩) (by rfl) (by rw [show 100 - k0 = (100 - (k0 + 1)) + 1 by omega, sNum_s]; first | (rw [pif_t (hK.mp c116), h4]; done) | (rw [pif_f (fun z => c116 (hK.mpr z)), h4]; rfl)) (by omega)
                  refine g_iload F dX2_fits_83 rfl (np := 85) rfl ?_
                  refine g_iload F dX2_fits_85 rfl (np := 87) rfl ?_
                  refine g_iconst F (v := (nI 2)) dX2_fits_87 (by decide) (np := 88) rfl ?_
                  refine g_icmp_geN F (by omega) (by decide) dX2_fits_88 (tp := 95) (by decide) (np := 91) rfl (fun c88 => ?_) (fun c88 => ?_)
                  · refine g_iconst F (v := (nI 1)) dX2_fits_95 (by decide) (np := 96) rfl ?_
                    exact J96 1 q (by first | (rw [if_pos (by omega)]; done) | (rw [if_neg (by omega)]; done)) (by rfl)
                  · refine g_iconst F (v := (nI 0)) dX2_fits_91 (by decide) (np := 92) rfl ?_
                    refine g_goto F dX2_fits_92 (np := 96) (by decide) ?_
                    exact J96 0 q (by first | (rw [if_pos (by omega)]; done) | (rw [if_neg (by omega)]; done)) (by rfl)
              refine WG.weak (S' := MH D ad h0 (sSet σ p.toNatClampNeg pt (sGet σ p.toNatClampNeg pt))) (fun h hs => by rw [sSet_same _ _ (by omega) (by omega)]; exact hs) ?_
              exact L83 _ 0 (-2) (nI (99)) ((sGet σ p.toNatClampNeg pt)) 100 (by rfl) (by exact ⟨by omega, by split <;> omega⟩) (by decide) (by rfl) (Nat.lt_succ_self _)
            refine g_iload F dX2_fits_50 rfl (np := 52) rfl ?_
            refine g_iconst F (v := (nI 2)) dX2_fits_52 (by decide) (np := 53) rfl ?_
            refine g_icmp_geN F (by omega) (by decide) dX2_fits_53 (tp := 60) (by decide) (np := 56) rfl (fun c53 => ?_) (fun c53 => ?_)
            · refine g_iconst F (v := (nI 3)) dX2_fits_60 (by decide) (np := 61) rfl ?_
              exact J61 3 (by first | (left; exact ⟨by omega, rfl⟩) | (right; exact ⟨by omega, rfl⟩))
            · refine g_iconst F (v := (nI 1)) dX2_fits_56 (by decide) (np := 57) rfl ?_
              refine g_goto F dX2_fits_57 (np := 61) (by decide) ?_
              exact J61 1 (by first | (left; exact ⟨by omega, rfl⟩) | (right; exact ⟨by omega, rfl⟩))
          · refine g_iload F dX2_fits_47 rfl (np := 49) rfl ?_
            have hv : sNB (σ.2.1 38 i.toNatClampNeg) = rFits (mV σ L) (σ.1 6) (σ.1 0) (σ.2.1 38) (σ.2.1 39) (toldM σ) i o p w := by unfold rFits; rw [pif_t ⟨c4, c12, c20, hw4⟩, if_pos (Int32.not_le.mp c44)]
            exact g_iret F hr rfl (Nat.le_of_ble_eq_true rfl) (Nat.le_of_ble_eq_true rfl) dX2_fits_49 (fun h hs => by rw [← hT]; exact ⟨congrArg (fun z => some (Value.int z)) hv, hs⟩)
        · refine g_iconst F (v := (-1)) dX2_fits_33 (by decide) (np := 34) rfl ?_
          have hv : -1 = rFits (mV σ L) (σ.1 6) (σ.1 0) (σ.2.1 38) (σ.2.1 39) (toldM σ) i o p w := by unfold rFits; rw [pif_f (fun z => by obtain ⟨z1, z2, z3, z4⟩ := z; first | exact c4 z1 | exact c12 z2 | exact c20 z3 | exact c30 (bt3.mpr z4))]
          exact g_iret F hr rfl (Nat.le_of_ble_eq_true rfl) (Nat.le_of_ble_eq_true rfl) dX2_fits_34 (fun h hs => by rw [← hT]; exact ⟨congrArg (fun z => some (Value.int z)) hv, hs⟩)
