/-! WALKS (printed by walk.py): share, noBytes, toldAt, unlike, get, becomes, does, release, days, led -/
set_option maxRecDepth 100000
set_option maxRecDepth 100000 in
theorem ct_X2_share {l : Launch} {D : va_G} {E : State → Prop} {B : Nat} (hE : Stab E) {ad : Nat → Nat} {h0 : AH} (σ : MSt) (L : LawT) (o : Int32) (x : Int32) (hok : mOK σ L) : Ct l D E B yX2_share cX2_share 6 (some .int) 7 161 0 0 [.ref (ad 0), .int o, .int x] (MH D ad h0 σ) (RI (rShare (mV σ L) (σ.1 6) (σ.1 0) o x) (MH D ad h0 σ)) := by
  refine Ct.of (nL := 6) (lv := [some (.ref (ad 0)), some (.int o), some (.int x), none, none, none]) (by decide) (Nat.le_of_ble_eq_true rfl) hE 3 rfl ?_
  generalize hT : RI (rShare (mV σ L) (σ.1 6) (σ.1 0) o x) (MH D ad h0 σ) = T
  intro zp ze zs zm zb zt zc F hr hnm
  generalize ([.ref (ad 0), .int o, .int x] : List Value).toArray = za at F ⊢
  have hok2 := hok
  obtain ⟨ho8, hm15, ht99, hby, hlaw⟩ := hok2
  refine g_aload_n F dX2_share_0 rfl rfl (np := 1) rfl ?_
  refine g_iload_n F dX2_share_1 rfl rfl (np := 2) rfl ?_
  refine g_runV F (C := RX2) (ci := 2) (T0 := TX2) (N := 42) (rest := []) (ct_X2_isOwner hE σ o (by first | assumption | omega)) (lw_V q1688 q1690 qs54 q102 q1691) hcV_X2_isOwner ⟨Nat.le_of_ble_eq_true rfl, Nat.le_of_ble_eq_true rfl⟩ rfl (fun h hs => hs.obj) rfl rfl (Nat.le_of_ble_eq_true rfl) dX2_share_2 ⟨Nat.le_of_ble_eq_true rfl, Nat.le_of_ble_eq_true rfl⟩ (np := 5) rfl (k_RI ?_)
  refine g_if_eqB F dX2_share_5 (tp := 19) (by decide) (np := 8) rfl (fun c5 => ?_) (fun c5 => ?_)
  · refine g_iconst F (v := (-1)) dX2_share_19 (by decide) (np := 20) rfl ?_
    have hv : -1 = rShare (mV σ L) (σ.1 6) (σ.1 0) o x := by first | (unfold rShare; rw [pif_f (fun z => ‹¬ inN _ _› z.1)]; done) | (unfold rShare; rw [pif_f (fun z => ‹¬ btw _ _ _› ((btw_0 (n := 10000) (by decide) (by decide)).mpr z.2))]; done)
    exact g_iret F hr rfl (Nat.le_of_ble_eq_true rfl) (Nat.le_of_ble_eq_true rfl) dX2_share_20 (fun h hs => by rw [← hT]; exact ⟨congrArg (fun z => some (Value.int z)) hv, hs⟩)
  · refine g_iload_n F dX2_share_8 rfl rfl (np := 9) rfl ?_
    refine g_iconst F (v := (nI 0)) dX2_share_9 (by decide) (np := 10) rfl ?_
    refine g_sipush F (v := (nI 9999)) dX2_share_10 (by decide) (np := 13) rfl ?_
    refine g_runS F (rest := []) (ct_X2_within hE x (nI (0)) (nI (9999)) ) (lw_S q1677 q1678 q102 q1679) hcS_X2_within ⟨Nat.le_of_ble_eq_true rfl, Nat.le_of_ble_eq_true rfl⟩ rfl rfl (Nat.le_of_ble_eq_true rfl) dX2_share_13 ⟨Nat.le_of_ble_eq_true rfl, Nat.le_of_ble_eq_true rfl⟩ (np := 16) rfl (k_RI ?_)
    refine g_if_neB F dX2_share_16 (tp := 21) (by decide) (np := 19) rfl (fun c16 => ?_) (fun c16 => ?_)
    · refine g_aload_n F dX2_share_21 rfl rfl (np := 22) rfl ?_
      refine g_runV F (C := RX2) (ci := 2) (T0 := TX2) (N := 42) (rest := []) (ct_X2_allHigh hE σ L (by first | assumption | omega)) (lw_V q1840 q1842 qs79 q102 q1843) hcV_X2_allHigh ⟨Nat.le_of_ble_eq_true rfl, Nat.le_of_ble_eq_true rfl⟩ rfl (fun h hs => hs.obj) rfl rfl (Nat.le_of_ble_eq_true rfl) dX2_share_22 ⟨Nat.le_of_ble_eq_true rfl, Nat.le_of_ble_eq_true rfl⟩ (np := 25) rfl (k_RI ?_)
      refine g_istore_n F (lv' := [some (.ref (ad 0)), some (.int o), some (.int x), some (.int (sAll (mV σ L) (σ.1 6) (σ.1 0))), none, none]) dX2_share_25 rfl (by decide) rfl rfl (np := 26) rfl ?_
      refine g_iload_n F dX2_share_26 rfl rfl (np := 27) rfl ?_
      refine g_if_ne F dX2_share_27 (tp := 32) (by decide) (np := 30) rfl (fun c27 => ?_) (fun c27 => ?_)
      · refine g_iload_n F dX2_share_32 rfl rfl (np := 33) rfl ?_
        refine g_istore F (lv' := [some (.ref (ad 0)), some (.int o), some (.int x), some (.int (sAll (mV σ L) (σ.1 6) (σ.1 0))), some (.int x), none]) dX2_share_33 (by decide) rfl rfl (np := 35) rfl ?_
        refine g_iconst F (v := (nI 0)) dX2_share_35 (by decide) (np := 36) rfl ?_
        refine g_istore F (lv' := [some (.ref (ad 0)), some (.int o), some (.int x), some (.int (sAll (mV σ L) (σ.1 6) (σ.1 0))), some (.int x), some (.int (nI 0))]) dX2_share_36 (by decide) rfl rfl (np := 38) rfl ?_
        have L38 : ∀ (zn : Nat) (a : Int32) (k : Nat), (a = sRest (mV σ L) (σ.1 6) x (sAll (mV σ L) (σ.1 6) (σ.1 0)) k) → (k ≤ σ.1 0) → σ.1 0 - k < zn → WG zp l ze ({ frames := 7, cells := 0, slots := 0, locals := 161 } : Room) zs zm za zb zt zc D B 6 (MQ zb (QT D B T) za zs 0 0 (zA B)) (MH D ad h0 σ) 0 0 38 [some (.ref (ad 0)), some (.int o), some (.int x), some (.int (sAll (mV σ L) (σ.1 6) (σ.1 0))), some (.int a), some (.int (nI k))] [] := by
          intro zn
          induction zn with
          | zero => intro a k h1 h2 hm; exact absurd hm (Nat.not_lt_zero _)
          | succ zn ih38 =>
            intro a k h1 h2 hm
            refine g_iload F dX2_share_38 rfl (np := 40) rfl ?_
            refine g_aload_n F dX2_share_40 rfl rfl (np := 41) rfl ?_
            refine h_get F (k := 0) (v := .int (nI (σ.1 0))) (by decide) rfl q1546 dX2_share_41 (np := 44) rfl ?_
            refine g_icmp_geN F (by omega) (by omega) dX2_share_44 (tp := 68) (by decide) (np := 47) rfl (fun c44 => ?_) (fun c44 => ?_)
            · refine g_iload_n F dX2_share_68 rfl rfl (np := 69) rfl ?_
              refine g_aload_n F dX2_share_69 rfl rfl (np := 70) rfl ?_
              refine g_iload_n F dX2_share_70 rfl rfl (np := 71) rfl ?_
              refine g_runV F (C := RX2) (ci := 2) (T0 := TX2) (N := 42) (rest := [.int x]) (ct_X2_highOf hE σ L o (by first | assumption | omega)) (lw_V q1844 q1846 qs80 q102 q1847) hcV_X2_highOf ⟨Nat.le_of_ble_eq_true rfl, Nat.le_of_ble_eq_true rfl⟩ rfl (fun h hs => hs.obj) rfl rfl (Nat.le_of_ble_eq_true rfl) dX2_share_71 ⟨Nat.le_of_ble_eq_true rfl, Nat.le_of_ble_eq_true rfl⟩ (np := 74) rfl (k_RI ?_)
              refine g_imul F dX2_share_74 (np := 75) rfl ?_
              refine g_iload_n F dX2_share_75 rfl rfl (np := 76) rfl ?_
              refine g_idiv F dX2_share_76 (by exact c27) (np := 77) rfl ?_
              refine g_aload_n F dX2_share_77 rfl rfl (np := 78) rfl ?_
              refine g_iconst F (v := (nI 1)) dX2_share_78 (by decide) (np := 79) rfl ?_
              refine g_runV F (C := RX2) (ci := 2) (T0 := TX2) (N := 42) (rest := [.int ((x * (sHigh (mV σ L) (σ.1 6) o)) / (sAll (mV σ L) (σ.1 6) (σ.1 0)))]) (ct_X2_skyline hE σ L (nI (1)) (by first | assumption | omega)) (lw_V q1933 q1865 q1866 q102 q1867) hcV_X2_skyline ⟨Nat.le_of_ble_eq_true rfl, Nat.le_of_ble_eq_true rfl⟩ rfl (fun h hs => hs.obj) rfl rfl (Nat.le_of_ble_eq_true rfl) dX2_share_79 ⟨Nat.le_of_ble_eq_true rfl, Nat.le_of_ble_eq_true rfl⟩ (np := 82) rfl (k_RI ?_)
              refine g_iload_n F dX2_share_82 rfl rfl (np := 83) rfl ?_
              refine g_icmp_ne F dX2_share_83 (tp := 91) (by decide) (np := 86) rfl (fun c83 => ?_) (fun c83 => ?_)
              · refine g_iconst F (v := (nI 0)) dX2_share_91 (by decide) (np := 92) rfl ?_
                refine g_iadd F dX2_share_92 (np := 93) rfl ?_
                have hv : ((x * (sHigh (mV σ L) (σ.1 6) o)) / (sAll (mV σ L) (σ.1 6) (σ.1 0))) + (nI (0)) = rShare (mV σ L) (σ.1 6) (σ.1 0) o x := by unfold rShare; rw [pif_t ⟨by assumption, (btw_0 (n := 10000) (by decide) (by decide)).mp c16⟩, if_neg c27]; have e9 : rSky (mV σ L) (σ.1 6) (σ.1 0) (nI 1) = oI (sTallN (mV σ L) (σ.1 6) (σ.1 0)) := by { unfold rSky; rw [pif_t ⟨1, by decide, rfl⟩, if_neg (by decide)] }; rw [e9] at c83; first | (rw [if_pos c83, h1, show k = σ.1 0 by omega]; done) | (rw [if_neg c83]; done)
                exact g_iret F hr rfl (Nat.le_of_ble_eq_true rfl) (Nat.le_of_ble_eq_true rfl) dX2_share_93 (fun h hs => by rw [← hT]; exact ⟨congrArg (fun z => some (Value.int z)) hv, hs⟩)
              · refine g_iload F dX2_share_86 rfl (np := 88) rfl ?_
                refine g_goto F dX2_share_88 (np := 92) (by decide) ?_
                refine g_iadd F dX2_share_92 (np := 93) rfl ?_
                have hv : ((x * (sHigh (mV σ L) (σ.1 6) o)) / (sAll (mV σ L) (σ.1 6) (σ.1 0))) + a = rShare (mV σ L) (σ.1 6) (σ.1 0) o x := by unfold rShare; rw [pif_t ⟨by assumption, (btw_0 (n := 10000) (by decide) (by decide)).mp c16⟩, if_neg c27]; have e9 : rSky (mV σ L) (σ.1 6) (σ.1 0) (nI 1) = oI (sTallN (mV σ L) (σ.1 6) (σ.1 0)) := by { unfold rSky; rw [pif_t ⟨1, by decide, rfl⟩, if_neg (by decide)] }; rw [e9] at c83; first | (rw [if_pos c83, h1, show k = σ.1 0 by omega]; done) | (rw [if_neg c83]; done)
                exact g_iret F hr rfl (Nat.le_of_ble_eq_true rfl) (Nat.le_of_ble_eq_true rfl) dX2_share_93 (fun h hs => by rw [← hT]; exact ⟨congrArg (fun z => some (Value.int z)) hv, hs⟩)
            · refine g_iload F dX2_share_47 rfl (np := 49) rfl ?_
              refine g_iload_n F dX2_share_49 rfl rfl (np := 50) rfl ?_
              refine g_aload_n F dX2_share_50 rfl rfl (np := 51) rfl ?_
              refine g_iload F dX2_share_51 rfl (np := 53) rfl ?_
              refine g_runV F (C := RX2) (ci := 2) (T0 := TX2) (N := 42) (rest := [.int x, .int a]) (ct_X2_highOf hE σ L (nI (k)) (by first | assumption | omega)) (lw_V q1844 q1846 qs80 q102 q1847) hcV_X2_highOf ⟨Nat.le_of_ble_eq_true rfl, Nat.le_of_ble_eq_true rfl⟩ rfl (fun h hs => hs.obj) rfl rfl (Nat.le_of_ble_eq_true rfl) dX2_share_53 ⟨Nat.le_of_ble_eq_true rfl, Nat.le_of_ble_eq_true rfl⟩ (np := 56) rfl (k_RI ?_)
              refine g_imul F dX2_share_56 (np := 57) rfl ?_
              refine g_iload_n F dX2_share_57 rfl rfl (np := 58) rfl ?_
              refine g_idiv F dX2_share_58 (by exact c27) (np := 59) rfl ?_
              refine g_isub F dX2_share_59 (np := 60) rfl ?_
              refine g_istore F (lv' := [some (.ref (ad 0)), some (.int o), some (.int x), some (.int (sAll (mV σ L) (σ.1 6) (σ.1 0))), some (.int (a - ((x * (sHigh (mV σ L) (σ.1 6) (nI (k)))) / (sAll (mV σ L) (σ.1 6) (σ.1 0))))), some (.int (nI k))]) dX2_share_60 (by decide) rfl rfl (np := 62) rfl ?_
              refine g_iinc F (v := (nI (k + 1))) (lv' := [some (.ref (ad 0)), some (.int o), some (.int x), some (.int (sAll (mV σ L) (σ.1 6) (σ.1 0))), some (.int (a - ((x * (sHigh (mV σ L) (σ.1 6) (nI (k)))) / (sAll (mV σ L) (σ.1 6) (σ.1 0))))), some (.int (nI (k + 1)))]) dX2_share_62 rfl (nI_add _ _) (by decide) rfl rfl (np := 65) rfl ?_
              refine g_goto F dX2_share_65 (np := 38) (by decide) ?_
              exact ih38 (a - ((x * (sHigh (mV σ L) (σ.1 6) (nI (k)))) / (sAll (mV σ L) (σ.1 6) (σ.1 0)))) (k + 1) (by rw [h1]; rfl) (by first | assumption | omega) (by omega)
        exact L38 _ x 0 (by rfl) (by omega) (Nat.lt_succ_self _)
      · refine g_iconst F (v := (nI 0)) dX2_share_30 (by decide) (np := 31) rfl ?_
        have hv : nI (0) = rShare (mV σ L) (σ.1 6) (σ.1 0) o x := by unfold rShare; rw [pif_t ⟨by assumption, (btw_0 (n := 10000) (by decide) (by decide)).mp c16⟩, if_pos c27]
        exact g_iret F hr rfl (Nat.le_of_ble_eq_true rfl) (Nat.le_of_ble_eq_true rfl) dX2_share_31 (fun h hs => by rw [← hT]; exact ⟨congrArg (fun z => some (Value.int z)) hv, hs⟩)
    · refine g_iconst F (v := (-1)) dX2_share_19 (by decide) (np := 20) rfl ?_
      have hv : -1 = rShare (mV σ L) (σ.1 6) (σ.1 0) o x := by first | (unfold rShare; rw [pif_f (fun z => ‹¬ inN _ _› z.1)]; done) | (unfold rShare; rw [pif_f (fun z => ‹¬ btw _ _ _› ((btw_0 (n := 10000) (by decide) (by decide)).mpr z.2))]; done)
      exact g_iret F hr rfl (Nat.le_of_ble_eq_true rfl) (Nat.le_of_ble_eq_true rfl) dX2_share_20 (fun h hs => by rw [← hT]; exact ⟨congrArg (fun z => some (Value.int z)) hv, hs⟩)

set_option maxRecDepth 100000 in
theorem ct_X2_noBytes {l : Launch} {D : va_G} {E : State → Prop} {B : Nat} (hE : Stab E) {ad : Nat → Nat} {h0 : AH} (σ : MSt)  (i : Nat) (hi : i < 6) : Ct l D E B yX2_noBytes cX2_noBytes 2 (some .int) 0 0 0 0 [.ref (ad 0), .int (nI i)] (MH D ad h0 σ) (RI (sNB (σ.2.1 38 i)) (MH D ad h0 σ)) := by
  refine Ct.of (nL := 2) (lv := [some (.ref (ad 0)), some (.int (nI i))]) (by decide) (Nat.le_of_ble_eq_true rfl) hE 0 rfl ?_
  generalize hT : RI (sNB (σ.2.1 38 i)) (MH D ad h0 σ) = T
  intro zp ze zs zm zb zt zc F hr hnm
  generalize ([.ref (ad 0), .int (nI i)] : List Value).toArray = za at F ⊢
  refine g_aload_n F dX2_noBytes_0 rfl rfl (np := 1) rfl ?_
  refine h_get F (k := 38) (v := .ref (ad 38)) (by decide) rfl q1584 dX2_noBytes_1 (np := 4) rfl ?_
  refine g_iload_n F dX2_noBytes_4 rfl rfl (np := 5) rfl ?_
  refine h_ald F (k := 38) (i := i) (L := 6) (v := σ.2.1 38 i) rfl rfl (by decide) (by omega) rfl rfl dX2_noBytes_5 (by decide) (by decide) (np := 6) rfl ?_
  refine g_iconst F (v := (-1)) dX2_noBytes_6 (by decide) (np := 7) rfl ?_
  refine g_icmp_ne F dX2_noBytes_7 (tp := 15) (by decide) (np := 10) rfl (fun c7 => ?_) (fun c7 => ?_)
  · refine g_aload_n F dX2_noBytes_15 rfl rfl (np := 16) rfl ?_
    refine h_get F (k := 38) (v := .ref (ad 38)) (by decide) rfl q1584 dX2_noBytes_16 (np := 19) rfl ?_
    refine g_iload_n F dX2_noBytes_19 rfl rfl (np := 20) rfl ?_
    refine h_ald F (k := 38) (i := i) (L := 6) (v := σ.2.1 38 i) rfl rfl (by decide) (by omega) rfl rfl dX2_noBytes_20 (by decide) (by decide) (np := 21) rfl ?_
    refine g_if_eq F dX2_noBytes_21 (tp := 29) (by decide) (np := 24) rfl (fun c21 => ?_) (fun c21 => ?_)
    · refine g_iconst F (v := (nI 0)) dX2_noBytes_29 (by decide) (np := 30) rfl ?_
      have hv : nI (0) = sNB (σ.2.1 38 i) := by unfold sNB; simp_all
      exact g_iret F hr rfl (Nat.le_of_ble_eq_true rfl) (Nat.le_of_ble_eq_true rfl) dX2_noBytes_30 (fun h hs => by rw [← hT]; exact ⟨congrArg (fun z => some (Value.int z)) hv, hs⟩)
    · refine g_bipush F (v := (-12)) dX2_noBytes_24 (by decide) (np := 26) rfl ?_
      refine g_goto F dX2_noBytes_26 (np := 30) (by decide) ?_
      have hv : -12 = sNB (σ.2.1 38 i) := by unfold sNB; simp_all
      exact g_iret F hr rfl (Nat.le_of_ble_eq_true rfl) (Nat.le_of_ble_eq_true rfl) dX2_noBytes_30 (fun h hs => by rw [← hT]; exact ⟨congrArg (fun z => some (Value.int z)) hv, hs⟩)
  · refine g_bipush F (v := (-11)) dX2_noBytes_10 (by decide) (np := 12) rfl ?_
    refine g_goto F dX2_noBytes_12 (np := 30) (by decide) ?_
    have hv : -11 = sNB (σ.2.1 38 i) := by unfold sNB; simp_all
    exact g_iret F hr rfl (Nat.le_of_ble_eq_true rfl) (Nat.le_of_ble_eq_true rfl) dX2_noBytes_30 (fun h hs => by rw [← hT]; exact ⟨congrArg (fun z => some (Value.int z)) hv, hs⟩)

set_option maxRecDepth 100000 in
theorem ct_X2_toldAt {l : Launch} {D : va_G} {E : State → Prop} {B : Nat} (hE : Stab E) {ad : Nat → Nat} {h0 : AH} (σ : MSt)  (i : Nat) (j : Nat) (hi : i < 6) (hj : j < 60) : Ct l D E B yX2_toldAt cX2_toldAt 3 (some .int) 0 0 0 0 [.ref (ad 0), .int (nI i), .int (nI j)] (MH D ad h0 σ) (RI (toldM σ i j) (MH D ad h0 σ)) := by
  refine Ct.of (nL := 3) (lv := [some (.ref (ad 0)), some (.int (nI i)), some (.int (nI j))]) (by decide) (Nat.le_of_ble_eq_true rfl) hE 0 rfl ?_
  generalize hT : RI (toldM σ i j) (MH D ad h0 σ) = T
  intro zp ze zs zm zb zt zc F hr hnm
  generalize ([.ref (ad 0), .int (nI i), .int (nI j)] : List Value).toArray = za at F ⊢
  refine g_aload_n F dX2_toldAt_0 rfl rfl (np := 1) rfl ?_
  refine h_get F (k := 40) (v := .ref (ad 40)) (by decide) rfl q1586 dX2_toldAt_1 (np := 4) rfl ?_
  refine g_bipush F (v := (nI 60)) dX2_toldAt_4 (by decide) (np := 6) rfl ?_
  refine g_iload_n F dX2_toldAt_6 rfl rfl (np := 7) rfl ?_
  refine g_imulN F dX2_toldAt_7 (np := 8) rfl ?_
  refine g_iload_n F dX2_toldAt_8 rfl rfl (np := 9) rfl ?_
  refine g_iaddN F dX2_toldAt_9 (np := 10) rfl ?_
  refine h_lald F (i := (60 * i) + j) (v := σ.2.2 ((60 * i) + j)) (by omega) rfl rfl dX2_toldAt_10 (np := 11) rfl ?_
  refine g_l2i F dX2_toldAt_11 (np := 12) rfl ?_
  have hv : (σ.2.2 ((60 * i) + j)).toInt32 = toldM σ i j := by rfl
  exact g_iret F hr rfl (Nat.le_of_ble_eq_true rfl) (Nat.le_of_ble_eq_true rfl) dX2_toldAt_12 (fun h hs => by rw [← hT]; exact ⟨congrArg (fun z => some (Value.int z)) hv, hs⟩)

set_option maxRecDepth 100000 in
theorem ct_X2_unlike {l : Launch} {D : va_G} {E : State → Prop} {B : Nat} (hE : Stab E) {ad : Nat → Nat} {h0 : AH} (σ : MSt) (L : LawT) (n : Nat) (i : Nat) (o : Int32) (hok : mOK σ L) (hi : i < 6) (hn : n ≤ 60) (hln : σ.2.1 39 i = nI n) : Ct l D E B yX2_unlike cX2_unlike 6 (some .int) 6 137 0 0 [.ref (ad 0), .int (nI i), .int o] (MH D ad h0 σ) (RI (oI (sUnlike (mV σ L) (σ.1 6) (toldM σ i) n o)) (MH D ad h0 σ)) := by
  refine Ct.of (nL := 6) (lv := [some (.ref (ad 0)), some (.int (nI i)), some (.int o), none, none, none]) (by decide) (Nat.le_of_ble_eq_true rfl) hE 3 rfl ?_
  generalize hT : RI (oI (sUnlike (mV σ L) (σ.1 6) (toldM σ i) n o)) (MH D ad h0 σ) = T
  intro zp ze zs zm zb zt zc F hr hnm
  generalize ([.ref (ad 0), .int (nI i), .int o] : List Value).toArray = za at F ⊢
  have hok2 := hok
  obtain ⟨ho8, hm15, ht99, hby, hlaw⟩ := hok2
  refine g_aload_n F dX2_unlike_0 rfl rfl (np := 1) rfl ?_
  refine h_get F (k := 6) (v := .int (nI (σ.1 6))) (by decide) rfl q1552 dX2_unlike_1 (np := 4) rfl ?_
  refine g_istore_n F (lv' := [some (.ref (ad 0)), some (.int (nI i)), some (.int o), some (.int (nI (σ.1 6))), none, none]) dX2_unlike_4 rfl (by decide) rfl rfl (np := 5) rfl ?_
  refine g_bipush F (v := (-2)) dX2_unlike_5 (by decide) (np := 7) rfl ?_
  refine g_istore F (lv' := [some (.ref (ad 0)), some (.int (nI i)), some (.int o), some (.int (nI (σ.1 6))), some (.int (-2)), none]) dX2_unlike_7 (by decide) rfl rfl (np := 9) rfl ?_
  refine g_iconst F (v := (nI 0)) dX2_unlike_9 (by decide) (np := 10) rfl ?_
  refine g_istore F (lv' := [some (.ref (ad 0)), some (.int (nI i)), some (.int o), some (.int (nI (σ.1 6))), some (.int (-2)), some (.int (nI 0))]) dX2_unlike_10 (by decide) rfl rfl (np := 12) rfl ?_
  have L12 : ∀ (zn : Nat) (f : Int32) (k : Nat) (t : Nat), ((f = -2 ∧ sLeast (sUnK (mV σ L) (σ.1 6) (toldM σ i) o) k (n - k) = sUnlike (mV σ L) (σ.1 6) (toldM σ i) n o) ∨ (¬ f = -2 ∧ f = oI (sUnlike (mV σ L) (σ.1 6) (toldM σ i) n o))) → (k ≤ n) → n - k < zn → WG zp l ze ({ frames := 6, cells := 0, slots := 0, locals := 137 } : Room) zs zm za zb zt zc D B 6 (MQ zb (QT D B T) za zs 0 0 (zA B)) (MH D ad h0 (sN σ 6 t)) 0 0 12 [some (.ref (ad 0)), some (.int (nI i)), some (.int o), some (.int (nI (σ.1 6))), some (.int f), some (.int (nI k))] [] := by
    intro zn
    induction zn with
    | zero => intro f k t h1 h2 hm; exact absurd hm (Nat.not_lt_zero _)
    | succ zn ih12 =>
      intro f k t h1 h2 hm
      refine g_iload F dX2_unlike_12 rfl (np := 14) rfl ?_
      refine g_aload_n F dX2_unlike_14 rfl rfl (np := 15) rfl ?_
      refine h_get F (k := 39) (v := .ref (ad 39)) (by decide) rfl q1585 dX2_unlike_15 (np := 18) rfl ?_
      refine g_iload_n F dX2_unlike_18 rfl rfl (np := 19) rfl ?_
      refine h_ald F (k := 39) (i := i) (L := 6) (v := σ.2.1 39 i) rfl rfl (by decide) (by omega) rfl rfl dX2_unlike_19 (by decide) (by decide) (np := 20) rfl ?_
      refine WG.eqv (st' := [.int (nI n), .int (nI k)]) (congrArg (fun z => ([.int z, .int (nI k)] : List Value)) (show (σ.2.1 39 i) = (nI n) from by exact hln)) rfl ?_
      refine g_icmp_geN F (by omega) (by omega) dX2_unlike_20 (tp := 68) (by decide) (np := 23) rfl (fun c20 => ?_) (fun c20 => ?_)
      · refine g_aload_n F dX2_unlike_68 rfl rfl (np := 69) rfl ?_
        refine g_iload_n F dX2_unlike_69 rfl rfl (np := 70) rfl ?_
        refine h_put F (k := 6) (n := σ.1 6) (ty := .int) rfl (by decide) (mset_6 _ _ _) rfl rfl rfl rfl q1552 dX2_unlike_70 (np := 73) rfl ?_
        refine WG.weak (S' := MH D ad h0 (sN σ 6 (σ.1 6))) (fun h hs => by rw [sN_sN] at hs; exact hs) ?_
        refine WG.weak (S' := MH D ad h0 σ) (fun h hs => by rw [show σ = sN σ 6 (σ.1 6) from (sN_same σ 6).symm]; exact hs) ?_
        refine g_iload F dX2_unlike_73 rfl (np := 75) rfl ?_
        have hv : f = oI (sUnlike (mV σ L) (σ.1 6) (toldM σ i) n o) := by first | (rcases h1 with ⟨e1, e2⟩ | ⟨e1, e2⟩ <;> first | (rw [← e2, show n - k = 0 by omega]; exact e1) | exact e2) | exact (h1.resolve_left (fun z => c27 z.1)).2
        exact g_iret F hr rfl (Nat.le_of_ble_eq_true rfl) (Nat.le_of_ble_eq_true rfl) dX2_unlike_75 (fun h hs => by rw [← hT]; exact ⟨congrArg (fun z => some (Value.int z)) hv, hs⟩)
      · refine g_iload F dX2_unlike_23 rfl (np := 25) rfl ?_
        refine g_bipush F (v := (-2)) dX2_unlike_25 (by decide) (np := 27) rfl ?_
        refine g_icmp_ne F dX2_unlike_27 (tp := 68) (by decide) (np := 30) rfl (fun c27 => ?_) (fun c27 => ?_)
        · refine g_aload_n F dX2_unlike_68 rfl rfl (np := 69) rfl ?_
          refine g_iload_n F dX2_unlike_69 rfl rfl (np := 70) rfl ?_
          refine h_put F (k := 6) (n := σ.1 6) (ty := .int) rfl (by decide) (mset_6 _ _ _) rfl rfl rfl rfl q1552 dX2_unlike_70 (np := 73) rfl ?_
          refine WG.weak (S' := MH D ad h0 (sN σ 6 (σ.1 6))) (fun h hs => by rw [sN_sN] at hs; exact hs) ?_
          refine WG.weak (S' := MH D ad h0 σ) (fun h hs => by rw [show σ = sN σ 6 (σ.1 6) from (sN_same σ 6).symm]; exact hs) ?_
          refine g_iload F dX2_unlike_73 rfl (np := 75) rfl ?_
          have hv : f = oI (sUnlike (mV σ L) (σ.1 6) (toldM σ i) n o) := by first | (rcases h1 with ⟨e1, e2⟩ | ⟨e1, e2⟩ <;> first | (rw [← e2, show n - k = 0 by omega]; exact e1) | exact e2) | exact (h1.resolve_left (fun z => c27 z.1)).2
          exact g_iret F hr rfl (Nat.le_of_ble_eq_true rfl) (Nat.le_of_ble_eq_true rfl) dX2_unlike_75 (fun h hs => by rw [← hT]; exact ⟨congrArg (fun z => some (Value.int z)) hv, hs⟩)
        · refine g_aload_n F dX2_unlike_30 rfl rfl (np := 31) rfl ?_
          refine g_bipush F (v := (nI 99)) dX2_unlike_31 (by decide) (np := 33) rfl ?_
          refine g_iload_n F dX2_unlike_33 rfl rfl (np := 34) rfl ?_
          refine g_iload F dX2_unlike_34 rfl (np := 36) rfl ?_
          refine g_iaddN F dX2_unlike_36 (np := 37) rfl ?_
          refine g_min F (rest := [.ref (ad 0)]) q1831 (by decide) (by decide) (Nat.le_of_ble_eq_true rfl) (Nat.le_of_ble_eq_true rfl) dX2_unlike_37 (np := 40) rfl ?_
          refine WG.eqv (st' := [.int (nI (day (σ.1 6) k)), .ref (ad 0)]) (congrArg (fun z => ([.int z, .ref (ad 0)] : List Value)) (show (jmin (nI (99)) (nI ((σ.1 6) + k))) = (nI (day (σ.1 6) k)) from by exact jmin_N (by decide) (by omega))) rfl ?_
          refine h_put F (k := 6) (n := day (σ.1 6) k) (ty := .int) rfl (by decide) (mset_6 _ _ _) rfl rfl rfl rfl q1552 dX2_unlike_40 (np := 43) rfl ?_
          refine WG.weak (S' := MH D ad h0 (sN σ 6 (day (σ.1 6) k))) (fun h hs => by rw [sN_sN] at hs; exact hs) ?_
          refine g_aload_n F dX2_unlike_43 rfl rfl (np := 44) rfl ?_
          refine g_iload_n F dX2_unlike_44 rfl rfl (np := 45) rfl ?_
          refine g_runV F (C := RX2) (ci := 2) (T0 := TX2) (N := 42) (rest := []) (ct_X2_highOf hE (sN σ 6 (day (σ.1 6) k)) L o (by exact hok.day (day_le _ _))) (lw_V q1844 q1846 qs80 q102 q1847) hcV_X2_highOf ⟨Nat.le_of_ble_eq_true rfl, Nat.le_of_ble_eq_true rfl⟩ rfl (fun h hs => hs.obj) rfl rfl (Nat.le_of_ble_eq_true rfl) dX2_unlike_45 ⟨Nat.le_of_ble_eq_true rfl, Nat.le_of_ble_eq_true rfl⟩ (np := 48) rfl (k_RI ?_)
          refine g_aload_n F dX2_unlike_48 rfl rfl (np := 49) rfl ?_
          refine g_iload_n F dX2_unlike_49 rfl rfl (np := 50) rfl ?_
          refine g_iload F dX2_unlike_50 rfl (np := 52) rfl ?_
          refine g_runV F (C := RX2) (ci := 2) (T0 := TX2) (N := 42) (rest := [.int (sHigh (mV (sN σ 6 (day (σ.1 6) k)) L) ((sN σ 6 (day (σ.1 6) k)).1 6) o)]) (ct_X2_toldAt hE ((sN σ 6 (day (σ.1 6) k))) i k (by omega) (by omega)) (lw_V q1708 q1710 qs57 q102 q1711) hcV_X2_toldAt ⟨Nat.le_of_ble_eq_true rfl, Nat.le_of_ble_eq_true rfl⟩ rfl (fun h hs => hs.obj) rfl rfl (Nat.le_of_ble_eq_true rfl) dX2_unlike_52 ⟨Nat.le_of_ble_eq_true rfl, Nat.le_of_ble_eq_true rfl⟩ (np := 55) rfl (k_RI ?_)
          refine g_icmp_eq F dX2_unlike_55 (tp := 62) (by decide) (np := 58) rfl (fun c55 => ?_) (fun c55 => ?_)
          · refine g_iinc F (v := (nI (k + 1))) (lv' := [some (.ref (ad 0)), some (.int (nI i)), some (.int o), some (.int (nI (σ.1 6))), some (.int f), some (.int (nI (k + 1)))]) dX2_unlike_62 rfl (nI_add _ _) (by decide) rfl rfl (np := 65) rfl ?_
            refine g_goto F dX2_unlike_65 (np := 12) (by decide) ?_
            exact ih12 f (k + 1) ((day (σ.1 6) k)) (by have e7 := h1.resolve_right (fun z => z.1 c27); rw [show n - k = (n - (k + 1)) + 1 by omega] at e7; first | (rw [sLeast_t (K := sUnK (mV σ L) (σ.1 6) (toldM σ i) o) (show sUnK (mV σ L) (σ.1 6) (toldM σ i) o k from c55)] at e7; exact Or.inr ⟨nI_ne2 (by omega), by rw [← e7.2]; rfl⟩) | (rw [sLeast_f (K := sUnK (mV σ L) (σ.1 6) (toldM σ i) o) (fun z => z c55)] at e7; exact Or.inl e7)) (by first | assumption | omega) (by omega)
          · refine g_iload F dX2_unlike_58 rfl (np := 60) rfl ?_
            refine g_istore F (lv' := [some (.ref (ad 0)), some (.int (nI i)), some (.int o), some (.int (nI (σ.1 6))), some (.int (nI k)), some (.int (nI k))]) dX2_unlike_60 (by decide) rfl rfl (np := 62) rfl ?_
            refine g_iinc F (v := (nI (k + 1))) (lv' := [some (.ref (ad 0)), some (.int (nI i)), some (.int o), some (.int (nI (σ.1 6))), some (.int (nI k)), some (.int (nI (k + 1)))]) dX2_unlike_62 rfl (nI_add _ _) (by decide) rfl rfl (np := 65) rfl ?_
            refine g_goto F dX2_unlike_65 (np := 12) (by decide) ?_
            exact ih12 (nI (k)) (k + 1) ((day (σ.1 6) k)) (by have e7 := h1.resolve_right (fun z => z.1 c27); rw [show n - k = (n - (k + 1)) + 1 by omega] at e7; first | (rw [sLeast_t (K := sUnK (mV σ L) (σ.1 6) (toldM σ i) o) (show sUnK (mV σ L) (σ.1 6) (toldM σ i) o k from c55)] at e7; exact Or.inr ⟨nI_ne2 (by omega), by rw [← e7.2]; rfl⟩) | (rw [sLeast_f (K := sUnK (mV σ L) (σ.1 6) (toldM σ i) o) (fun z => z c55)] at e7; exact Or.inl e7)) (by first | assumption | omega) (by omega)
  refine WG.weak (S' := MH D ad h0 (sN σ 6 (σ.1 6))) (fun h hs => by rw [sN_same]; exact hs) ?_
  exact L12 _ (-2) 0 ((σ.1 6)) (by exact Or.inl ⟨rfl, rfl⟩) (by omega) (Nat.lt_succ_self _)

set_option maxRecDepth 100000 in
theorem ct_X2_get {l : Launch} {D : va_G} {E : State → Prop} {B : Nat} (hE : Stab E) {ad : Nat → Nat} {h0 : AH} (σ : MSt)  (n : Nat) (w : Nat) (hw : w ≤ 6) (hw0 : w = 0 → n < 8) (hw1 : 1 ≤ w → w ≤ 5 → n < 15) : Ct l D E B yX2_get cX2_get 3 (some .int) 0 0 0 0 [.ref (ad 0), .int (nI n), .int (nI w)] (MH D ad h0 σ) (RI (sGet σ n w) (MH D ad h0 σ)) := by
  refine Ct.of (nL := 3) (lv := [some (.ref (ad 0)), some (.int (nI n)), some (.int (nI w))]) (by decide) (Nat.le_of_ble_eq_true rfl) hE 0 rfl ?_
  generalize hT : RI (sGet σ n w) (MH D ad h0 σ) = T
  intro zp ze zs zm zb zt zc F hr hnm
  generalize ([.ref (ad 0), .int (nI n), .int (nI w)] : List Value).toArray = za at F ⊢
  refine g_iload_n F dX2_get_0 rfl rfl (np := 1) rfl ?_
  refine g_if_neN F (by omega) dX2_get_1 (tp := 13) (by decide) (np := 4) rfl (fun c1 => ?_) (fun c1 => ?_)
  · refine g_iload_n F dX2_get_13 rfl rfl (np := 14) rfl ?_
    refine g_bipush F (v := (nI 6)) dX2_get_14 (by decide) (np := 16) rfl ?_
    refine g_icmp_neN F (by omega) (by decide) dX2_get_16 (tp := 26) (by decide) (np := 19) rfl (fun c16 => ?_) (fun c16 => ?_)
    · refine g_aload_n F dX2_get_26 rfl rfl (np := 27) rfl ?_
      refine h_get F (k := 3) (v := .ref (ad 3)) (by decide) rfl q1549 dX2_get_27 (np := 30) rfl ?_
      refine g_bipush F (v := (nI 15)) dX2_get_30 (by decide) (np := 32) rfl ?_
      refine g_iload_n F dX2_get_32 rfl rfl (np := 33) rfl ?_
      refine g_iconst F (v := (nI 1)) dX2_get_33 (by decide) (np := 34) rfl ?_
      refine g_isubN F (by omega) dX2_get_34 (np := 35) rfl ?_
      refine g_imulN F dX2_get_35 (np := 36) rfl ?_
      refine g_iload_n F dX2_get_36 rfl rfl (np := 37) rfl ?_
      refine g_iaddN F dX2_get_37 (np := 38) rfl ?_
      refine h_ald F (k := 3) (i := (15 * (w - 1)) + n) (L := 75) (v := σ.2.1 3 ((15 * (w - 1)) + n)) rfl rfl (by decide) (by have := hw1 (by omega) (by omega); omega) rfl rfl dX2_get_38 (by decide) (by decide) (np := 39) rfl ?_
      have hv : σ.2.1 3 ((15 * (w - 1)) + n) = sGet σ n w := by first | (unfold sGet; rw [if_pos c1]; done) | (unfold sGet; rw [if_neg c1, if_pos c16]; done) | (unfold sGet; rw [if_neg c1, if_neg c16]; done)
      exact g_iret F hr rfl (Nat.le_of_ble_eq_true rfl) (Nat.le_of_ble_eq_true rfl) dX2_get_39 (fun h hs => by rw [← hT]; exact ⟨congrArg (fun z => some (Value.int z)) hv, hs⟩)
    · refine g_aload_n F dX2_get_19 rfl rfl (np := 20) rfl ?_
      refine h_get F (k := 6) (v := .int (nI (σ.1 6))) (by decide) rfl q1552 dX2_get_20 (np := 23) rfl ?_
      refine g_goto F dX2_get_23 (np := 39) (by decide) ?_
      have hv : nI (σ.1 6) = sGet σ n w := by first | (unfold sGet; rw [if_pos c1]; done) | (unfold sGet; rw [if_neg c1, if_pos c16]; done) | (unfold sGet; rw [if_neg c1, if_neg c16]; done)
      exact g_iret F hr rfl (Nat.le_of_ble_eq_true rfl) (Nat.le_of_ble_eq_true rfl) dX2_get_39 (fun h hs => by rw [← hT]; exact ⟨congrArg (fun z => some (Value.int z)) hv, hs⟩)
  · refine g_aload_n F dX2_get_4 rfl rfl (np := 5) rfl ?_
    refine h_get F (k := 1) (v := .ref (ad 1)) (by decide) rfl q1547 dX2_get_5 (np := 8) rfl ?_
    refine g_iload_n F dX2_get_8 rfl rfl (np := 9) rfl ?_
    refine h_ald F (k := 1) (i := n) (L := 8) (v := σ.2.1 1 n) rfl rfl (by decide) (by exact hw0 c1) rfl rfl dX2_get_9 (by decide) (by decide) (np := 10) rfl ?_
    refine g_goto F dX2_get_10 (np := 39) (by decide) ?_
    have hv : σ.2.1 1 n = sGet σ n w := by first | (unfold sGet; rw [if_pos c1]; done) | (unfold sGet; rw [if_neg c1, if_pos c16]; done) | (unfold sGet; rw [if_neg c1, if_neg c16]; done)
    exact g_iret F hr rfl (Nat.le_of_ble_eq_true rfl) (Nat.le_of_ble_eq_true rfl) dX2_get_39 (fun h hs => by rw [← hT]; exact ⟨congrArg (fun z => some (Value.int z)) hv, hs⟩)

set_option maxRecDepth 100000 in
theorem ct_X2_becomes {l : Launch} {D : va_G} {E : State → Prop} {B : Nat} (hE : Stab E) {ad : Nat → Nat} {h0 : AH} (σ : MSt)  (n : Nat) (w : Nat) (x : Int32) (hw : w ≤ 6) (hw0 : w = 0 → n < 8) (hw1 : 1 ≤ w → w ≤ 5 → n < 15) (hw6 : w = 6 → x = nI x.toNatClampNeg) : Ct l D E B yX2_becomes cX2_becomes 4 none 0 0 0 0 [.ref (ad 0), .int (nI n), .int (nI w), .int x] (MH D ad h0 σ) (RV (MH D ad h0 (sSet σ n w x))) := by
  refine Ct.of (nL := 4) (lv := [some (.ref (ad 0)), some (.int (nI n)), some (.int (nI w)), some (.int x)]) (by decide) (Nat.le_of_ble_eq_true rfl) hE 0 rfl ?_
  generalize hT : RV (MH D ad h0 (sSet σ n w x)) = T
  intro zp ze zs zm zb zt zc F hr hnm
  generalize ([.ref (ad 0), .int (nI n), .int (nI w), .int x] : List Value).toArray = za at F ⊢
  refine g_iload_n F dX2_becomes_0 rfl rfl (np := 1) rfl ?_
  refine g_if_neN F (by omega) dX2_becomes_1 (tp := 14) (by decide) (np := 4) rfl (fun c1 => ?_) (fun c1 => ?_)
  · refine g_iload_n F dX2_becomes_14 rfl rfl (np := 15) rfl ?_
    refine g_bipush F (v := (nI 6)) dX2_becomes_15 (by decide) (np := 17) rfl ?_
    refine g_icmp_neN F (by omega) (by decide) dX2_becomes_17 (tp := 28) (by decide) (np := 20) rfl (fun c17 => ?_) (fun c17 => ?_)
    · refine g_aload_n F dX2_becomes_28 rfl rfl (np := 29) rfl ?_
      refine h_get F (k := 3) (v := .ref (ad 3)) (by decide) rfl q1549 dX2_becomes_29 (np := 32) rfl ?_
      refine g_bipush F (v := (nI 15)) dX2_becomes_32 (by decide) (np := 34) rfl ?_
      refine g_iload_n F dX2_becomes_34 rfl rfl (np := 35) rfl ?_
      refine g_iconst F (v := (nI 1)) dX2_becomes_35 (by decide) (np := 36) rfl ?_
      refine g_isubN F (by omega) dX2_becomes_36 (np := 37) rfl ?_
      refine g_imulN F dX2_becomes_37 (np := 38) rfl ?_
      refine g_iload_n F dX2_becomes_38 rfl rfl (np := 39) rfl ?_
      refine g_iaddN F dX2_becomes_39 (np := 40) rfl ?_
      refine g_iload_n F dX2_becomes_40 rfl rfl (np := 41) rfl ?_
      refine h_ast F (k := 3) (i := (15 * (w - 1)) + n) (L := 75) rfl rfl (by decide) (by have := hw1 (by omega) (by omega); omega) rfl dX2_becomes_41 (by decide) (by decide) (np := 42) rfl ?_
      have hσ : (sA σ 3 ((15 * (w - 1)) + n) x) = (sSet σ n w x) := by first | (unfold sSet; rw [if_pos c1]; done) | (unfold sSet; rw [if_neg c1, if_pos c17]; done) | (unfold sSet; rw [if_neg c1, if_neg c17]; done)
      exact g_vret F hr (Nat.le_of_ble_eq_true rfl) (Nat.le_of_ble_eq_true rfl) dX2_becomes_42 (fun h hs => by rw [← hT]; exact ⟨rfl, (hσ ▸ hs)⟩)
    · refine g_aload_n F dX2_becomes_20 rfl rfl (np := 21) rfl ?_
      refine g_iload_n F dX2_becomes_21 rfl rfl (np := 22) rfl ?_
      refine WG.eqv (st' := [.int (nI (x.toNatClampNeg)), .ref (ad 0)]) (congrArg (fun z => ([.int z, .ref (ad 0)] : List Value)) (show x = (nI (x.toNatClampNeg)) from by exact hw6 c17)) rfl ?_
      refine h_put F (k := 6) (n := x.toNatClampNeg) (ty := .int) rfl (by decide) (mset_6 _ _ _) rfl rfl rfl rfl q1552 dX2_becomes_22 (np := 25) rfl ?_
      refine g_goto F dX2_becomes_25 (np := 42) (by decide) ?_
      have hσ : (sN σ 6 x.toNatClampNeg) = (sSet σ n w x) := by first | (unfold sSet; rw [if_pos c1]; done) | (unfold sSet; rw [if_neg c1, if_pos c17]; done) | (unfold sSet; rw [if_neg c1, if_neg c17]; done)
      exact g_vret F hr (Nat.le_of_ble_eq_true rfl) (Nat.le_of_ble_eq_true rfl) dX2_becomes_42 (fun h hs => by rw [← hT]; exact ⟨rfl, (hσ ▸ hs)⟩)
  · refine g_aload_n F dX2_becomes_4 rfl rfl (np := 5) rfl ?_
    refine h_get F (k := 1) (v := .ref (ad 1)) (by decide) rfl q1547 dX2_becomes_5 (np := 8) rfl ?_
    refine g_iload_n F dX2_becomes_8 rfl rfl (np := 9) rfl ?_
    refine g_iload_n F dX2_becomes_9 rfl rfl (np := 10) rfl ?_
    refine h_ast F (k := 1) (i := n) (L := 8) rfl rfl (by decide) (by exact hw0 c1) rfl dX2_becomes_10 (by decide) (by decide) (np := 11) rfl ?_
    refine g_goto F dX2_becomes_11 (np := 42) (by decide) ?_
    have hσ : (sA σ 1 n x) = (sSet σ n w x) := by first | (unfold sSet; rw [if_pos c1]; done) | (unfold sSet; rw [if_neg c1, if_pos c17]; done) | (unfold sSet; rw [if_neg c1, if_neg c17]; done)
    exact g_vret F hr (Nat.le_of_ble_eq_true rfl) (Nat.le_of_ble_eq_true rfl) dX2_becomes_42 (fun h hs => by rw [← hT]; exact ⟨rfl, (hσ ▸ hs)⟩)

set_option maxRecDepth 100000 in
theorem ct_X2_does {l : Launch} {D : va_G} {E : State → Prop} {B : Nat} (hE : Stab E) {ad : Nat → Nat} {h0 : AH} (σ : MSt) (L : LawT) (p : Int32) (o : Int32) (hok : mOK σ L) : Ct l D E B yX2_does cX2_does 3 (some .int) 2 43 0 0 [.ref (ad 0), .int p, .int o] (MH D ad h0 σ) (RI (rDoes (mV σ L) (σ.1 6) (σ.1 0) p o) (MH D ad h0 (gDoes σ L p o))) := by
  refine Ct.of (nL := 3) (lv := [some (.ref (ad 0)), some (.int p), some (.int o)]) (by decide) (Nat.le_of_ble_eq_true rfl) hE 0 rfl ?_
  generalize hT : RI (rDoes (mV σ L) (σ.1 6) (σ.1 0) p o) (MH D ad h0 (gDoes σ L p o)) = T
  intro zp ze zs zm zb zt zc F hr hnm
  generalize ([.ref (ad 0), .int p, .int o] : List Value).toArray = za at F ⊢
  have hok2 := hok
  obtain ⟨ho8, hm15, ht99, hby, hlaw⟩ := hok2
  refine g_aload_n F dX2_does_0 rfl rfl (np := 1) rfl ?_
  refine g_iload_n F dX2_does_1 rfl rfl (np := 2) rfl ?_
  refine g_runV F (C := RX2) (ci := 2) (T0 := TX2) (N := 42) (rest := []) (ct_X2_isOne hE σ p (by first | assumption | omega)) (lw_V q1720 q1722 qs59 q102 q1723) hcV_X2_isOne ⟨Nat.le_of_ble_eq_true rfl, Nat.le_of_ble_eq_true rfl⟩ rfl (fun h hs => hs.obj) rfl rfl (Nat.le_of_ble_eq_true rfl) dX2_does_2 ⟨Nat.le_of_ble_eq_true rfl, Nat.le_of_ble_eq_true rfl⟩ (np := 5) rfl (k_RI ?_)
  refine g_if_eqB F dX2_does_5 (tp := 16) (by decide) (np := 8) rfl (fun c5 => ?_) (fun c5 => ?_)
  · refine g_iconst F (v := (-1)) dX2_does_16 (by decide) (np := 17) rfl ?_
    have hσ : σ = (gDoes σ L p o) := by first | (unfold gDoes; rw [pif_f (fun z => c5 z.1)]; done) | (unfold gDoes; rw [pif_f (fun z => c13 z.2.1)]; done)
    have hv : -1 = rDoes (mV σ L) (σ.1 6) (σ.1 0) p o := by first | (unfold rDoes; rw [pif_f (fun z => c5 z.1)]; done) | (unfold rDoes; rw [pif_f (fun z => c13 z.2)]; done)
    exact g_iret F hr rfl (Nat.le_of_ble_eq_true rfl) (Nat.le_of_ble_eq_true rfl) dX2_does_17 (fun h hs => by rw [← hT]; exact ⟨congrArg (fun z => some (Value.int z)) hv, (hσ ▸ hs)⟩)
  · refine g_aload_n F dX2_does_8 rfl rfl (np := 9) rfl ?_
    refine g_iload_n F dX2_does_9 rfl rfl (np := 10) rfl ?_
    refine g_runV F (C := RX2) (ci := 2) (T0 := TX2) (N := 42) (rest := []) (ct_X2_isOwner hE σ o (by first | assumption | omega)) (lw_V q1688 q1690 qs54 q102 q1691) hcV_X2_isOwner ⟨Nat.le_of_ble_eq_true rfl, Nat.le_of_ble_eq_true rfl⟩ rfl (fun h hs => hs.obj) rfl rfl (Nat.le_of_ble_eq_true rfl) dX2_does_10 ⟨Nat.le_of_ble_eq_true rfl, Nat.le_of_ble_eq_true rfl⟩ (np := 13) rfl (k_RI ?_)
    refine g_if_neB F dX2_does_13 (tp := 18) (by decide) (np := 16) rfl (fun c13 => ?_) (fun c13 => ?_)
    · obtain ⟨hpl, hpe⟩ := inN_cl (by omega) c5
      obtain ⟨hol, hoe⟩ := inN_cl (by omega) c13
      refine WG.eqv (lv' := [some (.ref (ad 0)), some (.int (nI (p.toNatClampNeg))), some (.int o)]) rfl (congrArg (fun z => ([some (.ref (ad 0)), some (.int z), some (.int o)] : List (Option Value))) (show p = (nI (p.toNatClampNeg)) from by exact hpe)) ?_
      refine WG.eqv (lv' := [some (.ref (ad 0)), some (.int (nI (p.toNatClampNeg))), some (.int (nI (o.toNatClampNeg)))]) rfl (congrArg (fun z => ([some (.ref (ad 0)), some (.int (nI (p.toNatClampNeg))), some (.int z)] : List (Option Value))) (show o = (nI (o.toNatClampNeg)) from by exact hoe)) ?_
      refine g_aload_n F dX2_does_18 rfl rfl (np := 19) rfl ?_
      refine g_iload_n F dX2_does_19 rfl rfl (np := 20) rfl ?_
      refine g_runV F (C := RX2) (ci := 2) (T0 := TX2) (N := 42) (rest := []) (ct_X2_isOpen hE σ p.toNatClampNeg (by omega)) (lw_V q1811 q1813 qs74 q102 q1814) hcV_X2_isOpen ⟨Nat.le_of_ble_eq_true rfl, Nat.le_of_ble_eq_true rfl⟩ rfl (fun h hs => hs.obj) rfl rfl (Nat.le_of_ble_eq_true rfl) dX2_does_20 ⟨Nat.le_of_ble_eq_true rfl, Nat.le_of_ble_eq_true rfl⟩ (np := 23) rfl (k_RI ?_)
      refine g_if_eqB F dX2_does_23 (tp := 54) (by decide) (np := 26) rfl (fun c23 => ?_) (fun c23 => ?_)
      · have hd : ¬ dOK (mV σ L) (σ.1 6) (σ.1 0) p o := by
          rintro ⟨d1, d2, d3⟩
          have d2 : ¬ mP σ p.toNatClampNeg 3 = nI 2 := d2
          have d3 : mP σ p.toNatClampNeg 2 ≤ σ.2.1 1 o.toNatClampNeg := d3
          rw [mP_3] at d2
          rw [mP_2] at d3
          first | exact c23 d1 | exact d2 c36 | exact c51 d3
        refine g_bipush F (v := (-5)) dX2_does_54 (by decide) (np := 56) rfl ?_
        have hσ : σ = (gDoes σ L p o) := by unfold gDoes; rw [pif_f (fun z => hd z.2.2)]
        have hv : -5 = rDoes (mV σ L) (σ.1 6) (σ.1 0) p o := by unfold rDoes; rw [pif_t ⟨c5, c13⟩, pif_f hd]
        exact g_iret F hr rfl (Nat.le_of_ble_eq_true rfl) (Nat.le_of_ble_eq_true rfl) dX2_does_56 (fun h hs => by rw [← hT]; exact ⟨congrArg (fun z => some (Value.int z)) hv, (hσ ▸ hs)⟩)
      · refine g_aload_n F dX2_does_26 rfl rfl (np := 27) rfl ?_
        refine h_get F (k := 3) (v := .ref (ad 3)) (by decide) rfl q1549 dX2_does_27 (np := 30) rfl ?_
        refine g_bipush F (v := (nI 15)) dX2_does_30 (by decide) (np := 32) rfl ?_
        refine g_iload_n F dX2_does_32 rfl rfl (np := 33) rfl ?_
        refine g_iaddN F dX2_does_33 (np := 34) rfl ?_
        refine h_ald F (k := 3) (i := 15 + p.toNatClampNeg) (L := 75) (v := σ.2.1 3 (15 + p.toNatClampNeg)) rfl rfl (by decide) (by omega) rfl rfl dX2_does_34 (by decide) (by decide) (np := 35) rfl ?_
        refine g_iconst F (v := (nI 2)) dX2_does_35 (by decide) (np := 36) rfl ?_
        refine g_icmp_eq F dX2_does_36 (tp := 54) (by decide) (np := 39) rfl (fun c36 => ?_) (fun c36 => ?_)
        · have hd : ¬ dOK (mV σ L) (σ.1 6) (σ.1 0) p o := by
            rintro ⟨d1, d2, d3⟩
            have d2 : ¬ mP σ p.toNatClampNeg 3 = nI 2 := d2
            have d3 : mP σ p.toNatClampNeg 2 ≤ σ.2.1 1 o.toNatClampNeg := d3
            rw [mP_3] at d2
            rw [mP_2] at d3
            first | exact c23 d1 | exact d2 c36 | exact c51 d3
          refine g_bipush F (v := (-5)) dX2_does_54 (by decide) (np := 56) rfl ?_
          have hσ : σ = (gDoes σ L p o) := by unfold gDoes; rw [pif_f (fun z => hd z.2.2)]
          have hv : -5 = rDoes (mV σ L) (σ.1 6) (σ.1 0) p o := by unfold rDoes; rw [pif_t ⟨c5, c13⟩, pif_f hd]
          exact g_iret F hr rfl (Nat.le_of_ble_eq_true rfl) (Nat.le_of_ble_eq_true rfl) dX2_does_56 (fun h hs => by rw [← hT]; exact ⟨congrArg (fun z => some (Value.int z)) hv, (hσ ▸ hs)⟩)
        · refine g_aload_n F dX2_does_39 rfl rfl (np := 40) rfl ?_
          refine h_get F (k := 1) (v := .ref (ad 1)) (by decide) rfl q1547 dX2_does_40 (np := 43) rfl ?_
          refine g_iload_n F dX2_does_43 rfl rfl (np := 44) rfl ?_
          refine h_ald F (k := 1) (i := o.toNatClampNeg) (L := 8) (v := σ.2.1 1 o.toNatClampNeg) rfl rfl (by decide) (by omega) rfl rfl dX2_does_44 (by decide) (by decide) (np := 45) rfl ?_
          refine g_aload_n F dX2_does_45 rfl rfl (np := 46) rfl ?_
          refine h_get F (k := 3) (v := .ref (ad 3)) (by decide) rfl q1549 dX2_does_46 (np := 49) rfl ?_
          refine g_iload_n F dX2_does_49 rfl rfl (np := 50) rfl ?_
          refine h_ald F (k := 3) (i := p.toNatClampNeg) (L := 75) (v := σ.2.1 3 p.toNatClampNeg) rfl rfl (by decide) (by omega) rfl rfl dX2_does_50 (by decide) (by decide) (np := 51) rfl ?_
          refine g_icmp_ge F dX2_does_51 (tp := 57) (by decide) (np := 54) rfl (fun c51 => ?_) (fun c51 => ?_)
          · have hd : dOK (mV σ L) (σ.1 6) (σ.1 0) p o := ⟨c23, by show ¬ mP σ _ 3 = _; rw [mP_3]; exact c36, by show mP σ _ 2 ≤ _; rw [mP_2]; exact c51⟩
            refine g_aload_n F dX2_does_57 rfl rfl (np := 58) rfl ?_
            refine h_get F (k := 3) (v := .ref (ad 3)) (by decide) rfl q1549 dX2_does_58 (np := 61) rfl ?_
            refine g_bipush F (v := (nI 60)) dX2_does_61 (by decide) (np := 63) rfl ?_
            refine g_iload_n F dX2_does_63 rfl rfl (np := 64) rfl ?_
            refine g_iaddN F dX2_does_64 (np := 65) rfl ?_
            refine g_iconst F (v := (nI 1)) dX2_does_65 (by decide) (np := 66) rfl ?_
            refine h_ast F (k := 3) (i := 60 + p.toNatClampNeg) (L := 75) rfl rfl (by decide) (by omega) rfl dX2_does_66 (by decide) (by decide) (np := 67) rfl ?_
            refine g_aload_n F dX2_does_67 rfl rfl (np := 68) rfl ?_
            refine h_get F (k := 1) (v := .ref (ad 1)) (by decide) rfl q1547 dX2_does_68 (np := 71) rfl ?_
            refine g_iload_n F dX2_does_71 rfl rfl (np := 72) rfl ?_
            refine g_dup2 F dX2_does_72 rfl rfl (np := 73) rfl ?_
            refine h_ald F (k := 1) (i := o.toNatClampNeg) (L := 8) (v := σ.2.1 1 o.toNatClampNeg) rfl rfl (by decide) (by omega) rfl rfl dX2_does_73 (by decide) (by decide) (np := 74) rfl ?_
            refine g_aload_n F dX2_does_74 rfl rfl (np := 75) rfl ?_
            refine h_get F (k := 3) (v := .ref (ad 3)) (by decide) rfl q1549 dX2_does_75 (np := 78) rfl ?_
            refine g_iload_n F dX2_does_78 rfl rfl (np := 79) rfl ?_
            refine h_ald F (k := 3) (i := p.toNatClampNeg) (L := 75) (v := σ.2.1 3 p.toNatClampNeg) rfl rfl (by decide) (by omega) rfl (by show (sA σ 3 (60 + p.toNatClampNeg) (nI (1))).2.1 3 p.toNatClampNeg = σ.2.1 3 p.toNatClampNeg; rw [sA_2, if_neg (by omega)]) dX2_does_79 (by decide) (by decide) (np := 80) rfl ?_
            refine g_isub F dX2_does_80 (np := 81) rfl ?_
            refine h_ast F (k := 1) (i := o.toNatClampNeg) (L := 8) rfl rfl (by decide) (by omega) rfl dX2_does_81 (by decide) (by decide) (np := 82) rfl ?_
            refine g_aload_n F dX2_does_82 rfl rfl (np := 83) rfl ?_
            refine h_get F (k := 25) (v := .ref (ad 25)) (by decide) rfl q1571 dX2_does_83 (np := 86) rfl ?_
            refine g_iconst F (v := (nI 1)) dX2_does_86 (by decide) (np := 87) rfl ?_
            refine g_dup2 F dX2_does_87 rfl rfl (np := 88) rfl ?_
            refine h_ald F (k := 25) (i := 1) (L := 5) (v := σ.2.1 25 1) rfl rfl (by decide) (by decide) rfl rfl dX2_does_88 (by decide) (by decide) (np := 89) rfl ?_
            refine g_iconst F (v := (nI 1)) dX2_does_89 (by decide) (np := 90) rfl ?_
            refine g_iadd F dX2_does_90 (np := 91) rfl ?_
            refine h_ast F (k := 25) (i := 1) (L := 5) rfl rfl (by decide) (by decide) rfl dX2_does_91 (by decide) (by decide) (np := 92) rfl ?_
            refine g_aload_n F dX2_does_92 rfl rfl (np := 93) rfl ?_
            refine h_get F (k := 25) (v := .ref (ad 25)) (by decide) rfl q1571 dX2_does_93 (np := 96) rfl ?_
            refine g_iconst F (v := (nI 3)) dX2_does_96 (by decide) (np := 97) rfl ?_
            refine g_dup2 F dX2_does_97 rfl rfl (np := 98) rfl ?_
            refine h_ald F (k := 25) (i := 3) (L := 5) (v := σ.2.1 25 3) rfl rfl (by decide) (by decide) rfl rfl dX2_does_98 (by decide) (by decide) (np := 99) rfl ?_
            refine g_aload_n F dX2_does_99 rfl rfl (np := 100) rfl ?_
            refine h_get F (k := 3) (v := .ref (ad 3)) (by decide) rfl q1549 dX2_does_100 (np := 103) rfl ?_
            refine g_iload_n F dX2_does_103 rfl rfl (np := 104) rfl ?_
            refine h_ald F (k := 3) (i := p.toNatClampNeg) (L := 75) (v := σ.2.1 3 p.toNatClampNeg) rfl rfl (by decide) (by omega) rfl (by show (sA σ 3 (60 + p.toNatClampNeg) (nI (1))).2.1 3 p.toNatClampNeg = σ.2.1 3 p.toNatClampNeg; rw [sA_2, if_neg (by omega)]) dX2_does_104 (by decide) (by decide) (np := 105) rfl ?_
            refine g_iadd F dX2_does_105 (np := 106) rfl ?_
            refine h_ast F (k := 25) (i := 3) (L := 5) rfl rfl (by decide) (by decide) rfl dX2_does_106 (by decide) (by decide) (np := 107) rfl ?_
            refine g_aload_n F dX2_does_107 rfl rfl (np := 108) rfl ?_
            refine h_get F (k := 1) (v := .ref (ad 1)) (by decide) rfl q1547 dX2_does_108 (np := 111) rfl ?_
            refine g_iload_n F dX2_does_111 rfl rfl (np := 112) rfl ?_
            refine h_ald F (k := 1) (i := o.toNatClampNeg) (L := 8) (v := (σ.2.1 1 o.toNatClampNeg) - (σ.2.1 3 p.toNatClampNeg)) rfl rfl (by decide) (by omega) rfl (by show (sA (sA σ 3 (60 + p.toNatClampNeg) (nI (1))) 1 o.toNatClampNeg ((σ.2.1 1 o.toNatClampNeg) - (σ.2.1 3 p.toNatClampNeg))).2.1 1 o.toNatClampNeg = (σ.2.1 1 o.toNatClampNeg) - (σ.2.1 3 p.toNatClampNeg); rw [sA_2, if_pos ⟨rfl, rfl⟩]) dX2_does_112 (by decide) (by decide) (np := 113) rfl ?_
            have hσ : (sA (sA (sA (sA σ 3 (60 + p.toNatClampNeg) (nI (1))) 1 o.toNatClampNeg ((σ.2.1 1 o.toNatClampNeg) - (σ.2.1 3 p.toNatClampNeg))) 25 1 ((σ.2.1 25 1) + (nI (1)))) 25 3 ((σ.2.1 25 3) + (σ.2.1 3 p.toNatClampNeg))) = (gDoes σ L p o) := by unfold gDoes; rw [pif_t ⟨c5, c13, hd⟩]; rfl
            have hv : (σ.2.1 1 o.toNatClampNeg) - (σ.2.1 3 p.toNatClampNeg) = rDoes (mV σ L) (σ.1 6) (σ.1 0) p o := by unfold rDoes; rw [pif_t ⟨c5, c13⟩, pif_t hd]; show _ = σ.2.1 1 _ - mP σ _ 2; rw [mP_2]
            exact g_iret F hr rfl (Nat.le_of_ble_eq_true rfl) (Nat.le_of_ble_eq_true rfl) dX2_does_113 (fun h hs => by rw [← hT]; exact ⟨congrArg (fun z => some (Value.int z)) hv, (hσ ▸ hs)⟩)
          · have hd : ¬ dOK (mV σ L) (σ.1 6) (σ.1 0) p o := by
              rintro ⟨d1, d2, d3⟩
              have d2 : ¬ mP σ p.toNatClampNeg 3 = nI 2 := d2
              have d3 : mP σ p.toNatClampNeg 2 ≤ σ.2.1 1 o.toNatClampNeg := d3
              rw [mP_3] at d2
              rw [mP_2] at d3
              first | exact c23 d1 | exact d2 c36 | exact c51 d3
            refine g_bipush F (v := (-5)) dX2_does_54 (by decide) (np := 56) rfl ?_
            have hσ : σ = (gDoes σ L p o) := by unfold gDoes; rw [pif_f (fun z => hd z.2.2)]
            have hv : -5 = rDoes (mV σ L) (σ.1 6) (σ.1 0) p o := by unfold rDoes; rw [pif_t ⟨c5, c13⟩, pif_f hd]
            exact g_iret F hr rfl (Nat.le_of_ble_eq_true rfl) (Nat.le_of_ble_eq_true rfl) dX2_does_56 (fun h hs => by rw [← hT]; exact ⟨congrArg (fun z => some (Value.int z)) hv, (hσ ▸ hs)⟩)
    · refine g_iconst F (v := (-1)) dX2_does_16 (by decide) (np := 17) rfl ?_
      have hσ : σ = (gDoes σ L p o) := by first | (unfold gDoes; rw [pif_f (fun z => c5 z.1)]; done) | (unfold gDoes; rw [pif_f (fun z => c13 z.2.1)]; done)
      have hv : -1 = rDoes (mV σ L) (σ.1 6) (σ.1 0) p o := by first | (unfold rDoes; rw [pif_f (fun z => c5 z.1)]; done) | (unfold rDoes; rw [pif_f (fun z => c13 z.2)]; done)
      exact g_iret F hr rfl (Nat.le_of_ble_eq_true rfl) (Nat.le_of_ble_eq_true rfl) dX2_does_17 (fun h hs => by rw [← hT]; exact ⟨congrArg (fun z => some (Value.int z)) hv, (hσ ▸ hs)⟩)

set_option maxRecDepth 100000 in
theorem ct_X2_release {l : Launch} {D : va_G} {E : State → Prop} {B : Nat} (hE : Stab E) {ad : Nat → Nat} {h0 : AH} (σ : MSt) (L : LawT) (p : Int32) (hok : mOK σ L) : Ct l D E B yX2_release cX2_release 2 (some .int) 6 137 0 0 [.ref (ad 0), .int p] (MH D ad h0 σ) (RI (rRel (mV σ L) (σ.1 6) p) (MH D ad h0 (gRel σ p))) := by
  refine Ct.of (nL := 2) (lv := [some (.ref (ad 0)), some (.int p)]) (by decide) (Nat.le_of_ble_eq_true rfl) hE 0 rfl ?_
  generalize hT : RI (rRel (mV σ L) (σ.1 6) p) (MH D ad h0 (gRel σ p)) = T
  intro zp ze zs zm zb zt zc F hr hnm
  generalize ([.ref (ad 0), .int p] : List Value).toArray = za at F ⊢
  have hok2 := hok
  obtain ⟨ho8, hm15, ht99, hby, hlaw⟩ := hok2
  refine g_aload_n F dX2_release_0 rfl rfl (np := 1) rfl ?_
  refine g_iload_n F dX2_release_1 rfl rfl (np := 2) rfl ?_
  refine g_runV F (C := RX2) (ci := 2) (T0 := TX2) (N := 42) (rest := []) (ct_X2_isOne hE σ p (by first | assumption | omega)) (lw_V q1720 q1722 qs59 q102 q1723) hcV_X2_isOne ⟨Nat.le_of_ble_eq_true rfl, Nat.le_of_ble_eq_true rfl⟩ rfl (fun h hs => hs.obj) rfl rfl (Nat.le_of_ble_eq_true rfl) dX2_release_2 ⟨Nat.le_of_ble_eq_true rfl, Nat.le_of_ble_eq_true rfl⟩ (np := 5) rfl (k_RI ?_)
  refine g_if_neB F dX2_release_5 (tp := 10) (by decide) (np := 8) rfl (fun c5 => ?_) (fun c5 => ?_)
  · obtain ⟨hpl, hpe⟩ := inN_cl (by omega) c5
    refine WG.eqv (lv' := [some (.ref (ad 0)), some (.int (nI (p.toNatClampNeg)))]) rfl (congrArg (fun z => ([some (.ref (ad 0)), some (.int z)] : List (Option Value))) (show p = (nI (p.toNatClampNeg)) from by exact hpe)) ?_
    refine g_aload_n F dX2_release_10 rfl rfl (np := 11) rfl ?_
    refine g_iload_n F dX2_release_11 rfl rfl (np := 12) rfl ?_
    refine g_runV F (C := RX2) (ci := 2) (T0 := TX2) (N := 42) (rest := []) (ct_X2_isOpen hE σ p.toNatClampNeg (by omega)) (lw_V q1811 q1813 qs74 q102 q1814) hcV_X2_isOpen ⟨Nat.le_of_ble_eq_true rfl, Nat.le_of_ble_eq_true rfl⟩ rfl (fun h hs => hs.obj) rfl rfl (Nat.le_of_ble_eq_true rfl) dX2_release_12 ⟨Nat.le_of_ble_eq_true rfl, Nat.le_of_ble_eq_true rfl⟩ (np := 15) rfl (k_RI ?_)
    refine g_if_eqB F dX2_release_15 (tp := 27) (by decide) (np := 18) rfl (fun c15 => ?_) (fun c15 => ?_)
    · refine g_bipush F (v := (-5)) dX2_release_27 (by decide) (np := 29) rfl ?_
      have hσ : σ = (gRel σ p) := by unfold gRel; first | (rw [pif_f (fun z => c15 z.2.1)]; done) | (rw [pif_f (fun z => z.2.2 (Int32.not_le.mp c24))]; done)
      have hv : -5 = rRel (mV σ L) (σ.1 6) p := by unfold rRel; rw [pif_t (P := inN p (mV σ L).2.2.1) c5]; first | (rw [pif_f (fun z => c15 z.1)]; done) | (rw [pif_f (fun z => z.2 (Int32.not_le.mp c24))]; done)
      exact g_iret F hr rfl (Nat.le_of_ble_eq_true rfl) (Nat.le_of_ble_eq_true rfl) dX2_release_29 (fun h hs => by rw [← hT]; exact ⟨congrArg (fun z => some (Value.int z)) hv, (hσ ▸ hs)⟩)
    · refine g_aload_n F dX2_release_18 rfl rfl (np := 19) rfl ?_
      refine h_get F (k := 5) (v := .ref (ad 5)) (by decide) rfl q1551 dX2_release_19 (np := 22) rfl ?_
      refine g_iload_n F dX2_release_22 rfl rfl (np := 23) rfl ?_
      refine h_ald F (k := 5) (i := p.toNatClampNeg) (L := 15) (v := σ.2.1 5 p.toNatClampNeg) rfl rfl (by decide) (by omega) rfl rfl dX2_release_23 (by decide) (by decide) (np := 24) rfl ?_
      refine g_if_ge F dX2_release_24 (tp := 30) (by decide) (np := 27) rfl (fun c24 => ?_) (fun c24 => ?_)
      · refine g_aload_n F dX2_release_30 rfl rfl (np := 31) rfl ?_
        refine h_get F (k := 3) (v := .ref (ad 3)) (by decide) rfl q1549 dX2_release_31 (np := 34) rfl ?_
        refine g_bipush F (v := (nI 60)) dX2_release_34 (by decide) (np := 36) rfl ?_
        refine g_iload_n F dX2_release_36 rfl rfl (np := 37) rfl ?_
        refine g_iaddN F dX2_release_37 (np := 38) rfl ?_
        refine g_iconst F (v := (nI 1)) dX2_release_38 (by decide) (np := 39) rfl ?_
        refine h_ast F (k := 3) (i := 60 + p.toNatClampNeg) (L := 75) rfl rfl (by decide) (by omega) rfl dX2_release_39 (by decide) (by decide) (np := 40) rfl ?_
        refine g_aload_n F dX2_release_40 rfl rfl (np := 41) rfl ?_
        refine h_get F (k := 25) (v := .ref (ad 25)) (by decide) rfl q1571 dX2_release_41 (np := 44) rfl ?_
        refine g_iconst F (v := (nI 2)) dX2_release_44 (by decide) (np := 45) rfl ?_
        refine g_dup2 F dX2_release_45 rfl rfl (np := 46) rfl ?_
        refine h_ald F (k := 25) (i := 2) (L := 5) (v := σ.2.1 25 2) rfl rfl (by decide) (by decide) rfl rfl dX2_release_46 (by decide) (by decide) (np := 47) rfl ?_
        refine g_iconst F (v := (nI 1)) dX2_release_47 (by decide) (np := 48) rfl ?_
        refine g_iadd F dX2_release_48 (np := 49) rfl ?_
        refine h_ast F (k := 25) (i := 2) (L := 5) rfl rfl (by decide) (by decide) rfl dX2_release_49 (by decide) (by decide) (np := 50) rfl ?_
        refine g_aload_n F dX2_release_50 rfl rfl (np := 51) rfl ?_
        refine g_aload_n F dX2_release_51 rfl rfl (np := 52) rfl ?_
        refine h_get F (k := 4) (v := .ref (ad 4)) (by decide) rfl q1550 dX2_release_52 (np := 55) rfl ?_
        refine g_iload_n F dX2_release_55 rfl rfl (np := 56) rfl ?_
        refine h_ald F (k := 4) (i := p.toNatClampNeg) (L := 15) (v := σ.2.1 4 p.toNatClampNeg) rfl rfl (by decide) (by omega) rfl rfl dX2_release_56 (by decide) (by decide) (np := 57) rfl ?_
        refine g_runV F (C := RX2) (ci := 2) (T0 := TX2) (N := 42) (rest := []) (ct_X2_highOf hE (sA (sA σ 3 (60 + p.toNatClampNeg) (nI (1))) 25 2 ((σ.2.1 25 2) + (nI (1)))) L (σ.2.1 4 p.toNatClampNeg) (by exact (hok.sA3 _ _).sA25 _ _)) (lw_V q1844 q1846 qs80 q102 q1847) hcV_X2_highOf ⟨Nat.le_of_ble_eq_true rfl, Nat.le_of_ble_eq_true rfl⟩ rfl (fun h hs => hs.obj) rfl rfl (Nat.le_of_ble_eq_true rfl) dX2_release_57 ⟨Nat.le_of_ble_eq_true rfl, Nat.le_of_ble_eq_true rfl⟩ (np := 60) rfl (k_RI ?_)
        have hσ : ((sA (sA σ 3 (60 + p.toNatClampNeg) (nI (1))) 25 2 ((σ.2.1 25 2) + (nI (1))))) = (gRel σ p) := by unfold gRel; rw [pif_t ⟨c5, c15, Int32.not_lt.mpr c24⟩]; rfl
        have hv : sHigh (mV (sA (sA σ 3 (60 + p.toNatClampNeg) (nI (1))) 25 2 ((σ.2.1 25 2) + (nI (1)))) L) ((sA (sA σ 3 (60 + p.toNatClampNeg) (nI (1))) 25 2 ((σ.2.1 25 2) + (nI (1)))).1 6) (σ.2.1 4 p.toNatClampNeg) = rRel (mV σ L) (σ.1 6) p := by unfold rRel; rw [pif_t (P := inN p (mV σ L).2.2.1) c5, pif_t ⟨c15, Int32.not_lt.mpr c24⟩]; exact rel_high (by omega) (by omega) _ _
        exact g_iret F hr rfl (Nat.le_of_ble_eq_true rfl) (Nat.le_of_ble_eq_true rfl) dX2_release_60 (fun h hs => by rw [← hT]; exact ⟨congrArg (fun z => some (Value.int z)) hv, (hσ ▸ hs)⟩)
      · refine g_bipush F (v := (-5)) dX2_release_27 (by decide) (np := 29) rfl ?_
        have hσ : σ = (gRel σ p) := by unfold gRel; first | (rw [pif_f (fun z => c15 z.2.1)]; done) | (rw [pif_f (fun z => z.2.2 (Int32.not_le.mp c24))]; done)
        have hv : -5 = rRel (mV σ L) (σ.1 6) p := by unfold rRel; rw [pif_t (P := inN p (mV σ L).2.2.1) c5]; first | (rw [pif_f (fun z => c15 z.1)]; done) | (rw [pif_f (fun z => z.2 (Int32.not_le.mp c24))]; done)
        exact g_iret F hr rfl (Nat.le_of_ble_eq_true rfl) (Nat.le_of_ble_eq_true rfl) dX2_release_29 (fun h hs => by rw [← hT]; exact ⟨congrArg (fun z => some (Value.int z)) hv, (hσ ▸ hs)⟩)
  · refine g_iconst F (v := (-1)) dX2_release_8 (by decide) (np := 9) rfl ?_
    have hσ : σ = (gRel σ p) := by unfold gRel; rw [pif_f (fun z => c5 z.1)]
    have hv : -1 = rRel (mV σ L) (σ.1 6) p := by unfold rRel; rw [pif_f (P := inN p (mV σ L).2.2.1) c5]
    exact g_iret F hr rfl (Nat.le_of_ble_eq_true rfl) (Nat.le_of_ble_eq_true rfl) dX2_release_9 (fun h hs => by rw [← hT]; exact ⟨congrArg (fun z => some (Value.int z)) hv, (hσ ▸ hs)⟩)

set_option maxRecDepth 100000 in
theorem ct_X2_days {l : Launch} {D : va_G} {E : State → Prop} {B : Nat} (hE : Stab E) {ad : Nat → Nat} {h0 : AH} (σ : MSt)  (n : Int32) (ht : σ.1 6 ≤ 99) : Ct l D E B yX2_days cX2_days 2 (some .int) 2 42 0 0 [.ref (ad 0), .int n] (MH D ad h0 σ) (RI (rDays (σ.1 6) n) (MH D ad h0 (gDays σ n))) := by
  refine Ct.of (nL := 2) (lv := [some (.ref (ad 0)), some (.int n)]) (by decide) (Nat.le_of_ble_eq_true rfl) hE 0 rfl ?_
  generalize hT : RI (rDays (σ.1 6) n) (MH D ad h0 (gDays σ n)) = T
  intro zp ze zs zm zb zt zc F hr hnm
  generalize ([.ref (ad 0), .int n] : List Value).toArray = za at F ⊢
  refine g_iload_n F dX2_days_0 rfl rfl (np := 1) rfl ?_
  refine g_iconst F (v := (nI 1)) dX2_days_1 (by decide) (np := 2) rfl ?_
  refine g_bipush F (v := (nI 99)) dX2_days_2 (by decide) (np := 4) rfl ?_
  refine g_runS F (rest := []) (ct_X2_within hE n (nI (1)) (nI (99)) ) (lw_S q1677 q1678 q102 q1679) hcS_X2_within ⟨Nat.le_of_ble_eq_true rfl, Nat.le_of_ble_eq_true rfl⟩ rfl rfl (Nat.le_of_ble_eq_true rfl) dX2_days_4 ⟨Nat.le_of_ble_eq_true rfl, Nat.le_of_ble_eq_true rfl⟩ (np := 7) rfl (k_RI ?_)
  refine g_if_neB F dX2_days_7 (tp := 12) (by decide) (np := 10) rfl (fun c7 => ?_) (fun c7 => ?_)
  · obtain ⟨hne, hnl⟩ := bt199 c7
    refine WG.eqv (lv' := [some (.ref (ad 0)), some (.int (nI (n.toNatClampNeg)))]) rfl (congrArg (fun z => ([some (.ref (ad 0)), some (.int z)] : List (Option Value))) (show n = (nI (n.toNatClampNeg)) from by exact hne)) ?_
    refine g_aload_n F dX2_days_12 rfl rfl (np := 13) rfl ?_
    refine g_aload_n F dX2_days_13 rfl rfl (np := 14) rfl ?_
    refine g_iload_n F dX2_days_14 rfl rfl (np := 15) rfl ?_
    refine g_runV F (C := RX2) (ci := 2) (T0 := TX2) (N := 42) (rest := [.ref (ad 0)]) (ct_X2_ahead hE σ n.toNatClampNeg (by omega) (by omega)) (lw_V q1836 q1838 qs78 q102 q1839) hcV_X2_ahead ⟨Nat.le_of_ble_eq_true rfl, Nat.le_of_ble_eq_true rfl⟩ rfl (fun h hs => hs.obj) rfl rfl (Nat.le_of_ble_eq_true rfl) dX2_days_15 ⟨Nat.le_of_ble_eq_true rfl, Nat.le_of_ble_eq_true rfl⟩ (np := 18) rfl (k_RI ?_)
    refine h_put F (k := 6) (n := day (σ.1 6) n.toNatClampNeg) (ty := .int) rfl (by decide) (mset_6 _ _ _) rfl rfl rfl rfl q1552 dX2_days_18 (np := 21) rfl ?_
    refine g_aload_n F dX2_days_21 rfl rfl (np := 22) rfl ?_
    refine h_get F (k := 25) (v := .ref (ad 25)) (by decide) rfl q1571 dX2_days_22 (np := 25) rfl ?_
    refine g_iconst F (v := (nI 4)) dX2_days_25 (by decide) (np := 26) rfl ?_
    refine g_dup2 F dX2_days_26 rfl rfl (np := 27) rfl ?_
    refine h_ald F (k := 25) (i := 4) (L := 5) (v := σ.2.1 25 4) rfl rfl (by decide) (by decide) rfl rfl dX2_days_27 (by decide) (by decide) (np := 28) rfl ?_
    refine g_iload_n F dX2_days_28 rfl rfl (np := 29) rfl ?_
    refine g_iadd F dX2_days_29 (np := 30) rfl ?_
    refine WG.eqv (st' := [.int (σ.2.1 25 4 + n), .int (nI 4), .ref (ad 25)]) (congrArg (fun z => ([.int z, .int (nI 4), .ref (ad 25)] : List Value)) (show ((σ.2.1 25 4) + (nI (n.toNatClampNeg))) = (σ.2.1 25 4 + n) from by rw [← hne])) rfl ?_
    refine h_ast F (k := 25) (i := 4) (L := 5) rfl rfl (by decide) (by decide) rfl dX2_days_30 (by decide) (by decide) (np := 31) rfl ?_
    refine g_aload_n F dX2_days_31 rfl rfl (np := 32) rfl ?_
    refine h_get F (k := 6) (v := .int (nI (day (σ.1 6) n.toNatClampNeg))) (by decide) rfl q1552 dX2_days_32 (np := 35) rfl ?_
    have hσ : (sA (sN σ 6 (day (σ.1 6) n.toNatClampNeg)) 25 4 (σ.2.1 25 4 + n)) = (gDays σ n) := by unfold gDays; rw [pif_t c7]
    have hv : nI (day (σ.1 6) n.toNatClampNeg) = rDays (σ.1 6) n := by unfold rDays; rw [pif_t c7]
    exact g_iret F hr rfl (Nat.le_of_ble_eq_true rfl) (Nat.le_of_ble_eq_true rfl) dX2_days_35 (fun h hs => by rw [← hT]; exact ⟨congrArg (fun z => some (Value.int z)) hv, (hσ ▸ hs)⟩)
  · refine g_iconst F (v := (-1)) dX2_days_10 (by decide) (np := 11) rfl ?_
    have hσ : σ = (gDays σ n) := by unfold gDays; rw [pif_f c7]
    have hv : -1 = rDays (σ.1 6) n := by unfold rDays; rw [pif_f c7]
    exact g_iret F hr rfl (Nat.le_of_ble_eq_true rfl) (Nat.le_of_ble_eq_true rfl) dX2_days_11 (fun h hs => by rw [← hT]; exact ⟨congrArg (fun z => some (Value.int z)) hv, (hσ ▸ hs)⟩)

set_option maxRecDepth 100000 in
theorem ct_X2_led {l : Launch} {D : va_G} {E : State → Prop} {B : Nat} (hE : Stab E) {ad : Nat → Nat} {h0 : AH} (σ : MSt)  (w : Int32) : Ct l D E B yX2_led cX2_led 2 (some .int) 1 22 0 0 [.ref (ad 0), .int w] (MH D ad h0 σ) (RI (rLed σ w) (MH D ad h0 σ)) := by
  refine Ct.of (nL := 2) (lv := [some (.ref (ad 0)), some (.int w)]) (by decide) (Nat.le_of_ble_eq_true rfl) hE 0 rfl ?_
  generalize hT : RI (rLed σ w) (MH D ad h0 σ) = T
  intro zp ze zs zm zb zt zc F hr hnm
  generalize ([.ref (ad 0), .int w] : List Value).toArray = za at F ⊢
  refine g_iload_n F dX2_led_0 rfl rfl (np := 1) rfl ?_
  refine g_iconst F (v := (nI 0)) dX2_led_1 (by decide) (np := 2) rfl ?_
  refine g_iconst F (v := (nI 4)) dX2_led_2 (by decide) (np := 3) rfl ?_
  refine g_runS F (rest := []) (ct_X2_within hE w (nI (0)) (nI (4)) ) (lw_S q1677 q1678 q102 q1679) hcS_X2_within ⟨Nat.le_of_ble_eq_true rfl, Nat.le_of_ble_eq_true rfl⟩ rfl rfl (Nat.le_of_ble_eq_true rfl) dX2_led_3 ⟨Nat.le_of_ble_eq_true rfl, Nat.le_of_ble_eq_true rfl⟩ (np := 6) rfl (k_RI ?_)
  refine g_if_eqB F dX2_led_6 (tp := 18) (by decide) (np := 9) rfl (fun c6 => ?_) (fun c6 => ?_)
  · refine g_iconst F (v := (-1)) dX2_led_18 (by decide) (np := 19) rfl ?_
    have hv : -1 = rLed σ w := by first | (unfold rLed; rw [pif_t k1]; done) | (unfold rLed; rw [pif_f (fun z => c6 ((btw_0 (n := 5) (by decide) (by decide)).mpr z))]; done)
    exact g_iret F hr rfl (Nat.le_of_ble_eq_true rfl) (Nat.le_of_ble_eq_true rfl) dX2_led_19 (fun h hs => by rw [← hT]; exact ⟨congrArg (fun z => some (Value.int z)) hv, hs⟩)
  · have k1 := (btw_0 (n := 5) (by decide) (by decide)).mp c6
    obtain ⟨hwl, hwe⟩ := inN_cl (by decide) k1
    refine WG.eqv (lv' := [some (.ref (ad 0)), some (.int (nI (w.toNatClampNeg)))]) rfl (congrArg (fun z => ([some (.ref (ad 0)), some (.int z)] : List (Option Value))) (show w = (nI (w.toNatClampNeg)) from by exact hwe)) ?_
    refine g_aload_n F dX2_led_9 rfl rfl (np := 10) rfl ?_
    refine h_get F (k := 25) (v := .ref (ad 25)) (by decide) rfl q1571 dX2_led_10 (np := 13) rfl ?_
    refine g_iload_n F dX2_led_13 rfl rfl (np := 14) rfl ?_
    refine h_ald F (k := 25) (i := w.toNatClampNeg) (L := 5) (v := σ.2.1 25 w.toNatClampNeg) rfl rfl (by decide) (by omega) rfl rfl dX2_led_14 (by decide) (by decide) (np := 15) rfl ?_
    refine g_goto F dX2_led_15 (np := 19) (by decide) ?_
    have hv : σ.2.1 25 w.toNatClampNeg = rLed σ w := by first | (unfold rLed; rw [pif_t k1]; done) | (unfold rLed; rw [pif_f (fun z => c6 ((btw_0 (n := 5) (by decide) (by decide)).mpr z))]; done)
    exact g_iret F hr rfl (Nat.le_of_ble_eq_true rfl) (Nat.le_of_ble_eq_true rfl) dX2_led_19 (fun h hs => by rw [← hT]; exact ⟨congrArg (fun z => some (Value.int z)) hv, hs⟩)
