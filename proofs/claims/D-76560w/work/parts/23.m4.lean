/-! WALKS (printed by walk.py): skyline, worthOf, highWithout, holder, ringOf, endOf, owed, holds -/
set_option maxRecDepth 100000
set_option maxRecDepth 100000 in
theorem ct_X2_skyline {l : Launch} {D : va_G} {E : State → Prop} {B : Nat} (hE : Stab E) {ad : Nat → Nat} {h0 : AH} (σ : MSt) (L : LawT) (w : Int32) (hok : mOK σ L) : Ct l D E B yX2_skyline cX2_skyline 5 (some .int) 6 137 0 0 [.ref (ad 0), .int w] (MH D ad h0 σ) (RI (rSky (mV σ L) (σ.1 6) (σ.1 0) w) (MH D ad h0 σ)) := by
  refine Ct.of (nL := 5) (lv := [some (.ref (ad 0)), some (.int w), none, none, none]) (by decide) (Nat.le_of_ble_eq_true rfl) hE 3 rfl ?_
  generalize hT : RI (rSky (mV σ L) (σ.1 6) (σ.1 0) w) (MH D ad h0 σ) = T
  intro zp ze zs zm zb zt zc F hr hnm
  generalize ([.ref (ad 0), .int w] : List Value).toArray = za at F ⊢
  have hok2 := hok
  obtain ⟨ho8, hm15, ht99, hby, hlaw⟩ := hok2
  refine g_iload_n F dX2_skyline_0 rfl rfl (np := 1) rfl ?_
  refine g_iconst F (v := (nI 0)) dX2_skyline_1 (by decide) (np := 2) rfl ?_
  refine g_iconst F (v := (nI 1)) dX2_skyline_2 (by decide) (np := 3) rfl ?_
  refine g_runS F (rest := []) (ct_X2_within hE w (nI (0)) (nI (1)) ) (lw_S q1677 q1678 q102 q1679) hcS_X2_within ⟨Nat.le_of_ble_eq_true rfl, Nat.le_of_ble_eq_true rfl⟩ rfl rfl (Nat.le_of_ble_eq_true rfl) dX2_skyline_3 ⟨Nat.le_of_ble_eq_true rfl, Nat.le_of_ble_eq_true rfl⟩ (np := 6) rfl (k_RI ?_)
  refine g_if_neB F dX2_skyline_6 (tp := 11) (by decide) (np := 9) rfl (fun c6 => ?_) (fun c6 => ?_)
  · refine g_iconst F (v := (nI 0)) dX2_skyline_11 (by decide) (np := 12) rfl ?_
    refine g_istore_n F (lv' := [some (.ref (ad 0)), some (.int w), some (.int (nI 0)), none, none]) dX2_skyline_12 rfl (by decide) rfl rfl (np := 13) rfl ?_
    refine g_bipush F (v := (-2)) dX2_skyline_13 (by decide) (np := 15) rfl ?_
    refine g_istore_n F (lv' := [some (.ref (ad 0)), some (.int w), some (.int (nI 0)), some (.int (-2)), none]) dX2_skyline_15 rfl (by decide) rfl rfl (np := 16) rfl ?_
    refine g_iconst F (v := (nI 0)) dX2_skyline_16 (by decide) (np := 17) rfl ?_
    refine g_istore F (lv' := [some (.ref (ad 0)), some (.int w), some (.int (nI 0)), some (.int (-2)), some (.int (nI 0))]) dX2_skyline_17 (by decide) rfl rfl (np := 19) rfl ?_
    have L19 : ∀ (zn : Nat) (b : Int32) (f : Int32) (o : Nat), (b = sSky (mV σ L) (σ.1 6) o) → (f = oI (sTallN (mV σ L) (σ.1 6) o)) → (o ≤ σ.1 0) → σ.1 0 - o < zn → WG zp l ze ({ frames := 6, cells := 0, slots := 0, locals := 137 } : Room) zs zm za zb zt zc D B 5 (MQ zb (QT D B T) za zs 0 0 (zA B)) (MH D ad h0 σ) 0 0 19 [some (.ref (ad 0)), some (.int w), some (.int b), some (.int f), some (.int (nI o))] [] := by
      intro zn
      induction zn with
      | zero => intro b f o h1 h2 h3 hm; exact absurd hm (Nat.not_lt_zero _)
      | succ zn ih19 =>
        intro b f o h1 h2 h3 hm
        refine g_iload F dX2_skyline_19 rfl (np := 21) rfl ?_
        refine g_aload_n F dX2_skyline_21 rfl rfl (np := 22) rfl ?_
        refine h_get F (k := 0) (v := .int (nI (σ.1 0))) (by decide) rfl q1546 dX2_skyline_22 (np := 25) rfl ?_
        refine g_icmp_geN F (by omega) (by omega) dX2_skyline_25 (tp := 67) (by decide) (np := 28) rfl (fun c25 => ?_) (fun c25 => ?_)
        · refine g_iload_n F dX2_skyline_67 rfl rfl (np := 68) rfl ?_
          refine g_if_ne F dX2_skyline_68 (tp := 75) (by decide) (np := 71) rfl (fun c68 => ?_) (fun c68 => ?_)
          · refine g_iload_n F dX2_skyline_75 rfl rfl (np := 76) rfl ?_
            have hv : f = rSky (mV σ L) (σ.1 6) (σ.1 0) w := by unfold rSky; rw [pif_t (bt1.mp c6)]; first | (rw [if_pos (by assumption), h1, show o = σ.1 0 by omega]; done) | (rw [if_neg (by assumption), h2, show o = σ.1 0 by omega]; done)
            exact g_iret F hr rfl (Nat.le_of_ble_eq_true rfl) (Nat.le_of_ble_eq_true rfl) dX2_skyline_76 (fun h hs => by rw [← hT]; exact ⟨congrArg (fun z => some (Value.int z)) hv, hs⟩)
          · refine g_iload_n F dX2_skyline_71 rfl rfl (np := 72) rfl ?_
            refine g_goto F dX2_skyline_72 (np := 76) (by decide) ?_
            have hv : b = rSky (mV σ L) (σ.1 6) (σ.1 0) w := by unfold rSky; rw [pif_t (bt1.mp c6)]; first | (rw [if_pos (by assumption), h1, show o = σ.1 0 by omega]; done) | (rw [if_neg (by assumption), h2, show o = σ.1 0 by omega]; done)
            exact g_iret F hr rfl (Nat.le_of_ble_eq_true rfl) (Nat.le_of_ble_eq_true rfl) dX2_skyline_76 (fun h hs => by rw [← hT]; exact ⟨congrArg (fun z => some (Value.int z)) hv, hs⟩)
        · refine g_iload_n F dX2_skyline_28 rfl rfl (np := 29) rfl ?_
          refine g_bipush F (v := (-2)) dX2_skyline_29 (by decide) (np := 31) rfl ?_
          refine g_icmp_eq F dX2_skyline_31 (tp := 51) (by decide) (np := 34) rfl (fun c31 => ?_) (fun c31 => ?_)
          · refine g_iload F dX2_skyline_51 rfl (np := 53) rfl ?_
            refine g_istore_n F (lv' := [some (.ref (ad 0)), some (.int w), some (.int b), some (.int (nI o)), some (.int (nI o))]) dX2_skyline_53 rfl (by decide) rfl rfl (np := 54) rfl ?_
            refine g_iload_n F dX2_skyline_54 rfl rfl (np := 55) rfl ?_
            refine g_iconst F (v := (nI 1)) dX2_skyline_55 (by decide) (np := 56) rfl ?_
            refine g_iload F dX2_skyline_56 rfl (np := 58) rfl ?_
            refine g_ishl F dX2_skyline_58 (np := 59) rfl ?_
            refine g_ior F dX2_skyline_59 (np := 60) rfl ?_
            refine g_istore_n F (lv' := [some (.ref (ad 0)), some (.int w), some (.int (b ||| ((nI (1)) <<< ((nI (o)) &&& 31)))), some (.int (nI o)), some (.int (nI o))]) dX2_skyline_60 rfl (by decide) rfl rfl (np := 61) rfl ?_
            refine g_iinc F (v := (nI (o + 1))) (lv' := [some (.ref (ad 0)), some (.int w), some (.int (b ||| ((nI (1)) <<< ((nI (o)) &&& 31)))), some (.int (nI o)), some (.int (nI (o + 1)))]) dX2_skyline_61 rfl (nI_add _ _) (by decide) rfl rfl (np := 64) rfl ?_
            refine g_goto F dX2_skyline_64 (np := 19) (by decide) ?_
            exact ih19 (b ||| ((nI (1)) <<< ((nI (o)) &&& 31))) (nI (o)) (o + 1) (by unfold sSky; first | (rw [oI_none (sTallN_lt _ _ o) (by omega) (h2.symm.trans c31)]; rw [h1]; done) | (rw [hr1]; simp only; rw [if_pos (Int32.not_le.mp c45), h1]; done) | (rw [hr1]; simp only; rw [if_pos c45, h1]; done) | (rw [hr1]; simp only; rw [if_neg c45, h1]; done)) (by unfold sTallN; first | (rw [oI_none (sTallN_lt _ _ o) (by omega) (h2.symm.trans c31)]; rfl) | (rw [hr1]; simp only; rw [if_pos c45]; rfl) | (rw [hr1]; simp only; rw [if_neg c45, h2, hr1])) (by first | assumption | omega) (by omega)
          · obtain ⟨r0, hr1, hr2, hr3⟩ := oI_some (sTallN_lt _ _ o) (by omega) (fun z => c31 (h2.trans z))
            refine g_aload_n F dX2_skyline_34 rfl rfl (np := 35) rfl ?_
            refine g_iload F dX2_skyline_35 rfl (np := 37) rfl ?_
            refine g_runV F (C := RX2) (ci := 2) (T0 := TX2) (N := 42) (rest := []) (ct_X2_highOf hE σ L (nI (o)) (by first | assumption | omega)) (lw_V q1844 q1846 qs80 q102 q1847) hcV_X2_highOf ⟨Nat.le_of_ble_eq_true rfl, Nat.le_of_ble_eq_true rfl⟩ rfl (fun h hs => hs.obj) rfl rfl (Nat.le_of_ble_eq_true rfl) dX2_skyline_37 ⟨Nat.le_of_ble_eq_true rfl, Nat.le_of_ble_eq_true rfl⟩ (np := 40) rfl (k_RI ?_)
            refine g_aload_n F dX2_skyline_40 rfl rfl (np := 41) rfl ?_
            refine g_iload_n F dX2_skyline_41 rfl rfl (np := 42) rfl ?_
            refine WG.eqv (st' := [.int (nI r0), .ref (ad 0), .int (sHigh (mV σ L) (σ.1 6) (nI (o)))]) (congrArg (fun z => ([.int z, .ref (ad 0), .int (sHigh (mV σ L) (σ.1 6) (nI (o)))] : List Value)) (show f = (nI r0) from by exact h2.trans hr2)) rfl ?_
            refine g_runV F (C := RX2) (ci := 2) (T0 := TX2) (N := 42) (rest := [.int (sHigh (mV σ L) (σ.1 6) (nI (o)))]) (ct_X2_highOf hE σ L (nI (r0)) (by first | assumption | omega)) (lw_V q1844 q1846 qs80 q102 q1847) hcV_X2_highOf ⟨Nat.le_of_ble_eq_true rfl, Nat.le_of_ble_eq_true rfl⟩ rfl (fun h hs => hs.obj) rfl rfl (Nat.le_of_ble_eq_true rfl) dX2_skyline_42 ⟨Nat.le_of_ble_eq_true rfl, Nat.le_of_ble_eq_true rfl⟩ (np := 45) rfl (k_RI ?_)
            refine g_icmp_gt F dX2_skyline_45 (tp := 51) (by decide) (np := 48) rfl (fun c45 => ?_) (fun c45 => ?_)
            · refine g_iload F dX2_skyline_51 rfl (np := 53) rfl ?_
              refine g_istore_n F (lv' := [some (.ref (ad 0)), some (.int w), some (.int b), some (.int (nI o)), some (.int (nI o))]) dX2_skyline_53 rfl (by decide) rfl rfl (np := 54) rfl ?_
              refine g_iload_n F dX2_skyline_54 rfl rfl (np := 55) rfl ?_
              refine g_iconst F (v := (nI 1)) dX2_skyline_55 (by decide) (np := 56) rfl ?_
              refine g_iload F dX2_skyline_56 rfl (np := 58) rfl ?_
              refine g_ishl F dX2_skyline_58 (np := 59) rfl ?_
              refine g_ior F dX2_skyline_59 (np := 60) rfl ?_
              refine g_istore_n F (lv' := [some (.ref (ad 0)), some (.int w), some (.int (b ||| ((nI (1)) <<< ((nI (o)) &&& 31)))), some (.int (nI o)), some (.int (nI o))]) dX2_skyline_60 rfl (by decide) rfl rfl (np := 61) rfl ?_
              refine g_iinc F (v := (nI (o + 1))) (lv' := [some (.ref (ad 0)), some (.int w), some (.int (b ||| ((nI (1)) <<< ((nI (o)) &&& 31)))), some (.int (nI o)), some (.int (nI (o + 1)))]) dX2_skyline_61 rfl (nI_add _ _) (by decide) rfl rfl (np := 64) rfl ?_
              refine g_goto F dX2_skyline_64 (np := 19) (by decide) ?_
              exact ih19 (b ||| ((nI (1)) <<< ((nI (o)) &&& 31))) (nI (o)) (o + 1) (by unfold sSky; first | (rw [oI_none (sTallN_lt _ _ o) (by omega) (h2.symm.trans c31)]; rw [h1]; done) | (rw [hr1]; simp only; rw [if_pos (Int32.not_le.mp c45), h1]; done) | (rw [hr1]; simp only; rw [if_pos c45, h1]; done) | (rw [hr1]; simp only; rw [if_neg c45, h1]; done)) (by unfold sTallN; first | (rw [oI_none (sTallN_lt _ _ o) (by omega) (h2.symm.trans c31)]; rfl) | (rw [hr1]; simp only; rw [if_pos c45]; rfl) | (rw [hr1]; simp only; rw [if_neg c45, h2, hr1])) (by first | assumption | omega) (by omega)
            · refine g_goto F dX2_skyline_48 (np := 61) (by decide) ?_
              refine g_iinc F (v := (nI (o + 1))) (lv' := [some (.ref (ad 0)), some (.int w), some (.int b), some (.int f), some (.int (nI (o + 1)))]) dX2_skyline_61 rfl (nI_add _ _) (by decide) rfl rfl (np := 64) rfl ?_
              refine g_goto F dX2_skyline_64 (np := 19) (by decide) ?_
              exact ih19 b f (o + 1) (by unfold sSky; first | (rw [oI_none (sTallN_lt _ _ o) (by omega) (h2.symm.trans c31)]; rw [h1]; done) | (rw [hr1]; simp only; rw [if_pos (Int32.not_le.mp c45), h1]; done) | (rw [hr1]; simp only; rw [if_pos c45, h1]; done) | (rw [hr1]; simp only; rw [if_neg c45, h1]; done)) (by unfold sTallN; first | (rw [oI_none (sTallN_lt _ _ o) (by omega) (h2.symm.trans c31)]; rfl) | (rw [hr1]; simp only; rw [if_pos c45]; rfl) | (rw [hr1]; simp only; rw [if_neg c45, h2, hr1])) (by first | assumption | omega) (by omega)
    exact L19 _ (nI (0)) (-2) 0 (by rfl) (by rfl) (by omega) (Nat.lt_succ_self _)
  · refine g_iconst F (v := (-1)) dX2_skyline_9 (by decide) (np := 10) rfl ?_
    have hv : -1 = rSky (mV σ L) (σ.1 6) (σ.1 0) w := by unfold rSky; rw [pif_f (fun z => c6 (bt1.mpr z))]
    exact g_iret F hr rfl (Nat.le_of_ble_eq_true rfl) (Nat.le_of_ble_eq_true rfl) dX2_skyline_10 (fun h hs => by rw [← hT]; exact ⟨congrArg (fun z => some (Value.int z)) hv, hs⟩)

set_option maxRecDepth 100000 in
theorem ct_X2_worthOf {l : Launch} {D : va_G} {E : State → Prop} {B : Nat} (hE : Stab E) {ad : Nat → Nat} {h0 : AH} (σ : MSt)  (set : Int32) (hm : σ.1 2 ≤ 15) : Ct l D E B yX2_worthOf cX2_worthOf 4 (some .int) 0 0 0 0 [.ref (ad 0), .int set] (MH D ad h0 σ) (RI (sWorth (mP σ) set (σ.1 2)) (MH D ad h0 σ)) := by
  refine Ct.of (nL := 4) (lv := [some (.ref (ad 0)), some (.int set), none, none]) (by decide) (Nat.le_of_ble_eq_true rfl) hE 2 rfl ?_
  generalize hT : RI (sWorth (mP σ) set (σ.1 2)) (MH D ad h0 σ) = T
  intro zp ze zs zm zb zt zc F hr hnm
  generalize ([.ref (ad 0), .int set] : List Value).toArray = za at F ⊢
  refine g_iconst F (v := (nI 0)) dX2_worthOf_0 (by decide) (np := 1) rfl ?_
  refine g_istore_n F (lv' := [some (.ref (ad 0)), some (.int set), some (.int (nI 0)), none]) dX2_worthOf_1 rfl (by decide) rfl rfl (np := 2) rfl ?_
  refine g_iconst F (v := (nI 0)) dX2_worthOf_2 (by decide) (np := 3) rfl ?_
  refine g_istore_n F (lv' := [some (.ref (ad 0)), some (.int set), some (.int (nI 0)), some (.int (nI 0))]) dX2_worthOf_3 rfl (by decide) rfl rfl (np := 4) rfl ?_
  have L4 : ∀ (zn : Nat) (a : Int32) (p : Nat), (a = sWorth (mP σ) set p) → (p ≤ σ.1 2) → σ.1 2 - p < zn → WG zp l ze ({ frames := 0, cells := 0, slots := 0, locals := 0 } : Room) zs zm za zb zt zc D B 4 (MQ zb (QT D B T) za zs 0 0 (zA B)) (MH D ad h0 σ) 0 0 4 [some (.ref (ad 0)), some (.int set), some (.int a), some (.int (nI p))] [] := by
    intro zn
    induction zn with
    | zero => intro a p h1 h2 hm; exact absurd hm (Nat.not_lt_zero _)
    | succ zn ih4 =>
      intro a p h1 h2 hm
      refine g_iload_n F dX2_worthOf_4 rfl rfl (np := 5) rfl ?_
      refine g_aload_n F dX2_worthOf_5 rfl rfl (np := 6) rfl ?_
      refine h_get F (k := 2) (v := .int (nI (σ.1 2))) (by decide) rfl q1548 dX2_worthOf_6 (np := 9) rfl ?_
      refine g_icmp_geN F (by omega) (by omega) dX2_worthOf_9 (tp := 36) (by decide) (np := 12) rfl (fun c9 => ?_) (fun c9 => ?_)
      · refine g_iload_n F dX2_worthOf_36 rfl rfl (np := 37) rfl ?_
        have hv : a = sWorth (mP σ) set (σ.1 2) := by rw [h1, show p = σ.1 2 by omega]
        exact g_iret F hr rfl (Nat.le_of_ble_eq_true rfl) (Nat.le_of_ble_eq_true rfl) dX2_worthOf_37 (fun h hs => by rw [← hT]; exact ⟨congrArg (fun z => some (Value.int z)) hv, hs⟩)
      · refine g_iload_n F dX2_worthOf_12 rfl rfl (np := 13) rfl ?_
        refine g_iload_n F dX2_worthOf_13 rfl rfl (np := 14) rfl ?_
        refine g_ishr F dX2_worthOf_14 (np := 15) rfl ?_
        refine g_iconst F (v := (nI 1)) dX2_worthOf_15 (by decide) (np := 16) rfl ?_
        refine g_iand F dX2_worthOf_16 (np := 17) rfl ?_
        refine g_iconst F (v := (nI 1)) dX2_worthOf_17 (by decide) (np := 18) rfl ?_
        refine g_icmp_ne F dX2_worthOf_18 (tp := 30) (by decide) (np := 21) rfl (fun c18 => ?_) (fun c18 => ?_)
        · refine g_iinc F (v := (nI (p + 1))) (lv' := [some (.ref (ad 0)), some (.int set), some (.int a), some (.int (nI (p + 1)))]) dX2_worthOf_30 rfl (nI_add _ _) (by decide) rfl rfl (np := 33) rfl ?_
          refine g_goto F dX2_worthOf_33 (np := 4) (by decide) ?_
          exact ih4 a (p + 1) (by unfold sWorth; first | (rw [pif_f (P := jbit set p) c18, h1]; done) | (rw [pif_t (P := jbit set p) c18, h1, mP_2]; done)) (by first | assumption | omega) (by omega)
        · refine g_iload_n F dX2_worthOf_21 rfl rfl (np := 22) rfl ?_
          refine g_aload_n F dX2_worthOf_22 rfl rfl (np := 23) rfl ?_
          refine h_get F (k := 3) (v := .ref (ad 3)) (by decide) rfl q1549 dX2_worthOf_23 (np := 26) rfl ?_
          refine g_iload_n F dX2_worthOf_26 rfl rfl (np := 27) rfl ?_
          refine h_ald F (k := 3) (i := p) (L := 75) (v := σ.2.1 3 p) rfl rfl (by decide) (by omega) rfl rfl dX2_worthOf_27 (by decide) (by decide) (np := 28) rfl ?_
          refine g_iadd F dX2_worthOf_28 (np := 29) rfl ?_
          refine g_istore_n F (lv' := [some (.ref (ad 0)), some (.int set), some (.int (a + (σ.2.1 3 p))), some (.int (nI p))]) dX2_worthOf_29 rfl (by decide) rfl rfl (np := 30) rfl ?_
          refine g_iinc F (v := (nI (p + 1))) (lv' := [some (.ref (ad 0)), some (.int set), some (.int (a + (σ.2.1 3 p))), some (.int (nI (p + 1)))]) dX2_worthOf_30 rfl (nI_add _ _) (by decide) rfl rfl (np := 33) rfl ?_
          refine g_goto F dX2_worthOf_33 (np := 4) (by decide) ?_
          exact ih4 (a + (σ.2.1 3 p)) (p + 1) (by unfold sWorth; first | (rw [pif_f (P := jbit set p) c18, h1]; done) | (rw [pif_t (P := jbit set p) c18, h1, mP_2]; done)) (by first | assumption | omega) (by omega)
  exact L4 _ (nI (0)) 0 (by rfl) (by omega) (Nat.lt_succ_self _)

set_option maxRecDepth 100000 in
theorem ct_X2_highWithout {l : Launch} {D : va_G} {E : State → Prop} {B : Nat} (hE : Stab E) {ad : Nat → Nat} {h0 : AH} (σ : MSt) (L : LawT) (o : Int32) (set : Int32) (hok : mOK σ L) (hz : ∀ p, p < σ.1 2 → jbit set p → mP σ p 6 = 0) : Ct l D E B yX2_highWithout cX2_highWithout 5 (some .int) 6 137 0 0 [.ref (ad 0), .int o, .int set] (MH D ad h0 σ) (RI (sHighW (mV σ L) (σ.1 6) set o) (MH D ad h0 σ)) := by
  refine Ct.of (nL := 5) (lv := [some (.ref (ad 0)), some (.int o), some (.int set), none, none]) (by decide) (Nat.le_of_ble_eq_true rfl) hE 2 rfl ?_
  generalize hT : RI (sHighW (mV σ L) (σ.1 6) set o) (MH D ad h0 σ) = T
  intro zp ze zs zm zb zt zc F hr hnm
  generalize ([.ref (ad 0), .int o, .int set] : List Value).toArray = za at F ⊢
  have hok2 := hok
  obtain ⟨ho8, hm15, ht99, hby, hlaw⟩ := hok2
  refine WG.weak (S' := MH D ad h0 (dnS σ set 0 0)) (fun h hs => by rw [show (dnS σ set 0 0) = σ from by exact dnS_0 _ _ (Nat.le_refl _)]; exact hs) ?_
  refine g_iconst F (v := (nI 0)) dX2_highWithout_0 (by decide) (np := 1) rfl ?_
  refine g_istore_n F (lv' := [some (.ref (ad 0)), some (.int o), some (.int set), some (.int (nI 0)), none]) dX2_highWithout_1 rfl (by decide) rfl rfl (np := 2) rfl ?_
  have L2 : ∀ (zn : Nat) (p : Nat), (p ≤ σ.1 2) → σ.1 2 - p < zn → WG zp l ze ({ frames := 6, cells := 0, slots := 0, locals := 137 } : Room) zs zm za zb zt zc D B 5 (MQ zb (QT D B T) za zs 0 0 (zA B)) (MH D ad h0 (dnS σ set 0 p)) 0 0 2 [some (.ref (ad 0)), some (.int o), some (.int set), some (.int (nI p)), none] [] := by
    intro zn
    induction zn with
    | zero => intro p h2 hm; exact absurd hm (Nat.not_lt_zero _)
    | succ zn ih2 =>
      intro p h2 hm
      refine g_iload_n F dX2_highWithout_2 rfl rfl (np := 3) rfl ?_
      refine g_aload_n F dX2_highWithout_3 rfl rfl (np := 4) rfl ?_
      refine h_get F (k := 2) (v := .int (nI (σ.1 2))) (by decide) rfl q1548 dX2_highWithout_4 (np := 7) rfl ?_
      refine g_icmp_geN F (by omega) (by omega) dX2_highWithout_7 (tp := 35) (by decide) (np := 10) rfl (fun c7 => ?_) (fun c7 => ?_)
      · have hpe : p = σ.1 2 := by omega
        refine WG.weak (S' := MH D ad h0 (dnS σ set 0 (σ.1 2))) (fun h hs => by rw [show (dnS σ set 0 (σ.1 2)) = (dnS σ set 0 p) from by rw [hpe]]; exact hs) ?_
        refine g_aload_n F dX2_highWithout_35 rfl rfl (np := 36) rfl ?_
        refine g_iload_n F dX2_highWithout_36 rfl rfl (np := 37) rfl ?_
        refine g_runV F (C := RX2) (ci := 2) (T0 := TX2) (N := 42) (rest := []) (ct_X2_highOf hE (dnS σ set 0 (σ.1 2)) L o (by exact hok.same rfl (fun k hk => dnS_ne _ _ _ _ hk))) (lw_V q1844 q1846 qs80 q102 q1847) hcV_X2_highOf ⟨Nat.le_of_ble_eq_true rfl, Nat.le_of_ble_eq_true rfl⟩ rfl (fun h hs => hs.obj) rfl rfl (Nat.le_of_ble_eq_true rfl) dX2_highWithout_37 ⟨Nat.le_of_ble_eq_true rfl, Nat.le_of_ble_eq_true rfl⟩ (np := 40) rfl (k_RI ?_)
        refine g_istore_n F (lv' := [some (.ref (ad 0)), some (.int o), some (.int set), some (.int (sHigh (mV (dnS σ set 0 (σ.1 2)) L) ((dnS σ set 0 (σ.1 2)).1 6) o)), none]) dX2_highWithout_40 rfl (by decide) rfl rfl (np := 41) rfl ?_
        refine g_iconst F (v := (nI 0)) dX2_highWithout_41 (by decide) (np := 42) rfl ?_
        refine g_istore F (lv' := [some (.ref (ad 0)), some (.int o), some (.int set), some (.int (sHigh (mV (dnS σ set 0 (σ.1 2)) L) ((dnS σ set 0 (σ.1 2)).1 6) o)), some (.int (nI 0))]) dX2_highWithout_42 (by decide) rfl rfl (np := 44) rfl ?_
        have L44 : ∀ (zn : Nat) (q : Nat), (q ≤ σ.1 2) → σ.1 2 - q < zn → WG zp l ze ({ frames := 6, cells := 0, slots := 0, locals := 137 } : Room) zs zm za zb zt zc D B 5 (MQ zb (QT D B T) za zs 0 0 (zA B)) (MH D ad h0 (dnS σ set q (σ.1 2))) 0 0 44 [some (.ref (ad 0)), some (.int o), some (.int set), some (.int (sHigh (mV (dnS σ set 0 (σ.1 2)) L) ((dnS σ set 0 (σ.1 2)).1 6) o)), some (.int (nI q))] [] := by
          intro zn
          induction zn with
          | zero => intro q g2 hm; exact absurd hm (Nat.not_lt_zero _)
          | succ zn ih44 =>
            intro q g2 hm
            refine g_iload F dX2_highWithout_44 rfl (np := 46) rfl ?_
            refine g_aload_n F dX2_highWithout_46 rfl rfl (np := 47) rfl ?_
            refine h_get F (k := 2) (v := .int (nI (σ.1 2))) (by decide) rfl q1548 dX2_highWithout_47 (np := 50) rfl ?_
            refine g_icmp_geN F (by omega) (by omega) dX2_highWithout_50 (tp := 80) (by decide) (np := 53) rfl (fun c50 => ?_) (fun c50 => ?_)
            · have hqe : q = σ.1 2 := by omega
              refine WG.weak (S' := MH D ad h0 σ) (fun h hs => by rw [show σ = (dnS σ set q (σ.1 2)) from by rw [hqe]; exact (dnS_0 _ _ (Nat.le_refl _)).symm]; exact hs) ?_
              refine g_iload_n F dX2_highWithout_80 rfl rfl (np := 81) rfl ?_
              have hv : sHigh (mV (dnS σ set 0 (σ.1 2)) L) ((dnS σ set 0 (σ.1 2)).1 6) o = sHighW (mV σ L) (σ.1 6) set o := by exact sHighW_dn (by omega) set (σ.1 6) o
              exact g_iret F hr rfl (Nat.le_of_ble_eq_true rfl) (Nat.le_of_ble_eq_true rfl) dX2_highWithout_81 (fun h hs => by rw [← hT]; exact ⟨congrArg (fun z => some (Value.int z)) hv, hs⟩)
            · refine g_iload_n F dX2_highWithout_53 rfl rfl (np := 54) rfl ?_
              refine g_iload F dX2_highWithout_54 rfl (np := 56) rfl ?_
              refine g_ishr F dX2_highWithout_56 (np := 57) rfl ?_
              refine g_iconst F (v := (nI 1)) dX2_highWithout_57 (by decide) (np := 58) rfl ?_
              refine g_iand F dX2_highWithout_58 (np := 59) rfl ?_
              refine g_iconst F (v := (nI 1)) dX2_highWithout_59 (by decide) (np := 60) rfl ?_
              refine g_icmp_ne F dX2_highWithout_60 (tp := 74) (by decide) (np := 63) rfl (fun c60 => ?_) (fun c60 => ?_)
              · refine g_iinc F (v := (nI (q + 1))) (lv' := [some (.ref (ad 0)), some (.int o), some (.int set), some (.int (sHigh (mV (dnS σ set 0 (σ.1 2)) L) ((dnS σ set 0 (σ.1 2)).1 6) o)), some (.int (nI (q + 1)))]) dX2_highWithout_74 rfl (nI_add _ _) (by decide) rfl rfl (np := 77) rfl ?_
                refine g_goto F dX2_highWithout_77 (np := 44) (by decide) ?_
                refine WG.weak (S' := MH D ad h0 (dnS σ set (q + 1) (σ.1 2))) (fun h hs => by first | (have z6 := hz q (by omega) ‹jbit set q›; rw [mP_6] at z6; rw [← dnS_back σ set z6]; exact hs) | (rw [← dnS_skip2 σ set ‹¬ jbit set q›]; exact hs)) ?_
                exact ih44 (q + 1) (by first | assumption | omega) (by omega)
              · refine g_aload_n F dX2_highWithout_63 rfl rfl (np := 64) rfl ?_
                refine h_get F (k := 3) (v := .ref (ad 3)) (by decide) rfl q1549 dX2_highWithout_64 (np := 67) rfl ?_
                refine g_bipush F (v := (nI 60)) dX2_highWithout_67 (by decide) (np := 69) rfl ?_
                refine g_iload F dX2_highWithout_69 rfl (np := 71) rfl ?_
                refine g_iaddN F dX2_highWithout_71 (np := 72) rfl ?_
                refine g_iconst F (v := (nI 0)) dX2_highWithout_72 (by decide) (np := 73) rfl ?_
                refine h_ast F (k := 3) (i := 60 + q) (L := 75) rfl rfl (by decide) (by omega) rfl dX2_highWithout_73 (by decide) (by decide) (np := 74) rfl ?_
                refine g_iinc F (v := (nI (q + 1))) (lv' := [some (.ref (ad 0)), some (.int o), some (.int set), some (.int (sHigh (mV (dnS σ set 0 (σ.1 2)) L) ((dnS σ set 0 (σ.1 2)).1 6) o)), some (.int (nI (q + 1)))]) dX2_highWithout_74 rfl (nI_add _ _) (by decide) rfl rfl (np := 77) rfl ?_
                refine g_goto F dX2_highWithout_77 (np := 44) (by decide) ?_
                refine WG.weak (S' := MH D ad h0 (dnS σ set (q + 1) (σ.1 2))) (fun h hs => by first | (have z6 := hz q (by omega) ‹jbit set q›; rw [mP_6] at z6; rw [← dnS_back σ set z6]; exact hs) | (rw [← dnS_skip2 σ set ‹¬ jbit set q›]; exact hs)) ?_
                exact ih44 (q + 1) (by first | assumption | omega) (by omega)
        exact L44 _ 0 (by omega) (Nat.lt_succ_self _)
      · refine g_iload_n F dX2_highWithout_10 rfl rfl (np := 11) rfl ?_
        refine g_iload_n F dX2_highWithout_11 rfl rfl (np := 12) rfl ?_
        refine g_ishr F dX2_highWithout_12 (np := 13) rfl ?_
        refine g_iconst F (v := (nI 1)) dX2_highWithout_13 (by decide) (np := 14) rfl ?_
        refine g_iand F dX2_highWithout_14 (np := 15) rfl ?_
        refine g_iconst F (v := (nI 1)) dX2_highWithout_15 (by decide) (np := 16) rfl ?_
        refine g_icmp_ne F dX2_highWithout_16 (tp := 29) (by decide) (np := 19) rfl (fun c16 => ?_) (fun c16 => ?_)
        · refine g_iinc F (v := (nI (p + 1))) (lv' := [some (.ref (ad 0)), some (.int o), some (.int set), some (.int (nI (p + 1))), none]) dX2_highWithout_29 rfl (nI_add _ _) (by decide) rfl rfl (np := 32) rfl ?_
          refine g_goto F dX2_highWithout_32 (np := 2) (by decide) ?_
          refine WG.weak (S' := MH D ad h0 (dnS σ set 0 (p + 1))) (fun h hs => by first | (rw [← dnS_add σ set ‹jbit set p›]; exact hs) | (rw [← dnS_skip σ set ‹¬ jbit set p›]; exact hs)) ?_
          exact ih2 (p + 1) (by first | assumption | omega) (by omega)
        · refine g_aload_n F dX2_highWithout_19 rfl rfl (np := 20) rfl ?_
          refine h_get F (k := 3) (v := .ref (ad 3)) (by decide) rfl q1549 dX2_highWithout_20 (np := 23) rfl ?_
          refine g_bipush F (v := (nI 60)) dX2_highWithout_23 (by decide) (np := 25) rfl ?_
          refine g_iload_n F dX2_highWithout_25 rfl rfl (np := 26) rfl ?_
          refine g_iaddN F dX2_highWithout_26 (np := 27) rfl ?_
          refine g_iconst F (v := (nI 1)) dX2_highWithout_27 (by decide) (np := 28) rfl ?_
          refine h_ast F (k := 3) (i := 60 + p) (L := 75) rfl rfl (by decide) (by omega) rfl dX2_highWithout_28 (by decide) (by decide) (np := 29) rfl ?_
          refine g_iinc F (v := (nI (p + 1))) (lv' := [some (.ref (ad 0)), some (.int o), some (.int set), some (.int (nI (p + 1))), none]) dX2_highWithout_29 rfl (nI_add _ _) (by decide) rfl rfl (np := 32) rfl ?_
          refine g_goto F dX2_highWithout_32 (np := 2) (by decide) ?_
          refine WG.weak (S' := MH D ad h0 (dnS σ set 0 (p + 1))) (fun h hs => by first | (rw [← dnS_add σ set ‹jbit set p›]; exact hs) | (rw [← dnS_skip σ set ‹¬ jbit set p›]; exact hs)) ?_
          exact ih2 (p + 1) (by first | assumption | omega) (by omega)
  exact L2 _ 0 (by omega) (Nat.lt_succ_self _)

set_option maxRecDepth 100000 in
theorem ct_X2_holder {l : Launch} {D : va_G} {E : State → Prop} {B : Nat} (hE : Stab E) {ad : Nat → Nat} {h0 : AH} (σ : MSt) (L : LawT) (o : Int32) (hok : mOK σ L) : Ct l D E B yX2_holder cX2_holder 3 (some .int) 5 115 0 0 [.ref (ad 0), .int o] (MH D ad h0 σ) (RI (sHold (mV σ L) (σ.1 6) o) (MH D ad h0 σ)) := by
  refine Ct.of (nL := 3) (lv := [some (.ref (ad 0)), some (.int o), none]) (by decide) (Nat.le_of_ble_eq_true rfl) hE 1 rfl ?_
  generalize hT : RI (sHold (mV σ L) (σ.1 6) o) (MH D ad h0 σ) = T
  intro zp ze zs zm zb zt zc F hr hnm
  generalize ([.ref (ad 0), .int o] : List Value).toArray = za at F ⊢
  have hok2 := hok
  obtain ⟨ho8, hm15, ht99, hby, hlaw⟩ := hok2
  refine g_aload_n F dX2_holder_0 rfl rfl (np := 1) rfl ?_
  refine g_iload_n F dX2_holder_1 rfl rfl (np := 2) rfl ?_
  refine g_runV F (C := RX2) (ci := 2) (T0 := TX2) (N := 42) (rest := []) (ct_X2_roofOf hE σ L o (by first | assumption | omega)) (lw_V q1848 q1850 qs81 q102 q1851) hcV_X2_roofOf ⟨Nat.le_of_ble_eq_true rfl, Nat.le_of_ble_eq_true rfl⟩ rfl (fun h hs => hs.obj) rfl rfl (Nat.le_of_ble_eq_true rfl) dX2_holder_2 ⟨Nat.le_of_ble_eq_true rfl, Nat.le_of_ble_eq_true rfl⟩ (np := 5) rfl (k_RI ?_)
  refine g_istore_n F (lv' := [some (.ref (ad 0)), some (.int o), some (.int (oI (sRoof (mV σ L) (σ.1 6) o)))]) dX2_holder_5 rfl (by decide) rfl rfl (np := 6) rfl ?_
  refine g_iload_n F dX2_holder_6 rfl rfl (np := 7) rfl ?_
  refine g_bipush F (v := (-2)) dX2_holder_7 (by decide) (np := 9) rfl ?_
  refine g_icmp_eq F dX2_holder_9 (tp := 21) (by decide) (np := 12) rfl (fun c9 => ?_) (fun c9 => ?_)
  · refine g_bipush F (v := (-2)) dX2_holder_21 (by decide) (np := 23) rfl ?_
    refine g_goto F dX2_holder_23 (np := 32) (by decide) ?_
    have hv : -2 = sHold (mV σ L) (σ.1 6) o := by first | (unfold sHold; rw [oI_none (r := sRoof (mV σ L) (σ.1 6) o) (sRoofN_lt _ _ _ (σ.1 2)) (by omega) c9]; done) | (unfold sHold; rw [show sRoof (mV σ L) (σ.1 6) o = some r0 from hr1]; show _ = (if σ.2.1 5 r0 < 0 then (-2 : Int32) else σ.2.1 5 r0); rw [if_pos (Int32.not_le.mp c18)]; done) | (unfold sHold; rw [show sRoof (mV σ L) (σ.1 6) o = some r0 from hr1]; show _ = (if σ.2.1 5 r0 < 0 then (-2 : Int32) else σ.2.1 5 r0); rw [if_neg (Int32.not_lt.mpr c18)])
    exact g_iret F hr rfl (Nat.le_of_ble_eq_true rfl) (Nat.le_of_ble_eq_true rfl) dX2_holder_32 (fun h hs => by rw [← hT]; exact ⟨congrArg (fun z => some (Value.int z)) hv, hs⟩)
  · obtain ⟨r0, hr1, hr2, hr3⟩ := oI_some (sRoofN_lt _ _ _ (σ.1 2)) (by omega) c9
    refine WG.eqv (lv' := [some (.ref (ad 0)), some (.int o), some (.int (nI r0))]) rfl (congrArg (fun z => ([some (.ref (ad 0)), some (.int o), some (.int z)] : List (Option Value))) (show (oI (sRoof (mV σ L) (σ.1 6) o)) = (nI r0) from by exact hr2)) ?_
    refine g_aload_n F dX2_holder_12 rfl rfl (np := 13) rfl ?_
    refine h_get F (k := 5) (v := .ref (ad 5)) (by decide) rfl q1551 dX2_holder_13 (np := 16) rfl ?_
    refine g_iload_n F dX2_holder_16 rfl rfl (np := 17) rfl ?_
    refine h_ald F (k := 5) (i := r0) (L := 15) (v := σ.2.1 5 r0) rfl rfl (by decide) (by omega) rfl rfl dX2_holder_17 (by decide) (by decide) (np := 18) rfl ?_
    refine g_if_ge F dX2_holder_18 (tp := 26) (by decide) (np := 21) rfl (fun c18 => ?_) (fun c18 => ?_)
    · refine g_aload_n F dX2_holder_26 rfl rfl (np := 27) rfl ?_
      refine h_get F (k := 5) (v := .ref (ad 5)) (by decide) rfl q1551 dX2_holder_27 (np := 30) rfl ?_
      refine g_iload_n F dX2_holder_30 rfl rfl (np := 31) rfl ?_
      refine h_ald F (k := 5) (i := r0) (L := 15) (v := σ.2.1 5 r0) rfl rfl (by decide) (by omega) rfl rfl dX2_holder_31 (by decide) (by decide) (np := 32) rfl ?_
      have hv : σ.2.1 5 r0 = sHold (mV σ L) (σ.1 6) o := by first | (unfold sHold; rw [oI_none (r := sRoof (mV σ L) (σ.1 6) o) (sRoofN_lt _ _ _ (σ.1 2)) (by omega) c9]; done) | (unfold sHold; rw [show sRoof (mV σ L) (σ.1 6) o = some r0 from hr1]; show _ = (if σ.2.1 5 r0 < 0 then (-2 : Int32) else σ.2.1 5 r0); rw [if_pos (Int32.not_le.mp c18)]; done) | (unfold sHold; rw [show sRoof (mV σ L) (σ.1 6) o = some r0 from hr1]; show _ = (if σ.2.1 5 r0 < 0 then (-2 : Int32) else σ.2.1 5 r0); rw [if_neg (Int32.not_lt.mpr c18)])
      exact g_iret F hr rfl (Nat.le_of_ble_eq_true rfl) (Nat.le_of_ble_eq_true rfl) dX2_holder_32 (fun h hs => by rw [← hT]; exact ⟨congrArg (fun z => some (Value.int z)) hv, hs⟩)
    · refine g_bipush F (v := (-2)) dX2_holder_21 (by decide) (np := 23) rfl ?_
      refine g_goto F dX2_holder_23 (np := 32) (by decide) ?_
      have hv : -2 = sHold (mV σ L) (σ.1 6) o := by first | (unfold sHold; rw [oI_none (r := sRoof (mV σ L) (σ.1 6) o) (sRoofN_lt _ _ _ (σ.1 2)) (by omega) c9]; done) | (unfold sHold; rw [show sRoof (mV σ L) (σ.1 6) o = some r0 from hr1]; show _ = (if σ.2.1 5 r0 < 0 then (-2 : Int32) else σ.2.1 5 r0); rw [if_pos (Int32.not_le.mp c18)]; done) | (unfold sHold; rw [show sRoof (mV σ L) (σ.1 6) o = some r0 from hr1]; show _ = (if σ.2.1 5 r0 < 0 then (-2 : Int32) else σ.2.1 5 r0); rw [if_neg (Int32.not_lt.mpr c18)])
      exact g_iret F hr rfl (Nat.le_of_ble_eq_true rfl) (Nat.le_of_ble_eq_true rfl) dX2_holder_32 (fun h hs => by rw [← hT]; exact ⟨congrArg (fun z => some (Value.int z)) hv, hs⟩)

set_option maxRecDepth 100000 in
theorem ct_X2_ringOf {l : Launch} {D : va_G} {E : State → Prop} {B : Nat} (hE : Stab E) {ad : Nat → Nat} {h0 : AH} (σ : MSt) (L : LawT) (o : Int32) (hok : mOK σ L) : Ct l D E B yX2_ringOf cX2_ringOf 4 (some .int) 6 137 0 0 [.ref (ad 0), .int o] (MH D ad h0 σ) (RI (sRing (mV σ L) (σ.1 6) o (σ.1 0) 1 (sHold (mV σ L) (σ.1 6) o)) (MH D ad h0 σ)) := by
  refine Ct.of (nL := 4) (lv := [some (.ref (ad 0)), some (.int o), none, none]) (by decide) (Nat.le_of_ble_eq_true rfl) hE 2 rfl ?_
  generalize hT : RI (sRing (mV σ L) (σ.1 6) o (σ.1 0) 1 (sHold (mV σ L) (σ.1 6) o)) (MH D ad h0 σ) = T
  intro zp ze zs zm zb zt zc F hr hnm
  generalize ([.ref (ad 0), .int o] : List Value).toArray = za at F ⊢
  have hok2 := hok
  obtain ⟨ho8, hm15, ht99, hby, hlaw⟩ := hok2
  refine g_aload_n F dX2_ringOf_0 rfl rfl (np := 1) rfl ?_
  refine g_iload_n F dX2_ringOf_1 rfl rfl (np := 2) rfl ?_
  refine g_runV F (C := RX2) (ci := 2) (T0 := TX2) (N := 42) (rest := []) (ct_X2_holder hE σ L o (by first | assumption | omega)) (lw_V q1897 q1899 qs85 q102 q1900) hcV_X2_holder ⟨Nat.le_of_ble_eq_true rfl, Nat.le_of_ble_eq_true rfl⟩ rfl (fun h hs => hs.obj) rfl rfl (Nat.le_of_ble_eq_true rfl) dX2_ringOf_2 ⟨Nat.le_of_ble_eq_true rfl, Nat.le_of_ble_eq_true rfl⟩ (np := 5) rfl (k_RI ?_)
  refine g_istore_n F (lv' := [some (.ref (ad 0)), some (.int o), some (.int (sHold (mV σ L) (σ.1 6) o)), none]) dX2_ringOf_5 rfl (by decide) rfl rfl (np := 6) rfl ?_
  refine g_iconst F (v := (nI 1)) dX2_ringOf_6 (by decide) (np := 7) rfl ?_
  refine g_istore_n F (lv' := [some (.ref (ad 0)), some (.int o), some (.int (sHold (mV σ L) (σ.1 6) o)), some (.int (nI 1))]) dX2_ringOf_7 rfl (by decide) rfl rfl (np := 8) rfl ?_
  have L8 : ∀ (zn : Nat) (q : Int32) (k : Nat), (sRing (mV σ L) (σ.1 6) o (σ.1 0 + 1 - k) k q = sRing (mV σ L) (σ.1 6) o (σ.1 0) 1 (sHold (mV σ L) (σ.1 6) o)) → (1 ≤ k ∧ k ≤ σ.1 0 + 1) → σ.1 0 + 1 - k < zn → WG zp l ze ({ frames := 6, cells := 0, slots := 0, locals := 137 } : Room) zs zm za zb zt zc D B 4 (MQ zb (QT D B T) za zs 0 0 (zA B)) (MH D ad h0 σ) 0 0 8 [some (.ref (ad 0)), some (.int o), some (.int q), some (.int (nI k))] [] := by
    intro zn
    induction zn with
    | zero => intro q k h1 h2 hm; exact absurd hm (Nat.not_lt_zero _)
    | succ zn ih8 =>
      intro q k h1 h2 hm
      refine g_iload_n F dX2_ringOf_8 rfl rfl (np := 9) rfl ?_
      refine g_aload_n F dX2_ringOf_9 rfl rfl (np := 10) rfl ?_
      refine h_get F (k := 0) (v := .int (nI (σ.1 0))) (by decide) rfl q1546 dX2_ringOf_10 (np := 13) rfl ?_
      refine g_icmp_gtN F (by omega) (by omega) dX2_ringOf_13 (tp := 41) (by decide) (np := 16) rfl (fun c13 => ?_) (fun c13 => ?_)
      · refine g_bipush F (v := (-2)) dX2_ringOf_41 (by decide) (np := 43) rfl ?_
        have hv : -2 = sRing (mV σ L) (σ.1 6) o (σ.1 0) 1 (sHold (mV σ L) (σ.1 6) o) := by first | (rw [← h1, show σ.1 0 + 1 - k = 0 by omega]; rfl) | (rw [← h1, show σ.1 0 + 1 - k = (σ.1 0 + 1 - (k + 1)) + 1 by omega, sRing_s, if_pos c19])
        exact g_iret F hr rfl (Nat.le_of_ble_eq_true rfl) (Nat.le_of_ble_eq_true rfl) dX2_ringOf_43 (fun h hs => by rw [← hT]; exact ⟨congrArg (fun z => some (Value.int z)) hv, hs⟩)
      · refine g_iload_n F dX2_ringOf_16 rfl rfl (np := 17) rfl ?_
        refine g_bipush F (v := (-2)) dX2_ringOf_17 (by decide) (np := 19) rfl ?_
        refine g_icmp_eq F dX2_ringOf_19 (tp := 41) (by decide) (np := 22) rfl (fun c19 => ?_) (fun c19 => ?_)
        · refine g_bipush F (v := (-2)) dX2_ringOf_41 (by decide) (np := 43) rfl ?_
          have hv : -2 = sRing (mV σ L) (σ.1 6) o (σ.1 0) 1 (sHold (mV σ L) (σ.1 6) o) := by first | (rw [← h1, show σ.1 0 + 1 - k = 0 by omega]; rfl) | (rw [← h1, show σ.1 0 + 1 - k = (σ.1 0 + 1 - (k + 1)) + 1 by omega, sRing_s, if_pos c19])
          exact g_iret F hr rfl (Nat.le_of_ble_eq_true rfl) (Nat.le_of_ble_eq_true rfl) dX2_ringOf_43 (fun h hs => by rw [← hT]; exact ⟨congrArg (fun z => some (Value.int z)) hv, hs⟩)
        · refine g_iload_n F dX2_ringOf_22 rfl rfl (np := 23) rfl ?_
          refine g_iload_n F dX2_ringOf_23 rfl rfl (np := 24) rfl ?_
          refine g_icmp_ne F dX2_ringOf_24 (tp := 29) (by decide) (np := 27) rfl (fun c24 => ?_) (fun c24 => ?_)
          · refine g_aload_n F dX2_ringOf_29 rfl rfl (np := 30) rfl ?_
            refine g_iload_n F dX2_ringOf_30 rfl rfl (np := 31) rfl ?_
            refine g_runV F (C := RX2) (ci := 2) (T0 := TX2) (N := 42) (rest := []) (ct_X2_holder hE σ L q (by first | assumption | omega)) (lw_V q1897 q1899 qs85 q102 q1900) hcV_X2_holder ⟨Nat.le_of_ble_eq_true rfl, Nat.le_of_ble_eq_true rfl⟩ rfl (fun h hs => hs.obj) rfl rfl (Nat.le_of_ble_eq_true rfl) dX2_ringOf_31 ⟨Nat.le_of_ble_eq_true rfl, Nat.le_of_ble_eq_true rfl⟩ (np := 34) rfl (k_RI ?_)
            refine g_istore_n F (lv' := [some (.ref (ad 0)), some (.int o), some (.int (sHold (mV σ L) (σ.1 6) q)), some (.int (nI k))]) dX2_ringOf_34 rfl (by decide) rfl rfl (np := 35) rfl ?_
            refine g_iinc F (v := (nI (k + 1))) (lv' := [some (.ref (ad 0)), some (.int o), some (.int (sHold (mV σ L) (σ.1 6) q)), some (.int (nI (k + 1)))]) dX2_ringOf_35 rfl (nI_add _ _) (by decide) rfl rfl (np := 38) rfl ?_
            refine g_goto F dX2_ringOf_38 (np := 8) (by decide) ?_
            exact ih8 (sHold (mV σ L) (σ.1 6) q) (k + 1) (by rw [← h1, show σ.1 0 + 1 - k = (σ.1 0 + 1 - (k + 1)) + 1 by omega, sRing_s, if_neg c19, if_neg c24]) (by omega) (by omega)
          · refine g_iload_n F dX2_ringOf_27 rfl rfl (np := 28) rfl ?_
            have hv : nI (k) = sRing (mV σ L) (σ.1 6) o (σ.1 0) 1 (sHold (mV σ L) (σ.1 6) o) := by rw [← h1, show σ.1 0 + 1 - k = (σ.1 0 + 1 - (k + 1)) + 1 by omega, sRing_s, if_neg c19, if_pos c24]
            exact g_iret F hr rfl (Nat.le_of_ble_eq_true rfl) (Nat.le_of_ble_eq_true rfl) dX2_ringOf_28 (fun h hs => by rw [← hT]; exact ⟨congrArg (fun z => some (Value.int z)) hv, hs⟩)
  exact L8 _ (sHold (mV σ L) (σ.1 6) o) 1 (by rfl) (by omega) (Nat.lt_succ_self _)

set_option maxRecDepth 100000 in
theorem ct_X2_endOf {l : Launch} {D : va_G} {E : State → Prop} {B : Nat} (hE : Stab E) {ad : Nat → Nat} {h0 : AH} (σ : MSt) (L : LawT) (o : Int32) (hok : mOK σ L) : Ct l D E B yX2_endOf cX2_endOf 4 (some .int) 6 137 0 0 [.ref (ad 0), .int o] (MH D ad h0 σ) (RI (sEnd (mV σ L) (σ.1 6) (σ.1 0 + 1) o) (MH D ad h0 σ)) := by
  refine Ct.of (nL := 4) (lv := [some (.ref (ad 0)), some (.int o), none, none]) (by decide) (Nat.le_of_ble_eq_true rfl) hE 2 rfl ?_
  generalize hT : RI (sEnd (mV σ L) (σ.1 6) (σ.1 0 + 1) o) (MH D ad h0 σ) = T
  intro zp ze zs zm zb zt zc F hr hnm
  generalize ([.ref (ad 0), .int o] : List Value).toArray = za at F ⊢
  have hok2 := hok
  obtain ⟨ho8, hm15, ht99, hby, hlaw⟩ := hok2
  refine g_iload_n F dX2_endOf_0 rfl rfl (np := 1) rfl ?_
  refine g_istore_n F (lv' := [some (.ref (ad 0)), some (.int o), some (.int o), none]) dX2_endOf_1 rfl (by decide) rfl rfl (np := 2) rfl ?_
  refine g_iconst F (v := (nI 0)) dX2_endOf_2 (by decide) (np := 3) rfl ?_
  refine g_istore_n F (lv' := [some (.ref (ad 0)), some (.int o), some (.int o), some (.int (nI 0))]) dX2_endOf_3 rfl (by decide) rfl rfl (np := 4) rfl ?_
  have L4 : ∀ (zn : Nat) (q : Int32) (k : Nat), (sEnd (mV σ L) (σ.1 6) (σ.1 0 + 1 - k) q = sEnd (mV σ L) (σ.1 6) (σ.1 0 + 1) o) → (k ≤ σ.1 0 + 1) → σ.1 0 + 1 - k < zn → WG zp l ze ({ frames := 6, cells := 0, slots := 0, locals := 137 } : Room) zs zm za zb zt zc D B 4 (MQ zb (QT D B T) za zs 0 0 (zA B)) (MH D ad h0 σ) 0 0 4 [some (.ref (ad 0)), some (.int o), some (.int q), some (.int (nI k))] [] := by
    intro zn
    induction zn with
    | zero => intro q k h1 h2 hm; exact absurd hm (Nat.not_lt_zero _)
    | succ zn ih4 =>
      intro q k h1 h2 hm
      refine g_iload_n F dX2_endOf_4 rfl rfl (np := 5) rfl ?_
      refine g_aload_n F dX2_endOf_5 rfl rfl (np := 6) rfl ?_
      refine h_get F (k := 0) (v := .int (nI (σ.1 0))) (by decide) rfl q1546 dX2_endOf_6 (np := 9) rfl ?_
      refine g_icmp_gtN F (by omega) (by omega) dX2_endOf_9 (tp := 36) (by decide) (np := 12) rfl (fun c9 => ?_) (fun c9 => ?_)
      · refine g_bipush F (v := (-2)) dX2_endOf_36 (by decide) (np := 38) rfl ?_
        have hv : -2 = sEnd (mV σ L) (σ.1 6) (σ.1 0 + 1) o := by rw [← h1, show σ.1 0 + 1 - k = 0 by omega]; rfl
        exact g_iret F hr rfl (Nat.le_of_ble_eq_true rfl) (Nat.le_of_ble_eq_true rfl) dX2_endOf_38 (fun h hs => by rw [← hT]; exact ⟨congrArg (fun z => some (Value.int z)) hv, hs⟩)
      · refine g_aload_n F dX2_endOf_12 rfl rfl (np := 13) rfl ?_
        refine g_iload_n F dX2_endOf_13 rfl rfl (np := 14) rfl ?_
        refine g_runV F (C := RX2) (ci := 2) (T0 := TX2) (N := 42) (rest := []) (ct_X2_holder hE σ L q (by first | assumption | omega)) (lw_V q1897 q1899 qs85 q102 q1900) hcV_X2_holder ⟨Nat.le_of_ble_eq_true rfl, Nat.le_of_ble_eq_true rfl⟩ rfl (fun h hs => hs.obj) rfl rfl (Nat.le_of_ble_eq_true rfl) dX2_endOf_14 ⟨Nat.le_of_ble_eq_true rfl, Nat.le_of_ble_eq_true rfl⟩ (np := 17) rfl (k_RI ?_)
        refine g_bipush F (v := (-2)) dX2_endOf_17 (by decide) (np := 19) rfl ?_
        refine g_icmp_ne F dX2_endOf_19 (tp := 24) (by decide) (np := 22) rfl (fun c19 => ?_) (fun c19 => ?_)
        · refine g_aload_n F dX2_endOf_24 rfl rfl (np := 25) rfl ?_
          refine g_iload_n F dX2_endOf_25 rfl rfl (np := 26) rfl ?_
          refine g_runV F (C := RX2) (ci := 2) (T0 := TX2) (N := 42) (rest := []) (ct_X2_holder hE σ L q (by first | assumption | omega)) (lw_V q1897 q1899 qs85 q102 q1900) hcV_X2_holder ⟨Nat.le_of_ble_eq_true rfl, Nat.le_of_ble_eq_true rfl⟩ rfl (fun h hs => hs.obj) rfl rfl (Nat.le_of_ble_eq_true rfl) dX2_endOf_26 ⟨Nat.le_of_ble_eq_true rfl, Nat.le_of_ble_eq_true rfl⟩ (np := 29) rfl (k_RI ?_)
          refine g_istore_n F (lv' := [some (.ref (ad 0)), some (.int o), some (.int (sHold (mV σ L) (σ.1 6) q)), some (.int (nI k))]) dX2_endOf_29 rfl (by decide) rfl rfl (np := 30) rfl ?_
          refine g_iinc F (v := (nI (k + 1))) (lv' := [some (.ref (ad 0)), some (.int o), some (.int (sHold (mV σ L) (σ.1 6) q)), some (.int (nI (k + 1)))]) dX2_endOf_30 rfl (nI_add _ _) (by decide) rfl rfl (np := 33) rfl ?_
          refine g_goto F dX2_endOf_33 (np := 4) (by decide) ?_
          exact ih4 (sHold (mV σ L) (σ.1 6) q) (k + 1) (by rw [← h1, show σ.1 0 + 1 - k = (σ.1 0 + 1 - (k + 1)) + 1 by omega]; rw [sEnd, if_neg c19]) (by omega) (by omega)
        · refine g_iload_n F dX2_endOf_22 rfl rfl (np := 23) rfl ?_
          have hv : q = sEnd (mV σ L) (σ.1 6) (σ.1 0 + 1) o := by rw [← h1, show σ.1 0 + 1 - k = (σ.1 0 + 1 - (k + 1)) + 1 by omega]; rw [sEnd, if_pos c19]
          exact g_iret F hr rfl (Nat.le_of_ble_eq_true rfl) (Nat.le_of_ble_eq_true rfl) dX2_endOf_23 (fun h hs => by rw [← hT]; exact ⟨congrArg (fun z => some (Value.int z)) hv, hs⟩)
  exact L4 _ o 0 (by rfl) (by omega) (Nat.lt_succ_self _)

set_option maxRecDepth 100000 in
theorem ct_X2_owed {l : Launch} {D : va_G} {E : State → Prop} {B : Nat} (hE : Stab E) {ad : Nat → Nat} {h0 : AH} (σ : MSt)  (o : Int32) (hm : σ.1 2 ≤ 15) : Ct l D E B yX2_owed cX2_owed 4 (some .int) 1 21 0 0 [.ref (ad 0), .int o] (MH D ad h0 σ) (RI (sOwed (mP σ) (σ.1 6) o (σ.1 2)) (MH D ad h0 σ)) := by
  refine Ct.of (nL := 4) (lv := [some (.ref (ad 0)), some (.int o), none, none]) (by decide) (Nat.le_of_ble_eq_true rfl) hE 2 rfl ?_
  generalize hT : RI (sOwed (mP σ) (σ.1 6) o (σ.1 2)) (MH D ad h0 σ) = T
  intro zp ze zs zm zb zt zc F hr hnm
  generalize ([.ref (ad 0), .int o] : List Value).toArray = za at F ⊢
  refine g_iconst F (v := (nI 0)) dX2_owed_0 (by decide) (np := 1) rfl ?_
  refine g_istore_n F (lv' := [some (.ref (ad 0)), some (.int o), some (.int (nI 0)), none]) dX2_owed_1 rfl (by decide) rfl rfl (np := 2) rfl ?_
  refine g_iconst F (v := (nI 0)) dX2_owed_2 (by decide) (np := 3) rfl ?_
  refine g_istore_n F (lv' := [some (.ref (ad 0)), some (.int o), some (.int (nI 0)), some (.int (nI 0))]) dX2_owed_3 rfl (by decide) rfl rfl (np := 4) rfl ?_
  have L4 : ∀ (zn : Nat) (a : Int32) (p : Nat), (a = sOwed (mP σ) (σ.1 6) o p) → (p ≤ σ.1 2) → σ.1 2 - p < zn → WG zp l ze ({ frames := 1, cells := 0, slots := 0, locals := 21 } : Room) zs zm za zb zt zc D B 4 (MQ zb (QT D B T) za zs 0 0 (zA B)) (MH D ad h0 σ) 0 0 4 [some (.ref (ad 0)), some (.int o), some (.int a), some (.int (nI p))] [] := by
    intro zn
    induction zn with
    | zero => intro a p h1 h2 hm; exact absurd hm (Nat.not_lt_zero _)
    | succ zn ih4 =>
      intro a p h1 h2 hm
      refine g_iload_n F dX2_owed_4 rfl rfl (np := 5) rfl ?_
      refine g_aload_n F dX2_owed_5 rfl rfl (np := 6) rfl ?_
      refine h_get F (k := 2) (v := .int (nI (σ.1 2))) (by decide) rfl q1548 dX2_owed_6 (np := 9) rfl ?_
      refine g_icmp_geN F (by omega) (by omega) dX2_owed_9 (tp := 67) (by decide) (np := 12) rfl (fun c9 => ?_) (fun c9 => ?_)
      · refine g_iload_n F dX2_owed_67 rfl rfl (np := 68) rfl ?_
        have hv : a = sOwed (mP σ) (σ.1 6) o (σ.1 2) := by rw [h1, show p = σ.1 2 by omega]
        exact g_iret F hr rfl (Nat.le_of_ble_eq_true rfl) (Nat.le_of_ble_eq_true rfl) dX2_owed_68 (fun h hs => by rw [← hT]; exact ⟨congrArg (fun z => some (Value.int z)) hv, hs⟩)
      · refine g_aload_n F dX2_owed_12 rfl rfl (np := 13) rfl ?_
        refine g_iload_n F dX2_owed_13 rfl rfl (np := 14) rfl ?_
        refine g_runV F (C := RX2) (ci := 2) (T0 := TX2) (N := 42) (rest := []) (ct_X2_isOpen hE σ p (by first | assumption | omega)) (lw_V q1811 q1813 qs74 q102 q1814) hcV_X2_isOpen ⟨Nat.le_of_ble_eq_true rfl, Nat.le_of_ble_eq_true rfl⟩ rfl (fun h hs => hs.obj) rfl rfl (Nat.le_of_ble_eq_true rfl) dX2_owed_14 ⟨Nat.le_of_ble_eq_true rfl, Nat.le_of_ble_eq_true rfl⟩ (np := 17) rfl (k_RI ?_)
        refine g_if_neB F dX2_owed_17 (tp := 23) (by decide) (np := 20) rfl (fun c17 => ?_) (fun c17 => ?_)
        · refine g_aload_n F dX2_owed_23 rfl rfl (np := 24) rfl ?_
          refine h_get F (k := 5) (v := .ref (ad 5)) (by decide) rfl q1551 dX2_owed_24 (np := 27) rfl ?_
          refine g_iload_n F dX2_owed_27 rfl rfl (np := 28) rfl ?_
          refine h_ald F (k := 5) (i := p) (L := 15) (v := σ.2.1 5 p) rfl rfl (by decide) (by omega) rfl rfl dX2_owed_28 (by decide) (by decide) (np := 29) rfl ?_
          refine g_iload_n F dX2_owed_29 rfl rfl (np := 30) rfl ?_
          refine g_icmp_ne F dX2_owed_30 (tp := 42) (by decide) (np := 33) rfl (fun c30 => ?_) (fun c30 => ?_)
          · refine g_aload_n F dX2_owed_42 rfl rfl (np := 43) rfl ?_
            refine h_get F (k := 4) (v := .ref (ad 4)) (by decide) rfl q1550 dX2_owed_43 (np := 46) rfl ?_
            refine g_iload_n F dX2_owed_46 rfl rfl (np := 47) rfl ?_
            refine h_ald F (k := 4) (i := p) (L := 15) (v := σ.2.1 4 p) rfl rfl (by decide) (by omega) rfl rfl dX2_owed_47 (by decide) (by decide) (np := 48) rfl ?_
            refine g_iload_n F dX2_owed_48 rfl rfl (np := 49) rfl ?_
            refine g_icmp_ne F dX2_owed_49 (tp := 61) (by decide) (np := 52) rfl (fun c49 => ?_) (fun c49 => ?_)
            · refine g_iinc F (v := (nI (p + 1))) (lv' := [some (.ref (ad 0)), some (.int o), some (.int a), some (.int (nI (p + 1)))]) dX2_owed_61 rfl (nI_add _ _) (by decide) rfl rfl (np := 64) rfl ?_
              refine g_goto F dX2_owed_64 (np := 4) (by decide) ?_
              exact ih4 a (p + 1) (by first | (unfold sOwed; rw [pif_f ‹¬ sOpen _ _ _›]; exact h1) | (unfold sOwed; rw [pif_t ‹sOpen _ _ _›, ← h1]; simp only [mP_0, mP_1, mP_2]; simp only [*, if_true, if_false, ite_true, ite_false, nI_0]; grind)) (by first | assumption | omega) (by omega)
            · refine g_iload_n F dX2_owed_52 rfl rfl (np := 53) rfl ?_
              refine g_aload_n F dX2_owed_53 rfl rfl (np := 54) rfl ?_
              refine h_get F (k := 3) (v := .ref (ad 3)) (by decide) rfl q1549 dX2_owed_54 (np := 57) rfl ?_
              refine g_iload_n F dX2_owed_57 rfl rfl (np := 58) rfl ?_
              refine h_ald F (k := 3) (i := p) (L := 75) (v := σ.2.1 3 p) rfl rfl (by decide) (by omega) rfl rfl dX2_owed_58 (by decide) (by decide) (np := 59) rfl ?_
              refine g_isub F dX2_owed_59 (np := 60) rfl ?_
              refine g_istore_n F (lv' := [some (.ref (ad 0)), some (.int o), some (.int (a - (σ.2.1 3 p))), some (.int (nI p))]) dX2_owed_60 rfl (by decide) rfl rfl (np := 61) rfl ?_
              refine g_iinc F (v := (nI (p + 1))) (lv' := [some (.ref (ad 0)), some (.int o), some (.int (a - (σ.2.1 3 p))), some (.int (nI (p + 1)))]) dX2_owed_61 rfl (nI_add _ _) (by decide) rfl rfl (np := 64) rfl ?_
              refine g_goto F dX2_owed_64 (np := 4) (by decide) ?_
              exact ih4 (a - (σ.2.1 3 p)) (p + 1) (by first | (unfold sOwed; rw [pif_f ‹¬ sOpen _ _ _›]; exact h1) | (unfold sOwed; rw [pif_t ‹sOpen _ _ _›, ← h1]; simp only [mP_0, mP_1, mP_2]; simp only [*, if_true, if_false, ite_true, ite_false, nI_0]; grind)) (by first | assumption | omega) (by omega)
          · refine g_iload_n F dX2_owed_33 rfl rfl (np := 34) rfl ?_
            refine g_aload_n F dX2_owed_34 rfl rfl (np := 35) rfl ?_
            refine h_get F (k := 3) (v := .ref (ad 3)) (by decide) rfl q1549 dX2_owed_35 (np := 38) rfl ?_
            refine g_iload_n F dX2_owed_38 rfl rfl (np := 39) rfl ?_
            refine h_ald F (k := 3) (i := p) (L := 75) (v := σ.2.1 3 p) rfl rfl (by decide) (by omega) rfl rfl dX2_owed_39 (by decide) (by decide) (np := 40) rfl ?_
            refine g_iadd F dX2_owed_40 (np := 41) rfl ?_
            refine g_istore_n F (lv' := [some (.ref (ad 0)), some (.int o), some (.int (a + (σ.2.1 3 p))), some (.int (nI p))]) dX2_owed_41 rfl (by decide) rfl rfl (np := 42) rfl ?_
            refine g_aload_n F dX2_owed_42 rfl rfl (np := 43) rfl ?_
            refine h_get F (k := 4) (v := .ref (ad 4)) (by decide) rfl q1550 dX2_owed_43 (np := 46) rfl ?_
            refine g_iload_n F dX2_owed_46 rfl rfl (np := 47) rfl ?_
            refine h_ald F (k := 4) (i := p) (L := 15) (v := σ.2.1 4 p) rfl rfl (by decide) (by omega) rfl rfl dX2_owed_47 (by decide) (by decide) (np := 48) rfl ?_
            refine g_iload_n F dX2_owed_48 rfl rfl (np := 49) rfl ?_
            refine g_icmp_ne F dX2_owed_49 (tp := 61) (by decide) (np := 52) rfl (fun c49 => ?_) (fun c49 => ?_)
            · refine g_iinc F (v := (nI (p + 1))) (lv' := [some (.ref (ad 0)), some (.int o), some (.int (a + (σ.2.1 3 p))), some (.int (nI (p + 1)))]) dX2_owed_61 rfl (nI_add _ _) (by decide) rfl rfl (np := 64) rfl ?_
              refine g_goto F dX2_owed_64 (np := 4) (by decide) ?_
              exact ih4 (a + (σ.2.1 3 p)) (p + 1) (by first | (unfold sOwed; rw [pif_f ‹¬ sOpen _ _ _›]; exact h1) | (unfold sOwed; rw [pif_t ‹sOpen _ _ _›, ← h1]; simp only [mP_0, mP_1, mP_2]; simp only [*, if_true, if_false, ite_true, ite_false, nI_0]; grind)) (by first | assumption | omega) (by omega)
            · refine g_iload_n F dX2_owed_52 rfl rfl (np := 53) rfl ?_
              refine g_aload_n F dX2_owed_53 rfl rfl (np := 54) rfl ?_
              refine h_get F (k := 3) (v := .ref (ad 3)) (by decide) rfl q1549 dX2_owed_54 (np := 57) rfl ?_
              refine g_iload_n F dX2_owed_57 rfl rfl (np := 58) rfl ?_
              refine h_ald F (k := 3) (i := p) (L := 75) (v := σ.2.1 3 p) rfl rfl (by decide) (by omega) rfl rfl dX2_owed_58 (by decide) (by decide) (np := 59) rfl ?_
              refine g_isub F dX2_owed_59 (np := 60) rfl ?_
              refine g_istore_n F (lv' := [some (.ref (ad 0)), some (.int o), some (.int ((a + (σ.2.1 3 p)) - (σ.2.1 3 p))), some (.int (nI p))]) dX2_owed_60 rfl (by decide) rfl rfl (np := 61) rfl ?_
              refine g_iinc F (v := (nI (p + 1))) (lv' := [some (.ref (ad 0)), some (.int o), some (.int ((a + (σ.2.1 3 p)) - (σ.2.1 3 p))), some (.int (nI (p + 1)))]) dX2_owed_61 rfl (nI_add _ _) (by decide) rfl rfl (np := 64) rfl ?_
              refine g_goto F dX2_owed_64 (np := 4) (by decide) ?_
              exact ih4 ((a + (σ.2.1 3 p)) - (σ.2.1 3 p)) (p + 1) (by first | (unfold sOwed; rw [pif_f ‹¬ sOpen _ _ _›]; exact h1) | (unfold sOwed; rw [pif_t ‹sOpen _ _ _›, ← h1]; simp only [mP_0, mP_1, mP_2]; simp only [*, if_true, if_false, ite_true, ite_false, nI_0]; grind)) (by first | assumption | omega) (by omega)
        · refine g_goto F dX2_owed_20 (np := 61) (by decide) ?_
          refine g_iinc F (v := (nI (p + 1))) (lv' := [some (.ref (ad 0)), some (.int o), some (.int a), some (.int (nI (p + 1)))]) dX2_owed_61 rfl (nI_add _ _) (by decide) rfl rfl (np := 64) rfl ?_
          refine g_goto F dX2_owed_64 (np := 4) (by decide) ?_
          exact ih4 a (p + 1) (by first | (unfold sOwed; rw [pif_f ‹¬ sOpen _ _ _›]; exact h1) | (unfold sOwed; rw [pif_t ‹sOpen _ _ _›, ← h1]; simp only [mP_0, mP_1, mP_2]; simp only [*, if_true, if_false, ite_true, ite_false, nI_0]; grind)) (by first | assumption | omega) (by omega)
  exact L4 _ (nI (0)) 0 (by rfl) (by omega) (Nat.lt_succ_self _)

set_option maxRecDepth 100000 in
theorem ct_X2_holds {l : Launch} {D : va_G} {E : State → Prop} {B : Nat} (hE : Stab E) {ad : Nat → Nat} {h0 : AH} (σ : MSt) (L : LawT) (o : Int32) (w : Int32) (hok : mOK σ L) : Ct l D E B yX2_holds cX2_holds 3 (some .int) 7 160 0 0 [.ref (ad 0), .int o, .int w] (MH D ad h0 σ) (RI (rHolds (mV σ L) (σ.1 6) (σ.1 0) o w) (MH D ad h0 σ)) := by
  refine Ct.of (nL := 3) (lv := [some (.ref (ad 0)), some (.int o), some (.int w)]) (by decide) (Nat.le_of_ble_eq_true rfl) hE 0 rfl ?_
  generalize hT : RI (rHolds (mV σ L) (σ.1 6) (σ.1 0) o w) (MH D ad h0 σ) = T
  intro zp ze zs zm zb zt zc F hr hnm
  generalize ([.ref (ad 0), .int o, .int w] : List Value).toArray = za at F ⊢
  have hok2 := hok
  obtain ⟨ho8, hm15, ht99, hby, hlaw⟩ := hok2
  refine g_aload_n F dX2_holds_0 rfl rfl (np := 1) rfl ?_
  refine g_iload_n F dX2_holds_1 rfl rfl (np := 2) rfl ?_
  refine g_runV F (C := RX2) (ci := 2) (T0 := TX2) (N := 42) (rest := []) (ct_X2_isOwner hE σ o (by first | assumption | omega)) (lw_V q1688 q1690 qs54 q102 q1691) hcV_X2_isOwner ⟨Nat.le_of_ble_eq_true rfl, Nat.le_of_ble_eq_true rfl⟩ rfl (fun h hs => hs.obj) rfl rfl (Nat.le_of_ble_eq_true rfl) dX2_holds_2 ⟨Nat.le_of_ble_eq_true rfl, Nat.le_of_ble_eq_true rfl⟩ (np := 5) rfl (k_RI ?_)
  refine g_if_eqB F dX2_holds_5 (tp := 17) (by decide) (np := 8) rfl (fun c5 => ?_) (fun c5 => ?_)
  · refine g_ldc F q1727 dX2_holds_17 (np := 19) rfl ?_
    have hv : -2000000000 = rHolds (mV σ L) (σ.1 6) (σ.1 0) o w := by first | (unfold rHolds; rw [pif_f (fun z => ‹¬ inN _ _› z.1)]; done) | (unfold rHolds; rw [pif_f (fun z => ‹¬ btw _ _ _› (bt3.mpr z.2))]; done)
    exact g_iret F hr rfl (Nat.le_of_ble_eq_true rfl) (Nat.le_of_ble_eq_true rfl) dX2_holds_19 (fun h hs => by rw [← hT]; exact ⟨congrArg (fun z => some (Value.int z)) hv, hs⟩)
  · refine g_iload_n F dX2_holds_8 rfl rfl (np := 9) rfl ?_
    refine g_iconst F (v := (nI 0)) dX2_holds_9 (by decide) (np := 10) rfl ?_
    refine g_iconst F (v := (nI 3)) dX2_holds_10 (by decide) (np := 11) rfl ?_
    refine g_runS F (rest := []) (ct_X2_within hE w (nI (0)) (nI (3)) ) (lw_S q1677 q1678 q102 q1679) hcS_X2_within ⟨Nat.le_of_ble_eq_true rfl, Nat.le_of_ble_eq_true rfl⟩ rfl rfl (Nat.le_of_ble_eq_true rfl) dX2_holds_11 ⟨Nat.le_of_ble_eq_true rfl, Nat.le_of_ble_eq_true rfl⟩ (np := 14) rfl (k_RI ?_)
    refine g_if_neB F dX2_holds_14 (tp := 20) (by decide) (np := 17) rfl (fun c14 => ?_) (fun c14 => ?_)
    · refine g_iload_n F dX2_holds_20 rfl rfl (np := 21) rfl ?_
      refine g_if_ne F dX2_holds_21 (tp := 32) (by decide) (np := 24) rfl (fun c21 => ?_) (fun c21 => ?_)
      · refine g_iload_n F dX2_holds_32 rfl rfl (np := 33) rfl ?_
        refine g_iconst F (v := (nI 1)) dX2_holds_33 (by decide) (np := 34) rfl ?_
        refine g_icmp_ne F dX2_holds_34 (tp := 45) (by decide) (np := 37) rfl (fun c34 => ?_) (fun c34 => ?_)
        · refine g_iload_n F dX2_holds_45 rfl rfl (np := 46) rfl ?_
          refine g_iconst F (v := (nI 2)) dX2_holds_46 (by decide) (np := 47) rfl ?_
          refine g_icmp_ne F dX2_holds_47 (tp := 58) (by decide) (np := 50) rfl (fun c47 => ?_) (fun c47 => ?_)
          · refine g_aload_n F dX2_holds_58 rfl rfl (np := 59) rfl ?_
            refine g_iload_n F dX2_holds_59 rfl rfl (np := 60) rfl ?_
            refine g_runV F (C := RX2) (ci := 2) (T0 := TX2) (N := 42) (rest := []) (ct_X2_owed hE σ o (by first | assumption | omega)) (lw_V q1909 q1911 qs88 q102 q1912) hcV_X2_owed ⟨Nat.le_of_ble_eq_true rfl, Nat.le_of_ble_eq_true rfl⟩ rfl (fun h hs => hs.obj) rfl rfl (Nat.le_of_ble_eq_true rfl) dX2_holds_60 ⟨Nat.le_of_ble_eq_true rfl, Nat.le_of_ble_eq_true rfl⟩ (np := 63) rfl (k_RI ?_)
            have hv : sOwed (mP σ) (σ.1 6) o (σ.1 2) = rHolds (mV σ L) (σ.1 6) (σ.1 0) o w := by unfold rHolds; rw [pif_t ⟨by assumption, bt3.mp ‹_›⟩]; simp_all; try rfl
            exact g_iret F hr rfl (Nat.le_of_ble_eq_true rfl) (Nat.le_of_ble_eq_true rfl) dX2_holds_63 (fun h hs => by rw [← hT]; exact ⟨congrArg (fun z => some (Value.int z)) hv, hs⟩)
          · refine g_aload_n F dX2_holds_50 rfl rfl (np := 51) rfl ?_
            refine g_iload_n F dX2_holds_51 rfl rfl (np := 52) rfl ?_
            refine g_runV F (C := RX2) (ci := 2) (T0 := TX2) (N := 42) (rest := []) (ct_X2_endOf hE σ L o (by first | assumption | omega)) (lw_V q1905 q1907 qs87 q102 q1908) hcV_X2_endOf ⟨Nat.le_of_ble_eq_true rfl, Nat.le_of_ble_eq_true rfl⟩ rfl (fun h hs => hs.obj) rfl rfl (Nat.le_of_ble_eq_true rfl) dX2_holds_52 ⟨Nat.le_of_ble_eq_true rfl, Nat.le_of_ble_eq_true rfl⟩ (np := 55) rfl (k_RI ?_)
            refine g_goto F dX2_holds_55 (np := 63) (by decide) ?_
            have hv : sEnd (mV σ L) (σ.1 6) (σ.1 0 + 1) o = rHolds (mV σ L) (σ.1 6) (σ.1 0) o w := by unfold rHolds; rw [pif_t ⟨by assumption, bt3.mp ‹_›⟩]; simp_all; try rfl
            exact g_iret F hr rfl (Nat.le_of_ble_eq_true rfl) (Nat.le_of_ble_eq_true rfl) dX2_holds_63 (fun h hs => by rw [← hT]; exact ⟨congrArg (fun z => some (Value.int z)) hv, hs⟩)
        · refine g_aload_n F dX2_holds_37 rfl rfl (np := 38) rfl ?_
          refine g_iload_n F dX2_holds_38 rfl rfl (np := 39) rfl ?_
          refine g_runV F (C := RX2) (ci := 2) (T0 := TX2) (N := 42) (rest := []) (ct_X2_ringOf hE σ L o (by first | assumption | omega)) (lw_V q1901 q1903 qs86 q102 q1904) hcV_X2_ringOf ⟨Nat.le_of_ble_eq_true rfl, Nat.le_of_ble_eq_true rfl⟩ rfl (fun h hs => hs.obj) rfl rfl (Nat.le_of_ble_eq_true rfl) dX2_holds_39 ⟨Nat.le_of_ble_eq_true rfl, Nat.le_of_ble_eq_true rfl⟩ (np := 42) rfl (k_RI ?_)
          refine g_goto F dX2_holds_42 (np := 63) (by decide) ?_
          have hv : sRing (mV σ L) (σ.1 6) o (σ.1 0) 1 (sHold (mV σ L) (σ.1 6) o) = rHolds (mV σ L) (σ.1 6) (σ.1 0) o w := by unfold rHolds; rw [pif_t ⟨by assumption, bt3.mp ‹_›⟩]; simp_all; try rfl
          exact g_iret F hr rfl (Nat.le_of_ble_eq_true rfl) (Nat.le_of_ble_eq_true rfl) dX2_holds_63 (fun h hs => by rw [← hT]; exact ⟨congrArg (fun z => some (Value.int z)) hv, hs⟩)
      · refine g_aload_n F dX2_holds_24 rfl rfl (np := 25) rfl ?_
        refine g_iload_n F dX2_holds_25 rfl rfl (np := 26) rfl ?_
        refine g_runV F (C := RX2) (ci := 2) (T0 := TX2) (N := 42) (rest := []) (ct_X2_holder hE σ L o (by first | assumption | omega)) (lw_V q1897 q1899 qs85 q102 q1900) hcV_X2_holder ⟨Nat.le_of_ble_eq_true rfl, Nat.le_of_ble_eq_true rfl⟩ rfl (fun h hs => hs.obj) rfl rfl (Nat.le_of_ble_eq_true rfl) dX2_holds_26 ⟨Nat.le_of_ble_eq_true rfl, Nat.le_of_ble_eq_true rfl⟩ (np := 29) rfl (k_RI ?_)
        refine g_goto F dX2_holds_29 (np := 63) (by decide) ?_
        have hv : sHold (mV σ L) (σ.1 6) o = rHolds (mV σ L) (σ.1 6) (σ.1 0) o w := by unfold rHolds; rw [pif_t ⟨by assumption, bt3.mp ‹_›⟩]; simp_all; try rfl
        exact g_iret F hr rfl (Nat.le_of_ble_eq_true rfl) (Nat.le_of_ble_eq_true rfl) dX2_holds_63 (fun h hs => by rw [← hT]; exact ⟨congrArg (fun z => some (Value.int z)) hv, hs⟩)
    · refine g_ldc F q1727 dX2_holds_17 (np := 19) rfl ?_
      have hv : -2000000000 = rHolds (mV σ L) (σ.1 6) (σ.1 0) o w := by first | (unfold rHolds; rw [pif_f (fun z => ‹¬ inN _ _› z.1)]; done) | (unfold rHolds; rw [pif_f (fun z => ‹¬ btw _ _ _› (bt3.mpr z.2))]; done)
      exact g_iret F hr rfl (Nat.le_of_ble_eq_true rfl) (Nat.le_of_ble_eq_true rfl) dX2_holds_19 (fun h hs => by rw [← hT]; exact ⟨congrArg (fun z => some (Value.int z)) hv, hs⟩)
