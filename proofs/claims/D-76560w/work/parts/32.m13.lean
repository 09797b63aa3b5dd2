/-! WALKS (printed by walk.py): turnFrom, byTurns -/
set_option maxRecDepth 100000
set_option maxRecDepth 100000 in
theorem ct_X2_turnFrom_0 {l : Launch} {D : va_G} {E : State → Prop} {B : Nat} (hE : Stab E) {ad : Nat → Nat} {h0 : AH} (σ : MSt) (L : LawT) (i : Nat) (n : Nat) (ab : Nat) (hok : mOK σ L) (hm14 : σ.1 2 ≤ 14) (hn : n = i + 0) (hi : n ≤ 10) (hab : ab < 2 ^ 31) : Ct l D E B yX2_turnFrom cX2_turnFrom 8 (some .int) 6 137 0 0 [.ref (ad 0), .int (nI i), .int (nI n), .int (nI ab)] (MH D ad h0 σ) (RI (turnS L (nI (ab / 10)) (nI (ab % 10)) 0 i σ) (MH D ad h0 σ)) := by
  refine Ct.of (nL := 8) (lv := [some (.ref (ad 0)), some (.int (nI i)), some (.int (nI n)), some (.int (nI ab)), none, none, none, none]) (by decide) (Nat.le_of_ble_eq_true rfl) hE 4 rfl ?_
  generalize hT : RI (turnS L (nI (ab / 10)) (nI (ab % 10)) 0 i σ) (MH D ad h0 σ) = T
  intro zp ze zs zm zb zt zc F hr hnm
  generalize ([.ref (ad 0), .int (nI i), .int (nI n), .int (nI ab)] : List Value).toArray = za at F ⊢
  have hok2 := hok
  obtain ⟨ho8, hm15, ht99, hby, hlaw⟩ := hok2
  refine g_iload_n F dX2_turnFrom_0 rfl rfl (np := 1) rfl ?_
  refine g_iload_n F dX2_turnFrom_1 rfl rfl (np := 2) rfl ?_
  refine g_icmp_neN F (by omega) (by omega) dX2_turnFrom_2 (tp := 23) (by decide) (np := 5) rfl (fun c2 => ?_) (fun c2 => ?_)
  · exact absurd c2 (by omega)
  · refine g_aload_n F dX2_turnFrom_5 rfl rfl (np := 6) rfl ?_
    refine g_iload_n F dX2_turnFrom_6 rfl rfl (np := 7) rfl ?_
    refine g_bipush F (v := (nI 10)) dX2_turnFrom_7 (by decide) (np := 9) rfl ?_
    refine g_idivN F (by omega) (by decide) (by decide) dX2_turnFrom_9 (np := 10) rfl ?_
    refine g_runV F (C := RX2) (ci := 2) (T0 := TX2) (N := 42) (rest := []) (ct_X2_highOf hE σ L (nI (ab / 10)) (by first | assumption | omega)) (lw_V q1844 q1846 qs80 q102 q1847) hcV_X2_highOf ⟨Nat.le_of_ble_eq_true rfl, Nat.le_of_ble_eq_true rfl⟩ rfl (fun h hs => hs.obj) rfl rfl (Nat.le_of_ble_eq_true rfl) dX2_turnFrom_10 ⟨Nat.le_of_ble_eq_true rfl, Nat.le_of_ble_eq_true rfl⟩ (np := 13) rfl (k_RI ?_)
    refine g_aload_n F dX2_turnFrom_13 rfl rfl (np := 14) rfl ?_
    refine g_iload_n F dX2_turnFrom_14 rfl rfl (np := 15) rfl ?_
    refine g_bipush F (v := (nI 10)) dX2_turnFrom_15 (by decide) (np := 17) rfl ?_
    refine g_iremN F (by omega) (by decide) (by decide) dX2_turnFrom_17 (np := 18) rfl ?_
    refine g_runV F (C := RX2) (ci := 2) (T0 := TX2) (N := 42) (rest := [.int (sHigh (mV σ L) (σ.1 6) (nI (ab / 10)))]) (ct_X2_highOf hE σ L (nI (ab % 10)) (by first | assumption | omega)) (lw_V q1844 q1846 qs80 q102 q1847) hcV_X2_highOf ⟨Nat.le_of_ble_eq_true rfl, Nat.le_of_ble_eq_true rfl⟩ rfl (fun h hs => hs.obj) rfl rfl (Nat.le_of_ble_eq_true rfl) dX2_turnFrom_18 ⟨Nat.le_of_ble_eq_true rfl, Nat.le_of_ble_eq_true rfl⟩ (np := 21) rfl (k_RI ?_)
    refine g_isub F dX2_turnFrom_21 (np := 22) rfl ?_
    have hv : (sHigh (mV σ L) (σ.1 6) (nI (ab / 10))) - (sHigh (mV σ L) (σ.1 6) (nI (ab % 10))) = turnS L (nI (ab / 10)) (nI (ab % 10)) 0 i σ := by rfl
    exact g_iret F hr rfl (Nat.le_of_ble_eq_true rfl) (Nat.le_of_ble_eq_true rfl) dX2_turnFrom_22 (fun h hs => by rw [← hT]; exact ⟨congrArg (fun z => some (Value.int z)) hv, hs⟩)

set_option maxRecDepth 100000 in
theorem ct_X2_turnFrom_1 {l : Launch} {D : va_G} {E : State → Prop} {B : Nat} (hE : Stab E) {ad : Nat → Nat} {h0 : AH} (σ : MSt) (L : LawT) (i : Nat) (n : Nat) (ab : Nat) (hok : mOK σ L) (hm14 : σ.1 2 ≤ 14) (hn : n = i + 1) (hi : n ≤ 10) (hab : ab < 2 ^ 31) : Ct l D E B yX2_turnFrom cX2_turnFrom 8 (some .int) 7 164 0 0 [.ref (ad 0), .int (nI i), .int (nI n), .int (nI ab)] (MH D ad h0 σ) (RI (turnS L (nI (ab / 10)) (nI (ab % 10)) 1 i σ) (MH D ad h0 σ)) := by
  refine Ct.of (nL := 8) (lv := [some (.ref (ad 0)), some (.int (nI i)), some (.int (nI n)), some (.int (nI ab)), none, none, none, none]) (by decide) (Nat.le_of_ble_eq_true rfl) hE 4 rfl ?_
  generalize hT : RI (turnS L (nI (ab / 10)) (nI (ab % 10)) 1 i σ) (MH D ad h0 σ) = T
  intro zp ze zs zm zb zt zc F hr hnm
  generalize ([.ref (ad 0), .int (nI i), .int (nI n), .int (nI ab)] : List Value).toArray = za at F ⊢
  have hok2 := hok
  obtain ⟨ho8, hm15, ht99, hby, hlaw⟩ := hok2
  refine g_iload_n F dX2_turnFrom_0 rfl rfl (np := 1) rfl ?_
  refine g_iload_n F dX2_turnFrom_1 rfl rfl (np := 2) rfl ?_
  refine g_icmp_neN F (by omega) (by omega) dX2_turnFrom_2 (tp := 23) (by decide) (np := 5) rfl (fun c2 => ?_) (fun c2 => ?_)
  · refine g_aload_n F dX2_turnFrom_23 rfl rfl (np := 24) rfl ?_
    refine g_iload_n F dX2_turnFrom_24 rfl rfl (np := 25) rfl ?_
    refine g_iconst F (v := (nI 1)) dX2_turnFrom_25 (by decide) (np := 26) rfl ?_
    refine g_iaddN F dX2_turnFrom_26 (np := 27) rfl ?_
    refine g_iload_n F dX2_turnFrom_27 rfl rfl (np := 28) rfl ?_
    refine g_iload_n F dX2_turnFrom_28 rfl rfl (np := 29) rfl ?_
    refine g_runV F (C := RX2) (ci := 2) (T0 := TX2) (N := 42) (rest := []) (ct_X2_turnFrom_0 hE σ L (i + 1) n ab (by exact hok) (by exact hm14) (by omega) (by omega) (by exact hab)) (lw_V q1938 q1940 qs91 q102 q1941) hcV_X2_turnFrom ⟨Nat.le_of_ble_eq_true rfl, Nat.le_of_ble_eq_true rfl⟩ rfl (fun h hs => hs.obj) rfl rfl (Nat.le_of_ble_eq_true rfl) dX2_turnFrom_29 ⟨Nat.le_of_ble_eq_true rfl, Nat.le_of_ble_eq_true rfl⟩ (np := 32) rfl (k_RI ?_)
    refine g_istore F (lv' := [some (.ref (ad 0)), some (.int (nI i)), some (.int (nI n)), some (.int (nI ab)), some (.int (turnS L (nI (ab / 10)) (nI (ab % 10)) 0 (i + 1) σ)), none, none, none]) dX2_turnFrom_32 (by decide) rfl rfl (np := 34) rfl ?_
    refine g_iload_n F dX2_turnFrom_34 rfl rfl (np := 35) rfl ?_
    refine g_iconst F (v := (nI 2)) dX2_turnFrom_35 (by decide) (np := 36) rfl ?_
    refine g_iremN F (by omega) (by decide) (by decide) dX2_turnFrom_36 (np := 37) rfl ?_
    have J51 : ∀ (wh : Nat), ((if i % 2 = 0 then nI (ab % 10) else nI (ab / 10)) = nI wh) → WG zp l ze ({ frames := 7, cells := 0, slots := 0, locals := 164 } : Room) zs zm za zb zt zc D B 8 (MQ zb (QT D B T) za zs 0 0 (zA B)) (MH D ad h0 σ) 0 0 51 [some (.ref (ad 0)), some (.int (nI i)), some (.int (nI n)), some (.int (nI ab)), some (.int (turnS L (nI (ab / 10)) (nI (ab % 10)) 0 (i + 1) σ)), none, none, none] [.int (nI wh)] := by
      intro wh hwh
      refine g_istore F (lv' := [some (.ref (ad 0)), some (.int (nI i)), some (.int (nI n)), some (.int (nI ab)), some (.int (turnS L (nI (ab / 10)) (nI (ab % 10)) 0 (i + 1) σ)), some (.int (nI wh)), none, none]) dX2_turnFrom_51 (by decide) rfl rfl (np := 53) rfl ?_
      refine g_iconst F (v := (nI 0)) dX2_turnFrom_53 (by decide) (np := 54) rfl ?_
      refine g_istore F (lv' := [some (.ref (ad 0)), some (.int (nI i)), some (.int (nI n)), some (.int (nI ab)), some (.int (turnS L (nI (ab / 10)) (nI (ab % 10)) 0 (i + 1) σ)), some (.int (nI wh)), some (.int (nI 0)), none]) dX2_turnFrom_54 (by decide) rfl rfl (np := 56) rfl ?_
      have L56 : ∀ (zn : Nat) (b : Int32) (p : Nat), (b = turnB (turnS L (nI (ab / 10)) (nI (ab % 10)) 0 (i + 1)) (if i % 2 = 0 then jmax else jmin) (if i % 2 = 0 then nI (ab % 10) else nI (ab / 10)) σ p) → (p ≤ σ.1 2) → σ.1 2 - p < zn → WG zp l ze ({ frames := 7, cells := 0, slots := 0, locals := 164 } : Room) zs zm za zb zt zc D B 8 (MQ zb (QT D B T) za zs 0 0 (zA B)) (MH D ad h0 σ) 0 0 56 [some (.ref (ad 0)), some (.int (nI i)), some (.int (nI n)), some (.int (nI ab)), some (.int b), some (.int (nI wh)), some (.int (nI p)), none] [] := by
        intro zn
        induction zn with
        | zero => intro b p h1 h2 hm; exact absurd hm (Nat.not_lt_zero _)
        | succ zn ih56 =>
          intro b p h1 h2 hm
          refine g_iload F dX2_turnFrom_56 rfl (np := 58) rfl ?_
          refine g_aload_n F dX2_turnFrom_58 rfl rfl (np := 59) rfl ?_
          refine h_get F (k := 2) (v := .int (nI (σ.1 2))) (by decide) rfl q1548 dX2_turnFrom_59 (np := 62) rfl ?_
          refine g_icmp_geN F (by omega) (by omega) dX2_turnFrom_62 (tp := 143) (by decide) (np := 65) rfl (fun c62 => ?_) (fun c62 => ?_)
          · refine g_iload F dX2_turnFrom_143 rfl (np := 145) rfl ?_
            have hv : b = turnS L (nI (ab / 10)) (nI (ab % 10)) 1 i σ := by rw [h1, show p = σ.1 2 by omega]; unfold turnS; rfl
            exact g_iret F hr rfl (Nat.le_of_ble_eq_true rfl) (Nat.le_of_ble_eq_true rfl) dX2_turnFrom_145 (fun h hs => by rw [← hT]; exact ⟨congrArg (fun z => some (Value.int z)) hv, hs⟩)
          · refine g_aload_n F dX2_turnFrom_65 rfl rfl (np := 66) rfl ?_
            refine g_iload F dX2_turnFrom_66 rfl (np := 68) rfl ?_
            refine g_iload F dX2_turnFrom_68 rfl (np := 70) rfl ?_
            refine g_runV F (C := RX2) (ci := 2) (T0 := TX2) (N := 42) (rest := []) (ct_X2_mayDo hE σ p (nI (wh)) (by omega)) (lw_V q1942 q1944 qs92 q102 q1945) hcV_X2_mayDo ⟨Nat.le_of_ble_eq_true rfl, Nat.le_of_ble_eq_true rfl⟩ rfl (fun h hs => hs.obj) rfl rfl (Nat.le_of_ble_eq_true rfl) dX2_turnFrom_70 ⟨Nat.le_of_ble_eq_true rfl, Nat.le_of_ble_eq_true rfl⟩ (np := 73) rfl (k_RI ?_)
            refine g_if_neB F dX2_turnFrom_73 (tp := 79) (by decide) (np := 76) rfl (fun c73 => ?_) (fun c73 => ?_)
            · have hmy : mayP σ (if i % 2 = 0 then nI (ab % 10) else nI (ab / 10)) p := by rw [hwh]; exact c73
              refine g_aload_n F dX2_turnFrom_79 rfl rfl (np := 80) rfl ?_
              refine h_get F (k := 3) (v := .ref (ad 3)) (by decide) rfl q1549 dX2_turnFrom_80 (np := 83) rfl ?_
              refine g_bipush F (v := (nI 60)) dX2_turnFrom_83 (by decide) (np := 85) rfl ?_
              refine g_iload F dX2_turnFrom_85 rfl (np := 87) rfl ?_
              refine g_iaddN F dX2_turnFrom_87 (np := 88) rfl ?_
              refine g_iconst F (v := (nI 1)) dX2_turnFrom_88 (by decide) (np := 89) rfl ?_
              refine h_ast F (k := 3) (i := 60 + p) (L := 75) rfl rfl (by decide) (by omega) rfl dX2_turnFrom_89 (by decide) (by decide) (np := 90) rfl ?_
              refine g_aload_n F dX2_turnFrom_90 rfl rfl (np := 91) rfl ?_
              refine g_iload_n F dX2_turnFrom_91 rfl rfl (np := 92) rfl ?_
              refine g_iconst F (v := (nI 1)) dX2_turnFrom_92 (by decide) (np := 93) rfl ?_
              refine g_iaddN F dX2_turnFrom_93 (np := 94) rfl ?_
              refine g_iload_n F dX2_turnFrom_94 rfl rfl (np := 95) rfl ?_
              refine g_iload_n F dX2_turnFrom_95 rfl rfl (np := 96) rfl ?_
              refine g_runV F (C := RX2) (ci := 2) (T0 := TX2) (N := 42) (rest := []) (ct_X2_turnFrom_0 hE (sA σ 3 (60 + p) (nI (1))) L (i + 1) n ab (by exact hok.sA3 _ _) (by exact hm14) (by omega) (by omega) (by exact hab)) (lw_V q1938 q1940 qs91 q102 q1941) hcV_X2_turnFrom ⟨Nat.le_of_ble_eq_true rfl, Nat.le_of_ble_eq_true rfl⟩ rfl (fun h hs => hs.obj) rfl rfl (Nat.le_of_ble_eq_true rfl) dX2_turnFrom_96 ⟨Nat.le_of_ble_eq_true rfl, Nat.le_of_ble_eq_true rfl⟩ (np := 99) rfl (k_RI ?_)
              refine g_istore F (lv' := [some (.ref (ad 0)), some (.int (nI i)), some (.int (nI n)), some (.int (nI ab)), some (.int b), some (.int (nI wh)), some (.int (nI p)), some (.int (turnS L (nI (ab / 10)) (nI (ab % 10)) 0 (i + 1) (sA σ 3 (60 + p) (nI (1)))))]) dX2_turnFrom_99 (by decide) rfl rfl (np := 101) rfl ?_
              refine WG.weak (S' := MH D ad h0 (dnP σ p)) (fun h hs => by rw [show (dnP σ p) = ((sA σ 3 (60 + p) (nI (1)))) from by rfl]; exact hs) ?_
              refine g_aload_n F dX2_turnFrom_101 rfl rfl (np := 102) rfl ?_
              refine h_get F (k := 3) (v := .ref (ad 3)) (by decide) rfl q1549 dX2_turnFrom_102 (np := 105) rfl ?_
              refine g_bipush F (v := (nI 60)) dX2_turnFrom_105 (by decide) (np := 107) rfl ?_
              refine g_iload F dX2_turnFrom_107 rfl (np := 109) rfl ?_
              refine g_iaddN F dX2_turnFrom_109 (np := 110) rfl ?_
              refine g_iconst F (v := (nI 0)) dX2_turnFrom_110 (by decide) (np := 111) rfl ?_
              refine h_ast F (k := 3) (i := 60 + p) (L := 75) rfl rfl (by decide) (by omega) rfl dX2_turnFrom_111 (by decide) (by decide) (np := 112) rfl ?_
              refine WG.weak (S' := MH D ad h0 σ) (fun h hs => by rw [show σ = (sA (dnP σ p) 3 (60 + p) (nI (0))) from by exact (dn_back hmy.2.1).symm]; exact hs) ?_
              refine g_iload_n F dX2_turnFrom_112 rfl rfl (np := 113) rfl ?_
              refine g_iconst F (v := (nI 2)) dX2_turnFrom_113 (by decide) (np := 114) rfl ?_
              refine g_iremN F (by omega) (by decide) (by decide) dX2_turnFrom_114 (np := 115) rfl ?_
              refine g_if_neN F (by omega) dX2_turnFrom_115 (tp := 128) (by decide) (np := 118) rfl (fun c115 => ?_) (fun c115 => ?_)
              · have hop : (if i % 2 = 0 then jmax else jmin) = jmin := if_neg ‹¬ i % 2 = 0›
                refine g_iload F dX2_turnFrom_128 rfl (np := 130) rfl ?_
                refine g_iload F dX2_turnFrom_130 rfl (np := 132) rfl ?_
                refine g_min F (rest := []) q1831 (by decide) (by decide) (Nat.le_of_ble_eq_true rfl) (Nat.le_of_ble_eq_true rfl) dX2_turnFrom_132 (np := 135) rfl ?_
                refine g_istore F (lv' := [some (.ref (ad 0)), some (.int (nI i)), some (.int (nI n)), some (.int (nI ab)), some (.int (jmin b (turnS L (nI (ab / 10)) (nI (ab % 10)) 0 (i + 1) (sA σ 3 (60 + p) (nI (1)))))), some (.int (nI wh)), some (.int (nI p)), some (.int (turnS L (nI (ab / 10)) (nI (ab % 10)) 0 (i + 1) (sA σ 3 (60 + p) (nI (1)))))]) dX2_turnFrom_135 (by decide) rfl rfl (np := 137) rfl ?_
                refine g_iinc F (v := (nI (p + 1))) (lv' := [some (.ref (ad 0)), some (.int (nI i)), some (.int (nI n)), some (.int (nI ab)), some (.int (jmin b (turnS L (nI (ab / 10)) (nI (ab % 10)) 0 (i + 1) (sA σ 3 (60 + p) (nI (1)))))), some (.int (nI wh)), some (.int (nI (p + 1))), some (.int (turnS L (nI (ab / 10)) (nI (ab % 10)) 0 (i + 1) (sA σ 3 (60 + p) (nI (1)))))]) dX2_turnFrom_137 rfl (nI_add _ _) (by decide) rfl rfl (np := 140) rfl ?_
                refine g_goto F dX2_turnFrom_140 (np := 56) (by decide) ?_
                refine WG.dropL (i := 7) (lv' := [some (.ref (ad 0)), some (.int (nI i)), some (.int (nI n)), some (.int (nI ab)), some (.int (jmin b (turnS L (nI (ab / 10)) (nI (ab % 10)) 0 (i + 1) (sA σ 3 (60 + p) (nI (1)))))), some (.int (nI wh)), some (.int (nI (p + 1))), none]) rfl ?_
                exact ih56 (jmin b (turnS L (nI (ab / 10)) (nI (ab % 10)) 0 (i + 1) (sA σ 3 (60 + p) (nI (1))))) (p + 1) (by unfold turnB; first | (rw [pif_f (show ¬ mayP σ _ p by rw [hwh]; exact c73)]; exact h1) | (rw [pif_t hmy, h1]; exact (congrFun (congrFun hop _) _).symm)) (by first | assumption | omega) (by omega)
              · have hop : (if i % 2 = 0 then jmax else jmin) = jmax := if_pos ‹i % 2 = 0›
                refine g_iload F dX2_turnFrom_118 rfl (np := 120) rfl ?_
                refine g_iload F dX2_turnFrom_120 rfl (np := 122) rfl ?_
                refine g_max F (rest := []) q1823 (by decide) (by decide) (Nat.le_of_ble_eq_true rfl) (Nat.le_of_ble_eq_true rfl) dX2_turnFrom_122 (np := 125) rfl ?_
                refine g_goto F dX2_turnFrom_125 (np := 135) (by decide) ?_
                refine g_istore F (lv' := [some (.ref (ad 0)), some (.int (nI i)), some (.int (nI n)), some (.int (nI ab)), some (.int (jmax b (turnS L (nI (ab / 10)) (nI (ab % 10)) 0 (i + 1) (sA σ 3 (60 + p) (nI (1)))))), some (.int (nI wh)), some (.int (nI p)), some (.int (turnS L (nI (ab / 10)) (nI (ab % 10)) 0 (i + 1) (sA σ 3 (60 + p) (nI (1)))))]) dX2_turnFrom_135 (by decide) rfl rfl (np := 137) rfl ?_
                refine g_iinc F (v := (nI (p + 1))) (lv' := [some (.ref (ad 0)), some (.int (nI i)), some (.int (nI n)), some (.int (nI ab)), some (.int (jmax b (turnS L (nI (ab / 10)) (nI (ab % 10)) 0 (i + 1) (sA σ 3 (60 + p) (nI (1)))))), some (.int (nI wh)), some (.int (nI (p + 1))), some (.int (turnS L (nI (ab / 10)) (nI (ab % 10)) 0 (i + 1) (sA σ 3 (60 + p) (nI (1)))))]) dX2_turnFrom_137 rfl (nI_add _ _) (by decide) rfl rfl (np := 140) rfl ?_
                refine g_goto F dX2_turnFrom_140 (np := 56) (by decide) ?_
                refine WG.dropL (i := 7) (lv' := [some (.ref (ad 0)), some (.int (nI i)), some (.int (nI n)), some (.int (nI ab)), some (.int (jmax b (turnS L (nI (ab / 10)) (nI (ab % 10)) 0 (i + 1) (sA σ 3 (60 + p) (nI (1)))))), some (.int (nI wh)), some (.int (nI (p + 1))), none]) rfl ?_
                exact ih56 (jmax b (turnS L (nI (ab / 10)) (nI (ab % 10)) 0 (i + 1) (sA σ 3 (60 + p) (nI (1))))) (p + 1) (by unfold turnB; first | (rw [pif_f (show ¬ mayP σ _ p by rw [hwh]; exact c73)]; exact h1) | (rw [pif_t hmy, h1]; exact (congrFun (congrFun hop _) _).symm)) (by first | assumption | omega) (by omega)
            · refine g_goto F dX2_turnFrom_76 (np := 137) (by decide) ?_
              refine g_iinc F (v := (nI (p + 1))) (lv' := [some (.ref (ad 0)), some (.int (nI i)), some (.int (nI n)), some (.int (nI ab)), some (.int b), some (.int (nI wh)), some (.int (nI (p + 1))), none]) dX2_turnFrom_137 rfl (nI_add _ _) (by decide) rfl rfl (np := 140) rfl ?_
              refine g_goto F dX2_turnFrom_140 (np := 56) (by decide) ?_
              exact ih56 b (p + 1) (by unfold turnB; first | (rw [pif_f (show ¬ mayP σ _ p by rw [hwh]; exact c73)]; exact h1) | (rw [pif_t hmy, h1]; exact (congrFun (congrFun hop _) _).symm)) (by first | assumption | omega) (by omega)
      exact L56 _ (turnS L (nI (ab / 10)) (nI (ab % 10)) 0 (i + 1) σ) 0 (by rfl) (by omega) (Nat.lt_succ_self _)
    refine g_if_neN F (by omega) dX2_turnFrom_37 (tp := 47) (by decide) (np := 40) rfl (fun c37 => ?_) (fun c37 => ?_)
    · refine g_iload_n F dX2_turnFrom_47 rfl rfl (np := 48) rfl ?_
      refine g_bipush F (v := (nI 10)) dX2_turnFrom_48 (by decide) (np := 50) rfl ?_
      refine g_idivN F (by omega) (by decide) (by decide) dX2_turnFrom_50 (np := 51) rfl ?_
      exact J51 (ab / 10) (by first | (rw [if_pos ‹i % 2 = 0›]; done) | (rw [if_neg ‹¬ i % 2 = 0›]; done))
    · refine g_iload_n F dX2_turnFrom_40 rfl rfl (np := 41) rfl ?_
      refine g_bipush F (v := (nI 10)) dX2_turnFrom_41 (by decide) (np := 43) rfl ?_
      refine g_iremN F (by omega) (by decide) (by decide) dX2_turnFrom_43 (np := 44) rfl ?_
      refine g_goto F dX2_turnFrom_44 (np := 51) (by decide) ?_
      exact J51 (ab % 10) (by first | (rw [if_pos ‹i % 2 = 0›]; done) | (rw [if_neg ‹¬ i % 2 = 0›]; done))
  · exact absurd c2 (by omega)

set_option maxRecDepth 100000 in
theorem ct_X2_turnFrom_2 {l : Launch} {D : va_G} {E : State → Prop} {B : Nat} (hE : Stab E) {ad : Nat → Nat} {h0 : AH} (σ : MSt) (L : LawT) (i : Nat) (n : Nat) (ab : Nat) (hok : mOK σ L) (hm14 : σ.1 2 ≤ 14) (hn : n = i + 2) (hi : n ≤ 10) (hab : ab < 2 ^ 31) : Ct l D E B yX2_turnFrom cX2_turnFrom 8 (some .int) 8 191 0 0 [.ref (ad 0), .int (nI i), .int (nI n), .int (nI ab)] (MH D ad h0 σ) (RI (turnS L (nI (ab / 10)) (nI (ab % 10)) 2 i σ) (MH D ad h0 σ)) := by
  refine Ct.of (nL := 8) (lv := [some (.ref (ad 0)), some (.int (nI i)), some (.int (nI n)), some (.int (nI ab)), none, none, none, none]) (by decide) (Nat.le_of_ble_eq_true rfl) hE 4 rfl ?_
  generalize hT : RI (turnS L (nI (ab / 10)) (nI (ab % 10)) 2 i σ) (MH D ad h0 σ) = T
  intro zp ze zs zm zb zt zc F hr hnm
  generalize ([.ref (ad 0), .int (nI i), .int (nI n), .int (nI ab)] : List Value).toArray = za at F ⊢
  have hok2 := hok
  obtain ⟨ho8, hm15, ht99, hby, hlaw⟩ := hok2
  refine g_iload_n F dX2_turnFrom_0 rfl rfl (np := 1) rfl ?_
  refine g_iload_n F dX2_turnFrom_1 rfl rfl (np := 2) rfl ?_
  refine g_icmp_neN F (by omega) (by omega) dX2_turnFrom_2 (tp := 23) (by decide) (np := 5) rfl (fun c2 => ?_) (fun c2 => ?_)
  · refine g_aload_n F dX2_turnFrom_23 rfl rfl (np := 24) rfl ?_
    refine g_iload_n F dX2_turnFrom_24 rfl rfl (np := 25) rfl ?_
    refine g_iconst F (v := (nI 1)) dX2_turnFrom_25 (by decide) (np := 26) rfl ?_
    refine g_iaddN F dX2_turnFrom_26 (np := 27) rfl ?_
    refine g_iload_n F dX2_turnFrom_27 rfl rfl (np := 28) rfl ?_
    refine g_iload_n F dX2_turnFrom_28 rfl rfl (np := 29) rfl ?_
    refine g_runV F (C := RX2) (ci := 2) (T0 := TX2) (N := 42) (rest := []) (ct_X2_turnFrom_1 hE σ L (i + 1) n ab (by exact hok) (by exact hm14) (by omega) (by omega) (by exact hab)) (lw_V q1938 q1940 qs91 q102 q1941) hcV_X2_turnFrom ⟨Nat.le_of_ble_eq_true rfl, Nat.le_of_ble_eq_true rfl⟩ rfl (fun h hs => hs.obj) rfl rfl (Nat.le_of_ble_eq_true rfl) dX2_turnFrom_29 ⟨Nat.le_of_ble_eq_true rfl, Nat.le_of_ble_eq_true rfl⟩ (np := 32) rfl (k_RI ?_)
    refine g_istore F (lv' := [some (.ref (ad 0)), some (.int (nI i)), some (.int (nI n)), some (.int (nI ab)), some (.int (turnS L (nI (ab / 10)) (nI (ab % 10)) 1 (i + 1) σ)), none, none, none]) dX2_turnFrom_32 (by decide) rfl rfl (np := 34) rfl ?_
    refine g_iload_n F dX2_turnFrom_34 rfl rfl (np := 35) rfl ?_
    refine g_iconst F (v := (nI 2)) dX2_turnFrom_35 (by decide) (np := 36) rfl ?_
    refine g_iremN F (by omega) (by decide) (by decide) dX2_turnFrom_36 (np := 37) rfl ?_
    have J51 : ∀ (wh : Nat), ((if i % 2 = 0 then nI (ab % 10) else nI (ab / 10)) = nI wh) → WG zp l ze ({ frames := 8, cells := 0, slots := 0, locals := 191 } : Room) zs zm za zb zt zc D B 8 (MQ zb (QT D B T) za zs 0 0 (zA B)) (MH D ad h0 σ) 0 0 51 [some (.ref (ad 0)), some (.int (nI i)), some (.int (nI n)), some (.int (nI ab)), some (.int (turnS L (nI (ab / 10)) (nI (ab % 10)) 1 (i + 1) σ)), none, none, none] [.int (nI wh)] := by
      intro wh hwh
      refine g_istore F (lv' := [some (.ref (ad 0)), some (.int (nI i)), some (.int (nI n)), some (.int (nI ab)), some (.int (turnS L (nI (ab / 10)) (nI (ab % 10)) 1 (i + 1) σ)), some (.int (nI wh)), none, none]) dX2_turnFrom_51 (by decide) rfl rfl (np := 53) rfl ?_
      refine g_iconst F (v := (nI 0)) dX2_turnFrom_53 (by decide) (np := 54) rfl ?_
      refine g_istore F (lv' := [some (.ref (ad 0)), some (.int (nI i)), some (.int (nI n)), some (.int (nI ab)), some (.int (turnS L (nI (ab / 10)) (nI (ab % 10)) 1 (i + 1) σ)), some (.int (nI wh)), some (.int (nI 0)), none]) dX2_turnFrom_54 (by decide) rfl rfl (np := 56) rfl ?_
      have L56 : ∀ (zn : Nat) (b : Int32) (p : Nat), (b = turnB (turnS L (nI (ab / 10)) (nI (ab % 10)) 1 (i + 1)) (if i % 2 = 0 then jmax else jmin) (if i % 2 = 0 then nI (ab % 10) else nI (ab / 10)) σ p) → (p ≤ σ.1 2) → σ.1 2 - p < zn → WG zp l ze ({ frames := 8, cells := 0, slots := 0, locals := 191 } : Room) zs zm za zb zt zc D B 8 (MQ zb (QT D B T) za zs 0 0 (zA B)) (MH D ad h0 σ) 0 0 56 [some (.ref (ad 0)), some (.int (nI i)), some (.int (nI n)), some (.int (nI ab)), some (.int b), some (.int (nI wh)), some (.int (nI p)), none] [] := by
        intro zn
        induction zn with
        | zero => intro b p h1 h2 hm; exact absurd hm (Nat.not_lt_zero _)
        | succ zn ih56 =>
          intro b p h1 h2 hm
          refine g_iload F dX2_turnFrom_56 rfl (np := 58) rfl ?_
          refine g_aload_n F dX2_turnFrom_58 rfl rfl (np := 59) rfl ?_
          refine h_get F (k := 2) (v := .int (nI (σ.1 2))) (by decide) rfl q1548 dX2_turnFrom_59 (np := 62) rfl ?_
          refine g_icmp_geN F (by omega) (by omega) dX2_turnFrom_62 (tp := 143) (by decide) (np := 65) rfl (fun c62 => ?_) (fun c62 => ?_)
          · refine g_iload F dX2_turnFrom_143 rfl (np := 145) rfl ?_
            have hv : b = turnS L (nI (ab / 10)) (nI (ab % 10)) 2 i σ := by rw [h1, show p = σ.1 2 by omega]; unfold turnS; rfl
            exact g_iret F hr rfl (Nat.le_of_ble_eq_true rfl) (Nat.le_of_ble_eq_true rfl) dX2_turnFrom_145 (fun h hs => by rw [← hT]; exact ⟨congrArg (fun z => some (Value.int z)) hv, hs⟩)
          · refine g_aload_n F dX2_turnFrom_65 rfl rfl (np := 66) rfl ?_
            refine g_iload F dX2_turnFrom_66 rfl (np := 68) rfl ?_
            refine g_iload F dX2_turnFrom_68 rfl (np := 70) rfl ?_
            refine g_runV F (C := RX2) (ci := 2) (T0 := TX2) (N := 42) (rest := []) (ct_X2_mayDo hE σ p (nI (wh)) (by omega)) (lw_V q1942 q1944 qs92 q102 q1945) hcV_X2_mayDo ⟨Nat.le_of_ble_eq_true rfl, Nat.le_of_ble_eq_true rfl⟩ rfl (fun h hs => hs.obj) rfl rfl (Nat.le_of_ble_eq_true rfl) dX2_turnFrom_70 ⟨Nat.le_of_ble_eq_true rfl, Nat.le_of_ble_eq_true rfl⟩ (np := 73) rfl (k_RI ?_)
            refine g_if_neB F dX2_turnFrom_73 (tp := 79) (by decide) (np := 76) rfl (fun c73 => ?_) (fun c73 => ?_)
            · have hmy : mayP σ (if i % 2 = 0 then nI (ab % 10) else nI (ab / 10)) p := by rw [hwh]; exact c73
              refine g_aload_n F dX2_turnFrom_79 rfl rfl (np := 80) rfl ?_
              refine h_get F (k := 3) (v := .ref (ad 3)) (by decide) rfl q1549 dX2_turnFrom_80 (np := 83) rfl ?_
              refine g_bipush F (v := (nI 60)) dX2_turnFrom_83 (by decide) (np := 85) rfl ?_
              refine g_iload F dX2_turnFrom_85 rfl (np := 87) rfl ?_
              refine g_iaddN F dX2_turnFrom_87 (np := 88) rfl ?_
              refine g_iconst F (v := (nI 1)) dX2_turnFrom_88 (by decide) (np := 89) rfl ?_
              refine h_ast F (k := 3) (i := 60 + p) (L := 75) rfl rfl (by decide) (by omega) rfl dX2_turnFrom_89 (by decide) (by decide) (np := 90) rfl ?_
              refine g_aload_n F dX2_turnFrom_90 rfl rfl (np := 91) rfl ?_
              refine g_iload_n F dX2_turnFrom_91 rfl rfl (np := 92) rfl ?_
              refine g_iconst F (v := (nI 1)) dX2_turnFrom_92 (by decide) (np := 93) rfl ?_
              refine g_iaddN F dX2_turnFrom_93 (np := 94) rfl ?_
              refine g_iload_n F dX2_turnFrom_94 rfl rfl (np := 95) rfl ?_
              refine g_iload_n F dX2_turnFrom_95 rfl rfl (np := 96) rfl ?_
              refine g_runV F (C := RX2) (ci := 2) (T0 := TX2) (N := 42) (rest := []) (ct_X2_turnFrom_1 hE (sA σ 3 (60 + p) (nI (1))) L (i + 1) n ab (by exact hok.sA3 _ _) (by exact hm14) (by omega) (by omega) (by exact hab)) (lw_V q1938 q1940 qs91 q102 q1941) hcV_X2_turnFrom ⟨Nat.le_of_ble_eq_true rfl, Nat.le_of_ble_eq_true rfl⟩ rfl (fun h hs => hs.obj) rfl rfl (Nat.le_of_ble_eq_true rfl) dX2_turnFrom_96 ⟨Nat.le_of_ble_eq_true rfl, Nat.le_of_ble_eq_true rfl⟩ (np := 99) rfl (k_RI ?_)
              refine g_istore F (lv' := [some (.ref (ad 0)), some (.int (nI i)), some (.int (nI n)), some (.int (nI ab)), some (.int b), some (.int (nI wh)), some (.int (nI p)), some (.int (turnS L (nI (ab / 10)) (nI (ab % 10)) 1 (i + 1) (sA σ 3 (60 + p) (nI (1)))))]) dX2_turnFrom_99 (by decide) rfl rfl (np := 101) rfl ?_
              refine WG.weak (S' := MH D ad h0 (dnP σ p)) (fun h hs => by rw [show (dnP σ p) = ((sA σ 3 (60 + p) (nI (1)))) from by rfl]; exact hs) ?_
              refine g_aload_n F dX2_turnFrom_101 rfl rfl (np := 102) rfl ?_
              refine h_get F (k := 3) (v := .ref (ad 3)) (by decide) rfl q1549 dX2_turnFrom_102 (np := 105) rfl ?_
              refine g_bipush F (v := (nI 60)) dX2_turnFrom_105 (by decide) (np := 107) rfl ?_
              refine g_iload F dX2_turnFrom_107 rfl (np := 109) rfl ?_
              refine g_iaddN F dX2_turnFrom_109 (np := 110) rfl ?_
              refine g_iconst F (v := (nI 0)) dX2_turnFrom_110 (by decide) (np := 111) rfl ?_
              refine h_ast F (k := 3) (i := 60 + p) (L := 75) rfl rfl (by decide) (by omega) rfl dX2_turnFrom_111 (by decide) (by decide) (np := 112) rfl ?_
              refine WG.weak (S' := MH D ad h0 σ) (fun h hs => by rw [show σ = (sA (dnP σ p) 3 (60 + p) (nI (0))) from by exact (dn_back hmy.2.1).symm]; exact hs) ?_
              refine g_iload_n F dX2_turnFrom_112 rfl rfl (np := 113) rfl ?_
              refine g_iconst F (v := (nI 2)) dX2_turnFrom_113 (by decide) (np := 114) rfl ?_
              refine g_iremN F (by omega) (by decide) (by decide) dX2_turnFrom_114 (np := 115) rfl ?_
              refine g_if_neN F (by omega) dX2_turnFrom_115 (tp := 128) (by decide) (np := 118) rfl (fun c115 => ?_) (fun c115 => ?_)
              · have hop : (if i % 2 = 0 then jmax else jmin) = jmin := if_neg ‹¬ i % 2 = 0›
                refine g_iload F dX2_turnFrom_128 rfl (np := 130) rfl ?_
                refine g_iload F dX2_turnFrom_130 rfl (np := 132) rfl ?_
                refine g_min F (rest := []) q1831 (by decide) (by decide) (Nat.le_of_ble_eq_true rfl) (Nat.le_of_ble_eq_true rfl) dX2_turnFrom_132 (np := 135) rfl ?_
                refine g_istore F (lv' := [some (.ref (ad 0)), some (.int (nI i)), some (.int (nI n)), some (.int (nI ab)), some (.int (jmin b (turnS L (nI (ab / 10)) (nI (ab % 10)) 1 (i + 1) (sA σ 3 (60 + p) (nI (1)))))), some (.int (nI wh)), some (.int (nI p)), some (.int (turnS L (nI (ab / 10)) (nI (ab % 10)) 1 (i + 1) (sA σ 3 (60 + p) (nI (1)))))]) dX2_turnFrom_135 (by decide) rfl rfl (np := 137) rfl ?_
                refine g_iinc F (v := (nI (p + 1))) (lv' := [some (.ref (ad 0)), some (.int (nI i)), some (.int (nI n)), some (.int (nI ab)), some (.int (jmin b (turnS L (nI (ab / 10)) (nI (ab % 10)) 1 (i + 1) (sA σ 3 (60 + p) (nI (1)))))), some (.int (nI wh)), some (.int (nI (p + 1))), some (.int (turnS L (nI (ab / 10)) (nI (ab % 10)) 1 (i + 1) (sA σ 3 (60 + p) (nI (1)))))]) dX2_turnFrom_137 rfl (nI_add _ _) (by decide) rfl rfl (np := 140) rfl ?_
                refine g_goto F dX2_turnFrom_140 (np := 56) (by decide) ?_
                refine WG.dropL (i := 7) (lv' := [some (.ref (ad 0)), some (.int (nI i)), some (.int (nI n)), some (.int (nI ab)), some (.int (jmin b (turnS L (nI (ab / 10)) (nI (ab % 10)) 1 (i + 1) (sA σ 3 (60 + p) (nI (1)))))), some (.int (nI wh)), some (.int (nI (p + 1))), none]) rfl ?_
                exact ih56 (jmin b (turnS L (nI (ab / 10)) (nI (ab % 10)) 1 (i + 1) (sA σ 3 (60 + p) (nI (1))))) (p + 1) (by unfold turnB; first | (rw [pif_f (show ¬ mayP σ _ p by rw [hwh]; exact c73)]; exact h1) | (rw [pif_t hmy, h1]; exact (congrFun (congrFun hop _) _).symm)) (by first | assumption | omega) (by omega)
              · have hop : (if i % 2 = 0 then jmax else jmin) = jmax := if_pos ‹i % 2 = 0›
                refine g_iload F dX2_turnFrom_118 rfl (np := 120) rfl ?_
                refine g_iload F dX2_turnFrom_120 rfl (np := 122) rfl ?_
                refine g_max F (rest := []) q1823 (by decide) (by decide) (Nat.le_of_ble_eq_true rfl) (Nat.le_of_ble_eq_true rfl) dX2_turnFrom_122 (np := 125) rfl ?_
                refine g_goto F dX2_turnFrom_125 (np := 135) (by decide) ?_
                refine g_istore F (lv' := [some (.ref (ad 0)), some (.int (nI i)), some (.int (nI n)), some (.int (nI ab)), some (.int (jmax b (turnS L (nI (ab / 10)) (nI (ab % 10)) 1 (i + 1) (sA σ 3 (60 + p) (nI (1)))))), some (.int (nI wh)), some (.int (nI p)), some (.int (turnS L (nI (ab / 10)) (nI (ab % 10)) 1 (i + 1) (sA σ 3 (60 + p) (nI (1)))))]) dX2_turnFrom_135 (by decide) rfl rfl (np := 137) rfl ?_
                refine g_iinc F (v := (nI (p + 1))) (lv' := [some (.ref (ad 0)), some (.int (nI i)), some (.int (nI n)), some (.int (nI ab)), some (.int (jmax b (turnS L (nI (ab / 10)) (nI (ab % 10)) 1 (i + 1) (sA σ 3 (60 + p) (nI (1)))))), some (.int (nI wh)), some (.int (nI (p + 1))), some (.int (turnS L (nI (ab / 10)) (nI (ab % 10)) 1 (i + 1) (sA σ 3 (60 + p) (nI (1)))))]) dX2_turnFrom_137 rfl (nI_add _ _) (by decide) rfl rfl (np := 140) rfl ?_
                refine g_goto F dX2_turnFrom_140 (np := 56) (by decide) ?_
                refine WG.dropL (i := 7) (lv' := [some (.ref (ad 0)), some (.int (nI i)), some (.int (nI n)), some (.int (nI ab)), some (.int (jmax b (turnS L (nI (ab / 10)) (nI (ab % 10)) 1 (i + 1) (sA σ 3 (60 + p) (nI (1)))))), some (.int (nI wh)), some (.int (nI (p + 1))), none]) rfl ?_
                exact ih56 (jmax b (turnS L (nI (ab / 10)) (nI (ab % 10)) 1 (i + 1) (sA σ 3 (60 + p) (nI (1))))) (p + 1) (by unfold turnB; first | (rw [pif_f (show ¬ mayP σ _ p by rw [hwh]; exact c73)]; exact h1) | (rw [pif_t hmy, h1]; exact (congrFun (congrFun hop _) _).symm)) (by first | assumption | omega) (by omega)
            · refine g_goto F dX2_turnFrom_76 (np := 137) (by decide) ?_
              refine g_iinc F (v := (nI (p + 1))) (lv' := [some (.ref (ad 0)), some (.int (nI i)), some (.int (nI n)), some (.int (nI ab)), some (.int b), some (.int (nI wh)), some (.int (nI (p + 1))), none]) dX2_turnFrom_137 rfl (nI_add _ _) (by decide) rfl rfl (np := 140) rfl ?_
              refine g_goto F dX2_turnFrom_140 (np := 56) (by decide) ?_
              exact ih56 b (p + 1) (by unfold turnB; first | (rw [pif_f (show ¬ mayP σ _ p by rw [hwh]; exact c73)]; exact h1) | (rw [pif_t hmy, h1]; exact (congrFun (congrFun hop _) _).symm)) (by first | assumption | omega) (by omega)
      exact L56 _ (turnS L (nI (ab / 10)) (nI (ab % 10)) 1 (i + 1) σ) 0 (by rfl) (by omega) (Nat.lt_succ_self _)
    refine g_if_neN F (by omega) dX2_turnFrom_37 (tp := 47) (by decide) (np := 40) rfl (fun c37 => ?_) (fun c37 => ?_)
    · refine g_iload_n F dX2_turnFrom_47 rfl rfl (np := 48) rfl ?_
      refine g_bipush F (v := (nI 10)) dX2_turnFrom_48 (by decide) (np := 50) rfl ?_
      refine g_idivN F (by omega) (by decide) (by decide) dX2_turnFrom_50 (np := 51) rfl ?_
      exact J51 (ab / 10) (by first | (rw [if_pos ‹i % 2 = 0›]; done) | (rw [if_neg ‹¬ i % 2 = 0›]; done))
    · refine g_iload_n F dX2_turnFrom_40 rfl rfl (np := 41) rfl ?_
      refine g_bipush F (v := (nI 10)) dX2_turnFrom_41 (by decide) (np := 43) rfl ?_
      refine g_iremN F (by omega) (by decide) (by decide) dX2_turnFrom_43 (np := 44) rfl ?_
      refine g_goto F dX2_turnFrom_44 (np := 51) (by decide) ?_
      exact J51 (ab % 10) (by first | (rw [if_pos ‹i % 2 = 0›]; done) | (rw [if_neg ‹¬ i % 2 = 0›]; done))
  · exact absurd c2 (by omega)

set_option maxRecDepth 100000 in
theorem ct_X2_turnFrom_3 {l : Launch} {D : va_G} {E : State → Prop} {B : Nat} (hE : Stab E) {ad : Nat → Nat} {h0 : AH} (σ : MSt) (L : LawT) (i : Nat) (n : Nat) (ab : Nat) (hok : mOK σ L) (hm14 : σ.1 2 ≤ 14) (hn : n = i + 3) (hi : n ≤ 10) (hab : ab < 2 ^ 31) : Ct l D E B yX2_turnFrom cX2_turnFrom 8 (some .int) 9 218 0 0 [.ref (ad 0), .int (nI i), .int (nI n), .int (nI ab)] (MH D ad h0 σ) (RI (turnS L (nI (ab / 10)) (nI (ab % 10)) 3 i σ) (MH D ad h0 σ)) := by
  refine Ct.of (nL := 8) (lv := [some (.ref (ad 0)), some (.int (nI i)), some (.int (nI n)), some (.int (nI ab)), none, none, none, none]) (by decide) (Nat.le_of_ble_eq_true rfl) hE 4 rfl ?_
  generalize hT : RI (turnS L (nI (ab / 10)) (nI (ab % 10)) 3 i σ) (MH D ad h0 σ) = T
  intro zp ze zs zm zb zt zc F hr hnm
  generalize ([.ref (ad 0), .int (nI i), .int (nI n), .int (nI ab)] : List Value).toArray = za at F ⊢
  have hok2 := hok
  obtain ⟨ho8, hm15, ht99, hby, hlaw⟩ := hok2
  refine g_iload_n F dX2_turnFrom_0 rfl rfl (np := 1) rfl ?_
  refine g_iload_n F dX2_turnFrom_1 rfl rfl (np := 2) rfl ?_
  refine g_icmp_neN F (by omega) (by omega) dX2_turnFrom_2 (tp := 23) (by decide) (np := 5) rfl (fun c2 => ?_) (fun c2 => ?_)
  · refine g_aload_n F dX2_turnFrom_23 rfl rfl (np := 24) rfl ?_
    refine g_iload_n F dX2_turnFrom_24 rfl rfl (np := 25) rfl ?_
    refine g_iconst F (v := (nI 1)) dX2_turnFrom_25 (by decide) (np := 26) rfl ?_
    refine g_iaddN F dX2_turnFrom_26 (np := 27) rfl ?_
    refine g_iload_n F dX2_turnFrom_27 rfl rfl (np := 28) rfl ?_
    refine g_iload_n F dX2_turnFrom_28 rfl rfl (np := 29) rfl ?_
    refine g_runV F (C := RX2) (ci := 2) (T0 := TX2) (N := 42) (rest := []) (ct_X2_turnFrom_2 hE σ L (i + 1) n ab (by exact hok) (by exact hm14) (by omega) (by omega) (by exact hab)) (lw_V q1938 q1940 qs91 q102 q1941) hcV_X2_turnFrom ⟨Nat.le_of_ble_eq_true rfl, Nat.le_of_ble_eq_true rfl⟩ rfl (fun h hs => hs.obj) rfl rfl (Nat.le_of_ble_eq_true rfl) dX2_turnFrom_29 ⟨Nat.le_of_ble_eq_true rfl, Nat.le_of_ble_eq_true rfl⟩ (np := 32) rfl (k_RI ?_)
    refine g_istore F (lv' := [some (.ref (ad 0)), some (.int (nI i)), some (.int (nI n)), some (.int (nI ab)), some (.int (turnS L (nI (ab / 10)) (nI (ab % 10)) 2 (i + 1) σ)), none, none, none]) dX2_turnFrom_32 (by decide) rfl rfl (np := 34) rfl ?_
    refine g_iload_n F dX2_turnFrom_34 rfl rfl (np := 35) rfl ?_
    refine g_iconst F (v := (nI 2)) dX2_turnFrom_35 (by decide) (np := 36) rfl ?_
    refine g_iremN F (by omega) (by decide) (by decide) dX2_turnFrom_36 (np := 37) rfl ?_
    have J51 : ∀ (wh : Nat), ((if i % 2 = 0 then nI (ab % 10) else nI (ab / 10)) = nI wh) → WG zp l ze ({ frames := 9, cells := 0, slots := 0, locals := 218 } : Room) zs zm za zb zt zc D B 8 (MQ zb (QT D B T) za zs 0 0 (zA B)) (MH D ad h0 σ) 0 0 51 [some (.ref (ad 0)), some (.int (nI i)), some (.int (nI n)), some (.int (nI ab)), some (.int (turnS L (nI (ab / 10)) (nI (ab % 10)) 2 (i + 1) σ)), none, none, none] [.int (nI wh)] := by
      intro wh hwh
      refine g_istore F (lv' := [some (.ref (ad 0)), some (.int (nI i)), some (.int (nI n)), some (.int (nI ab)), some (.int (turnS L (nI (ab / 10)) (nI (ab % 10)) 2 (i + 1) σ)), some (.int (nI wh)), none, none]) dX2_turnFrom_51 (by decide) rfl rfl (np := 53) rfl ?_
      refine g_iconst F (v := (nI 0)) dX2_turnFrom_53 (by decide) (np := 54) rfl ?_
      refine g_istore F (lv' := [some (.ref (ad 0)), some (.int (nI i)), some (.int (nI n)), some (.int (nI ab)), some (.int (turnS L (nI (ab / 10)) (nI (ab % 10)) 2 (i + 1) σ)), some (.int (nI wh)), some (.int (nI 0)), none]) dX2_turnFrom_54 (by decide) rfl rfl (np := 56) rfl ?_
      have L56 : ∀ (zn : Nat) (b : Int32) (p : Nat), (b = turnB (turnS L (nI (ab / 10)) (nI (ab % 10)) 2 (i + 1)) (if i % 2 = 0 then jmax else jmin) (if i % 2 = 0 then nI (ab % 10) else nI (ab / 10)) σ p) → (p ≤ σ.1 2) → σ.1 2 - p < zn → WG zp l ze ({ frames := 9, cells := 0, slots := 0, locals := 218 } : Room) zs zm za zb zt zc D B 8 (MQ zb (QT D B T) za zs 0 0 (zA B)) (MH D ad h0 σ) 0 0 56 [some (.ref (ad 0)), some (.int (nI i)), some (.int (nI n)), some (.int (nI ab)), some (.int b), some (.int (nI wh)), some (.int (nI p)), none] [] := by
        intro zn
        induction zn with
        | zero => intro b p h1 h2 hm; exact absurd hm (Nat.not_lt_zero _)
        | succ zn ih56 =>
          intro b p h1 h2 hm
          refine g_iload F dX2_turnFrom_56 rfl (np := 58) rfl ?_
          refine g_aload_n F dX2_turnFrom_58 rfl rfl (np := 59) rfl ?_
          refine h_get F (k := 2) (v := .int (nI (σ.1 2))) (by decide) rfl q1548 dX2_turnFrom_59 (np := 62) rfl ?_
          refine g_icmp_geN F (by omega) (by omega) dX2_turnFrom_62 (tp := 143) (by decide) (np := 65) rfl (fun c62 => ?_) (fun c62 => ?_)
          · refine g_iload F dX2_turnFrom_143 rfl (np := 145) rfl ?_
            have hv : b = turnS L (nI (ab / 10)) (nI (ab % 10)) 3 i σ := by rw [h1, show p = σ.1 2 by omega]; unfold turnS; rfl
            exact g_iret F hr rfl (Nat.le_of_ble_eq_true rfl) (Nat.le_of_ble_eq_true rfl) dX2_turnFrom_145 (fun h hs => by rw [← hT]; exact ⟨congrArg (fun z => some (Value.int z)) hv, hs⟩)
          · refine g_aload_n F dX2_turnFrom_65 rfl rfl (np := 66) rfl ?_
            refine g_iload F dX2_turnFrom_66 rfl (np := 68) rfl ?_
            refine g_iload F dX2_turnFrom_68 rfl (np := 70) rfl ?_
            refine g_runV F (C := RX2) (ci := 2) (T0 := TX2) (N := 42) (rest := []) (ct_X2_mayDo hE σ p (nI (wh)) (by omega)) (lw_V q1942 q1944 qs92 q102 q1945) hcV_X2_mayDo ⟨Nat.le_of_ble_eq_true rfl, Nat.le_of_ble_eq_true rfl⟩ rfl (fun h hs => hs.obj) rfl rfl (Nat.le_of_ble_eq_true rfl) dX2_turnFrom_70 ⟨Nat.le_of_ble_eq_true rfl, Nat.le_of_ble_eq_true rfl⟩ (np := 73) rfl (k_RI ?_)
            refine g_if_neB F dX2_turnFrom_73 (tp := 79) (by decide) (np := 76) rfl (fun c73 => ?_) (fun c73 => ?_)
            · have hmy : mayP σ (if i % 2 = 0 then nI (ab % 10) else nI (ab / 10)) p := by rw [hwh]; exact c73
              refine g_aload_n F dX2_turnFrom_79 rfl rfl (np := 80) rfl ?_
              refine h_get F (k := 3) (v := .ref (ad 3)) (by decide) rfl q1549 dX2_turnFrom_80 (np := 83) rfl ?_
              refine g_bipush F (v := (nI 60)) dX2_turnFrom_83 (by decide) (np := 85) rfl ?_
              refine g_iload F dX2_turnFrom_85 rfl (np := 87) rfl ?_
              refine g_iaddN F dX2_turnFrom_87 (np := 88) rfl ?_
              refine g_iconst F (v := (nI 1)) dX2_turnFrom_88 (by decide) (np := 89) rfl ?_
              refine h_ast F (k := 3) (i := 60 + p) (L := 75) rfl rfl (by decide) (by omega) rfl dX2_turnFrom_89 (by decide) (by decide) (np := 90) rfl ?_
              refine g_aload_n F dX2_turnFrom_90 rfl rfl (np := 91) rfl ?_
              refine g_iload_n F dX2_turnFrom_91 rfl rfl (np := 92) rfl ?_
              refine g_iconst F (v := (nI 1)) dX2_turnFrom_92 (by decide) (np := 93) rfl ?_
              refine g_iaddN F dX2_turnFrom_93 (np := 94) rfl ?_
              refine g_iload_n F dX2_turnFrom_94 rfl rfl (np := 95) rfl ?_
              refine g_iload_n F dX2_turnFrom_95 rfl rfl (np := 96) rfl ?_
              refine g_runV F (C := RX2) (ci := 2) (T0 := TX2) (N := 42) (rest := []) (ct_X2_turnFrom_2 hE (sA σ 3 (60 + p) (nI (1))) L (i + 1) n ab (by exact hok.sA3 _ _) (by exact hm14) (by omega) (by omega) (by exact hab)) (lw_V q1938 q1940 qs91 q102 q1941) hcV_X2_turnFrom ⟨Nat.le_of_ble_eq_true rfl, Nat.le_of_ble_eq_true rfl⟩ rfl (fun h hs => hs.obj) rfl rfl (Nat.le_of_ble_eq_true rfl) dX2_turnFrom_96 ⟨Nat.le_of_ble_eq_true rfl, Nat.le_of_ble_eq_true rfl⟩ (np := 99) rfl (k_RI ?_)
              refine g_istore F (lv' := [some (.ref (ad 0)), some (.int (nI i)), some (.int (nI n)), some (.int (nI ab)), some (.int b), some (.int (nI wh)), some (.int (nI p)), some (.int (turnS L (nI (ab / 10)) (nI (ab % 10)) 2 (i + 1) (sA σ 3 (60 + p) (nI (1)))))]) dX2_turnFrom_99 (by decide) rfl rfl (np := 101) rfl ?_
              refine WG.weak (S' := MH D ad h0 (dnP σ p)) (fun h hs => by rw [show (dnP σ p) = ((sA σ 3 (60 + p) (nI (1)))) from by rfl]; exact hs) ?_
              refine g_aload_n F dX2_turnFrom_101 rfl rfl (np := 102) rfl ?_
              refine h_get F (k := 3) (v := .ref (ad 3)) (by decide) rfl q1549 dX2_turnFrom_102 (np := 105) rfl ?_
              refine g_bipush F (v := (nI 60)) dX2_turnFrom_105 (by decide) (np := 107) rfl ?_
              refine g_iload F dX2_turnFrom_107 rfl (np := 109) rfl ?_
              refine g_iaddN F dX2_turnFrom_109 (np := 110) rfl ?_
              refine g_iconst F (v := (nI 0)) dX2_turnFrom_110 (by decide) (np := 111) rfl ?_
              refine h_ast F (k := 3) (i := 60 + p) (L := 75) rfl rfl (by decide) (by omega) rfl dX2_turnFrom_111 (by decide) (by decide) (np := 112) rfl ?_
              refine WG.weak (S' := MH D ad h0 σ) (fun h hs => by rw [show σ = (sA (dnP σ p) 3 (60 + p) (nI (0))) from by exact (dn_back hmy.2.1).symm]; exact hs) ?_
              refine g_iload_n F dX2_turnFrom_112 rfl rfl (np := 113) rfl ?_
              refine g_iconst F (v := (nI 2)) dX2_turnFrom_113 (by decide) (np := 114) rfl ?_
              refine g_iremN F (by omega) (by decide) (by decide) dX2_turnFrom_114 (np := 115) rfl ?_
              refine g_if_neN F (by omega) dX2_turnFrom_115 (tp := 128) (by decide) (np := 118) rfl (fun c115 => ?_) (fun c115 => ?_)
              · have hop : (if i % 2 = 0 then jmax else jmin) = jmin := if_neg ‹¬ i % 2 = 0›
                refine g_iload F dX2_turnFrom_128 rfl (np := 130) rfl ?_
                refine g_iload F dX2_turnFrom_130 rfl (np := 132) rfl ?_
                refine g_min F (rest := []) q1831 (by decide) (by decide) (Nat.le_of_ble_eq_true rfl) (Nat.le_of_ble_eq_true rfl) dX2_turnFrom_132 (np := 135) rfl ?_
                refine g_istore F (lv' := [some (.ref (ad 0)), some (.int (nI i)), some (.int (nI n)), some (.int (nI ab)), some (.int (jmin b (turnS L (nI (ab / 10)) (nI (ab % 10)) 2 (i + 1) (sA σ 3 (60 + p) (nI (1)))))), some (.int (nI wh)), some (.int (nI p)), some (.int (turnS L (nI (ab / 10)) (nI (ab % 10)) 2 (i + 1) (sA σ 3 (60 + p) (nI (1)))))]) dX2_turnFrom_135 (by decide) rfl rfl (np := 137) rfl ?_
                refine g_iinc F (v := (nI (p + 1))) (lv' := [some (.ref (ad 0)), some (.int (nI i)), some (.int (nI n)), some (.int (nI ab)), some (.int (jmin b (turnS L (nI (ab / 10)) (nI (ab % 10)) 2 (i + 1) (sA σ 3 (60 + p) (nI (1)))))), some (.int (nI wh)), some (.int (nI (p + 1))), some (.int (turnS L (nI (ab / 10)) (nI (ab % 10)) 2 (i + 1) (sA σ 3 (60 + p) (nI (1)))))]) dX2_turnFrom_137 rfl (nI_add _ _) (by decide) rfl rfl (np := 140) rfl ?_
                refine g_goto F dX2_turnFrom_140 (np := 56) (by decide) ?_
                refine WG.dropL (i := 7) (lv' := [some (.ref (ad 0)), some (.int (nI i)), some (.int (nI n)), some (.int (nI ab)), some (.int (jmin b (turnS L (nI (ab / 10)) (nI (ab % 10)) 2 (i + 1) (sA σ 3 (60 + p) (nI (1)))))), some (.int (nI wh)), some (.int (nI (p + 1))), none]) rfl ?_
                exact ih56 (jmin b (turnS L (nI (ab / 10)) (nI (ab % 10)) 2 (i + 1) (sA σ 3 (60 + p) (nI (1))))) (p + 1) (by unfold turnB; first | (rw [pif_f (show ¬ mayP σ _ p by rw [hwh]; exact c73)]; exact h1) | (rw [pif_t hmy, h1]; exact (congrFun (congrFun hop _) _).symm)) (by first | assumption | omega) (by omega)
              · have hop : (if i % 2 = 0 then jmax else jmin) = jmax := if_pos ‹i % 2 = 0›
                refine g_iload F dX2_turnFrom_118 rfl (np := 120) rfl ?_
                refine g_iload F dX2_turnFrom_120 rfl (np := 122) rfl ?_
                refine g_max F (rest := []) q1823 (by decide) (by decide) (Nat.le_of_ble_eq_true rfl) (Nat.le_of_ble_eq_true rfl) dX2_turnFrom_122 (np := 125) rfl ?_
                refine g_goto F dX2_turnFrom_125 (np := 135) (by decide) ?_
                refine g_istore F (lv' := [some (.ref (ad 0)), some (.int (nI i)), some (.int (nI n)), some (.int (nI ab)), some (.int (jmax b (turnS L (nI (ab / 10)) (nI (ab % 10)) 2 (i + 1) (sA σ 3 (60 + p) (nI (1)))))), some (.int (nI wh)), some (.int (nI p)), some (.int (turnS L (nI (ab / 10)) (nI (ab % 10)) 2 (i + 1) (sA σ 3 (60 + p) (nI (1)))))]) dX2_turnFrom_135 (by decide) rfl rfl (np := 137) rfl ?_
                refine g_iinc F (v := (nI (p + 1))) (lv' := [some (.ref (ad 0)), some (.int (nI i)), some (.int (nI n)), some (.int (nI ab)), some (.int (jmax b (turnS L (nI (ab / 10)) (nI (ab % 10)) 2 (i + 1) (sA σ 3 (60 + p) (nI (1)))))), some (.int (nI wh)), some (.int (nI (p + 1))), some (.int (turnS L (nI (ab / 10)) (nI (ab % 10)) 2 (i + 1) (sA σ 3 (60 + p) (nI (1)))))]) dX2_turnFrom_137 rfl (nI_add _ _) (by decide) rfl rfl (np := 140) rfl ?_
                refine g_goto F dX2_turnFrom_140 (np := 56) (by decide) ?_
                refine WG.dropL (i := 7) (lv' := [some (.ref (ad 0)), some (.int (nI i)), some (.int (nI n)), some (.int (nI ab)), some (.int (jmax b (turnS L (nI (ab / 10)) (nI (ab % 10)) 2 (i + 1) (sA σ 3 (60 + p) (nI (1)))))), some (.int (nI wh)), some (.int (nI (p + 1))), none]) rfl ?_
                exact ih56 (jmax b (turnS L (nI (ab / 10)) (nI (ab % 10)) 2 (i + 1) (sA σ 3 (60 + p) (nI (1))))) (p + 1) (by unfold turnB; first | (rw [pif_f (show ¬ mayP σ _ p by rw [hwh]; exact c73)]; exact h1) | (rw [pif_t hmy, h1]; exact (congrFun (congrFun hop _) _).symm)) (by first | assumption | omega) (by omega)
            · refine g_goto F dX2_turnFrom_76 (np := 137) (by decide) ?_
              refine g_iinc F (v := (nI (p + 1))) (lv' := [some (.ref (ad 0)), some (.int (nI i)), some (.int (nI n)), some (.int (nI ab)), some (.int b), some (.int (nI wh)), some (.int (nI (p + 1))), none]) dX2_turnFrom_137 rfl (nI_add _ _) (by decide) rfl rfl (np := 140) rfl ?_
              refine g_goto F dX2_turnFrom_140 (np := 56) (by decide) ?_
              exact ih56 b (p + 1) (by unfold turnB; first | (rw [pif_f (show ¬ mayP σ _ p by rw [hwh]; exact c73)]; exact h1) | (rw [pif_t hmy, h1]; exact (congrFun (congrFun hop _) _).symm)) (by first | assumption | omega) (by omega)
      exact L56 _ (turnS L (nI (ab / 10)) (nI (ab % 10)) 2 (i + 1) σ) 0 (by rfl) (by omega) (Nat.lt_succ_self _)
    refine g_if_neN F (by omega) dX2_turnFrom_37 (tp := 47) (by decide) (np := 40) rfl (fun c37 => ?_) (fun c37 => ?_)
    · refine g_iload_n F dX2_turnFrom_47 rfl rfl (np := 48) rfl ?_
      refine g_bipush F (v := (nI 10)) dX2_turnFrom_48 (by decide) (np := 50) rfl ?_
      refine g_idivN F (by omega) (by decide) (by decide) dX2_turnFrom_50 (np := 51) rfl ?_
      exact J51 (ab / 10) (by first | (rw [if_pos ‹i % 2 = 0›]; done) | (rw [if_neg ‹¬ i % 2 = 0›]; done))
    · refine g_iload_n F dX2_turnFrom_40 rfl rfl (np := 41) rfl ?_
      refine g_bipush F (v := (nI 10)) dX2_turnFrom_41 (by decide) (np := 43) rfl ?_
      refine g_iremN F (by omega) (by decide) (by decide) dX2_turnFrom_43 (np := 44) rfl ?_
      refine g_goto F dX2_turnFrom_44 (np := 51) (by decide) ?_
      exact J51 (ab % 10) (by first | (rw [if_pos ‹i % 2 = 0›]; done) | (rw [if_neg ‹¬ i % 2 = 0›]; done))
  · exact absurd c2 (by omega)

theorem ct_X2_turnFrom {l : Launch} {D : va_G} {E : State → Prop} {B : Nat} (hE : Stab E) {ad : Nat → Nat} {h0 : AH} (σ : MSt) (L : LawT) (i n ab : Nat) (hok : mOK σ L) (hm14 : σ.1 2 ≤ 14) (hn : i ≤ n ∧ n ≤ i + 3) (hi : n ≤ 10) (hab : ab < 2 ^ 31) : Ct l D E B yX2_turnFrom cX2_turnFrom 8 (some .int) 9 218 0 0 [.ref (ad 0), .int (nI i), .int (nI n), .int (nI ab)] (MH D ad h0 σ) (RI (turnS L (nI (ab / 10)) (nI (ab % 10)) (n - i) i σ) (MH D ad h0 σ)) := by
  rcases (show n = i ∨ n = i + 1 ∨ n = i + 2 ∨ n = i + 3 by omega) with h | h | h | h
  · rw [show n - i = 0 by omega]; exact (ct_X2_turnFrom_0 hE σ L i n ab hok hm14 (by omega) hi hab).up (Nat.le_of_ble_eq_true rfl) (Nat.le_of_ble_eq_true rfl)
  · rw [show n - i = 1 by omega]; exact (ct_X2_turnFrom_1 hE σ L i n ab hok hm14 (by omega) hi hab).up (Nat.le_of_ble_eq_true rfl) (Nat.le_of_ble_eq_true rfl)
  · rw [show n - i = 2 by omega]; exact (ct_X2_turnFrom_2 hE σ L i n ab hok hm14 (by omega) hi hab).up (Nat.le_of_ble_eq_true rfl) (Nat.le_of_ble_eq_true rfl)
  · rw [show n - i = 3 by omega]; exact (ct_X2_turnFrom_3 hE σ L i n ab hok hm14 (by omega) hi hab).up (Nat.le_of_ble_eq_true rfl) (Nat.le_of_ble_eq_true rfl)

set_option maxRecDepth 100000 in
theorem ct_X2_byTurns {l : Launch} {D : va_G} {E : State → Prop} {B : Nat} (hE : Stab E) {ad : Nat → Nat} {h0 : AH} (σ : MSt) (L : LawT) (ab : Int32) (n : Int32) (w : Int32) (hok : mOK σ L) (hm14 : σ.1 2 ≤ 14) : Ct l D E B yX2_byTurns cX2_byTurns 8 (some .int) 10 245 0 0 [.ref (ad 0), .int ab, .int n, .int w] (MH D ad h0 σ) (RI (rTurns L σ ab n w) (MH D ad h0 σ)) := by
  refine Ct.of (nL := 8) (lv := [some (.ref (ad 0)), some (.int ab), some (.int n), some (.int w), none, none, none, none]) (by decide) (Nat.le_of_ble_eq_true rfl) hE 4 rfl ?_
  generalize hT : RI (rTurns L σ ab n w) (MH D ad h0 σ) = T
  intro zp ze zs zm zb zt zc F hr hnm
  generalize ([.ref (ad 0), .int ab, .int n, .int w] : List Value).toArray = za at F ⊢
  have hok2 := hok
  obtain ⟨ho8, hm15, ht99, hby, hlaw⟩ := hok2
  refine g_iload_n F dX2_byTurns_0 rfl rfl (np := 1) rfl ?_
  refine g_if_lt F dX2_byTurns_1 (tp := 55) (by decide) (np := 4) rfl (fun c1 => ?_) (fun c1 => ?_)
  · refine g_ldc F q1727 dX2_byTurns_55 (np := 57) rfl ?_
    have hv : -2000000000 = rTurns L σ ab n w := by unfold rTurns; rw [pif_f (fun z => by obtain ⟨z1, z2, z3, z4, z5, z6⟩ := z; first | exact z1 c1 | exact c12 z2 | exact c23 z3 | exact z4 c34 | exact c43 z5 | exact c52 (bt1.mpr z6))]
    exact g_iret F hr rfl (Nat.le_of_ble_eq_true rfl) (Nat.le_of_ble_eq_true rfl) dX2_byTurns_57 (fun h hs => by rw [← hT]; exact ⟨congrArg (fun z => some (Value.int z)) hv, hs⟩)
  · obtain ⟨hke, hkl⟩ := nI_cl c1
    refine WG.eqv (lv' := [some (.ref (ad 0)), some (.int (nI (ab.toNatClampNeg))), some (.int n), some (.int w), none, none, none, none]) rfl (congrArg (fun z => ([some (.ref (ad 0)), some (.int z), some (.int n), some (.int w), none, none, none, none] : List (Option Value))) (show ab = (nI (ab.toNatClampNeg)) from by exact hke)) ?_
    refine g_aload_n F dX2_byTurns_4 rfl rfl (np := 5) rfl ?_
    refine g_iload_n F dX2_byTurns_5 rfl rfl (np := 6) rfl ?_
    refine g_bipush F (v := (nI 10)) dX2_byTurns_6 (by decide) (np := 8) rfl ?_
    refine g_idivN F (by omega) (by decide) (by decide) dX2_byTurns_8 (np := 9) rfl ?_
    refine g_runV F (C := RX2) (ci := 2) (T0 := TX2) (N := 42) (rest := []) (ct_X2_isOwner hE σ (nI (ab.toNatClampNeg / 10)) (by omega)) (lw_V q1688 q1690 qs54 q102 q1691) hcV_X2_isOwner ⟨Nat.le_of_ble_eq_true rfl, Nat.le_of_ble_eq_true rfl⟩ rfl (fun h hs => hs.obj) rfl rfl (Nat.le_of_ble_eq_true rfl) dX2_byTurns_9 ⟨Nat.le_of_ble_eq_true rfl, Nat.le_of_ble_eq_true rfl⟩ (np := 12) rfl (k_RI ?_)
    refine g_if_eqB F dX2_byTurns_12 (tp := 55) (by decide) (np := 15) rfl (fun c12 => ?_) (fun c12 => ?_)
    · refine g_ldc F q1727 dX2_byTurns_55 (np := 57) rfl ?_
      have hv : -2000000000 = rTurns L σ ab n w := by unfold rTurns; rw [pif_f (fun z => by obtain ⟨z1, z2, z3, z4, z5, z6⟩ := z; first | exact z1 c1 | exact c12 z2 | exact c23 z3 | exact z4 c34 | exact c43 z5 | exact c52 (bt1.mpr z6))]
      exact g_iret F hr rfl (Nat.le_of_ble_eq_true rfl) (Nat.le_of_ble_eq_true rfl) dX2_byTurns_57 (fun h hs => by rw [← hT]; exact ⟨congrArg (fun z => some (Value.int z)) hv, hs⟩)
    · refine g_aload_n F dX2_byTurns_15 rfl rfl (np := 16) rfl ?_
      refine g_iload_n F dX2_byTurns_16 rfl rfl (np := 17) rfl ?_
      refine g_bipush F (v := (nI 10)) dX2_byTurns_17 (by decide) (np := 19) rfl ?_
      refine g_iremN F (by omega) (by decide) (by decide) dX2_byTurns_19 (np := 20) rfl ?_
      refine g_runV F (C := RX2) (ci := 2) (T0 := TX2) (N := 42) (rest := []) (ct_X2_isOwner hE σ (nI (ab.toNatClampNeg % 10)) (by omega)) (lw_V q1688 q1690 qs54 q102 q1691) hcV_X2_isOwner ⟨Nat.le_of_ble_eq_true rfl, Nat.le_of_ble_eq_true rfl⟩ rfl (fun h hs => hs.obj) rfl rfl (Nat.le_of_ble_eq_true rfl) dX2_byTurns_20 ⟨Nat.le_of_ble_eq_true rfl, Nat.le_of_ble_eq_true rfl⟩ (np := 23) rfl (k_RI ?_)
      refine g_if_eqB F dX2_byTurns_23 (tp := 55) (by decide) (np := 26) rfl (fun c23 => ?_) (fun c23 => ?_)
      · refine g_ldc F q1727 dX2_byTurns_55 (np := 57) rfl ?_
        have hv : -2000000000 = rTurns L σ ab n w := by unfold rTurns; rw [pif_f (fun z => by obtain ⟨z1, z2, z3, z4, z5, z6⟩ := z; first | exact z1 c1 | exact c12 z2 | exact c23 z3 | exact z4 c34 | exact c43 z5 | exact c52 (bt1.mpr z6))]
        exact g_iret F hr rfl (Nat.le_of_ble_eq_true rfl) (Nat.le_of_ble_eq_true rfl) dX2_byTurns_57 (fun h hs => by rw [← hT]; exact ⟨congrArg (fun z => some (Value.int z)) hv, hs⟩)
      · refine g_iload_n F dX2_byTurns_26 rfl rfl (np := 27) rfl ?_
        refine g_bipush F (v := (nI 10)) dX2_byTurns_27 (by decide) (np := 29) rfl ?_
        refine g_idivN F (by omega) (by decide) (by decide) dX2_byTurns_29 (np := 30) rfl ?_
        refine g_iload_n F dX2_byTurns_30 rfl rfl (np := 31) rfl ?_
        refine g_bipush F (v := (nI 10)) dX2_byTurns_31 (by decide) (np := 33) rfl ?_
        refine g_iremN F (by omega) (by decide) (by decide) dX2_byTurns_33 (np := 34) rfl ?_
        refine g_icmp_eqN F (by omega) (by omega) dX2_byTurns_34 (tp := 55) (by decide) (np := 37) rfl (fun c34 => ?_) (fun c34 => ?_)
        · refine g_ldc F q1727 dX2_byTurns_55 (np := 57) rfl ?_
          have hv : -2000000000 = rTurns L σ ab n w := by unfold rTurns; rw [pif_f (fun z => by obtain ⟨z1, z2, z3, z4, z5, z6⟩ := z; first | exact z1 c1 | exact c12 z2 | exact c23 z3 | exact z4 c34 | exact c43 z5 | exact c52 (bt1.mpr z6))]
          exact g_iret F hr rfl (Nat.le_of_ble_eq_true rfl) (Nat.le_of_ble_eq_true rfl) dX2_byTurns_57 (fun h hs => by rw [← hT]; exact ⟨congrArg (fun z => some (Value.int z)) hv, hs⟩)
        · refine g_iload_n F dX2_byTurns_37 rfl rfl (np := 38) rfl ?_
          refine g_iconst F (v := (nI 1)) dX2_byTurns_38 (by decide) (np := 39) rfl ?_
          refine g_iconst F (v := (nI 4)) dX2_byTurns_39 (by decide) (np := 40) rfl ?_
          refine g_runS F (rest := []) (ct_X2_within hE n (nI (1)) (nI (4)) ) (lw_S q1677 q1678 q102 q1679) hcS_X2_within ⟨Nat.le_of_ble_eq_true rfl, Nat.le_of_ble_eq_true rfl⟩ rfl rfl (Nat.le_of_ble_eq_true rfl) dX2_byTurns_40 ⟨Nat.le_of_ble_eq_true rfl, Nat.le_of_ble_eq_true rfl⟩ (np := 43) rfl (k_RI ?_)
          refine g_if_eqB F dX2_byTurns_43 (tp := 55) (by decide) (np := 46) rfl (fun c43 => ?_) (fun c43 => ?_)
          · refine g_ldc F q1727 dX2_byTurns_55 (np := 57) rfl ?_
            have hv : -2000000000 = rTurns L σ ab n w := by unfold rTurns; rw [pif_f (fun z => by obtain ⟨z1, z2, z3, z4, z5, z6⟩ := z; first | exact z1 c1 | exact c12 z2 | exact c23 z3 | exact z4 c34 | exact c43 z5 | exact c52 (bt1.mpr z6))]
            exact g_iret F hr rfl (Nat.le_of_ble_eq_true rfl) (Nat.le_of_ble_eq_true rfl) dX2_byTurns_57 (fun h hs => by rw [← hT]; exact ⟨congrArg (fun z => some (Value.int z)) hv, hs⟩)
          · refine g_iload_n F dX2_byTurns_46 rfl rfl (np := 47) rfl ?_
            refine g_iconst F (v := (nI 0)) dX2_byTurns_47 (by decide) (np := 48) rfl ?_
            refine g_iconst F (v := (nI 1)) dX2_byTurns_48 (by decide) (np := 49) rfl ?_
            refine g_runS F (rest := []) (ct_X2_within hE w (nI (0)) (nI (1)) ) (lw_S q1677 q1678 q102 q1679) hcS_X2_within ⟨Nat.le_of_ble_eq_true rfl, Nat.le_of_ble_eq_true rfl⟩ rfl rfl (Nat.le_of_ble_eq_true rfl) dX2_byTurns_49 ⟨Nat.le_of_ble_eq_true rfl, Nat.le_of_ble_eq_true rfl⟩ (np := 52) rfl (k_RI ?_)
            refine g_if_neB F dX2_byTurns_52 (tp := 58) (by decide) (np := 55) rfl (fun c52 => ?_) (fun c52 => ?_)
            · obtain ⟨nn, hn1, hn2, hnn⟩ := (btw_iff (by decide) (by decide)).mp c43
              have hn9 : n.toNatClampNeg = nn := by rw [hnn]; exact nI_clamp (by omega)
              refine WG.eqv (lv' := [some (.ref (ad 0)), some (.int (nI (ab.toNatClampNeg))), some (.int (nI (n.toNatClampNeg))), some (.int w), none, none, none, none]) rfl (congrArg (fun z => ([some (.ref (ad 0)), some (.int (nI (ab.toNatClampNeg))), some (.int z), some (.int w), none, none, none, none] : List (Option Value))) (show n = (nI (n.toNatClampNeg)) from by rw [hnn, nI_clamp (by omega)])) ?_
              have hP : turnP (σ.1 0) ab n w := ⟨c1, c12, c23, c34, c43, bt1.mp c52⟩
              refine g_aload_n F dX2_byTurns_58 rfl rfl (np := 59) rfl ?_
              refine g_iconst F (v := (nI 1)) dX2_byTurns_59 (by decide) (np := 60) rfl ?_
              refine g_iload_n F dX2_byTurns_60 rfl rfl (np := 61) rfl ?_
              refine g_iload_n F dX2_byTurns_61 rfl rfl (np := 62) rfl ?_
              refine g_runV F (C := RX2) (ci := 2) (T0 := TX2) (N := 42) (rest := []) (ct_X2_turnFrom hE σ L 1 n.toNatClampNeg ab.toNatClampNeg (by exact hok) (by exact hm14) (by omega) (by omega) (by omega)) (lw_V q1938 q1940 qs91 q102 q1941) hcV_X2_turnFrom ⟨Nat.le_of_ble_eq_true rfl, Nat.le_of_ble_eq_true rfl⟩ rfl (fun h hs => hs.obj) rfl rfl (Nat.le_of_ble_eq_true rfl) dX2_byTurns_62 ⟨Nat.le_of_ble_eq_true rfl, Nat.le_of_ble_eq_true rfl⟩ (np := 65) rfl (k_RI ?_)
              refine g_istore F (lv' := [some (.ref (ad 0)), some (.int (nI (ab.toNatClampNeg))), some (.int (nI (n.toNatClampNeg))), some (.int w), some (.int (turnS L (nI (ab.toNatClampNeg / 10)) (nI (ab.toNatClampNeg % 10)) (n.toNatClampNeg - 1) 1 σ)), none, none, none]) dX2_byTurns_65 (by decide) rfl rfl (np := 67) rfl ?_
              refine g_bipush F (v := (nI 14)) dX2_byTurns_67 (by decide) (np := 69) rfl ?_
              refine g_istore F (lv' := [some (.ref (ad 0)), some (.int (nI (ab.toNatClampNeg))), some (.int (nI (n.toNatClampNeg))), some (.int w), some (.int (turnS L (nI (ab.toNatClampNeg / 10)) (nI (ab.toNatClampNeg % 10)) (n.toNatClampNeg - 1) 1 σ)), some (.int (nI 14)), none, none]) dX2_byTurns_69 (by decide) rfl rfl (np := 71) rfl ?_
              refine g_iconst F (v := (nI 0)) dX2_byTurns_71 (by decide) (np := 72) rfl ?_
              refine g_istore F (lv' := [some (.ref (ad 0)), some (.int (nI (ab.toNatClampNeg))), some (.int (nI (n.toNatClampNeg))), some (.int w), some (.int (turnS L (nI (ab.toNatClampNeg / 10)) (nI (ab.toNatClampNeg % 10)) (n.toNatClampNeg - 1) 1 σ)), some (.int (nI 14)), some (.int (nI 0)), none]) dX2_byTurns_72 (by decide) rfl rfl (np := 74) rfl ?_
              have L74 : ∀ (zn : Nat) (b : Int32) (d : Nat) (p : Nat), (b = (turnA (turnS L (nI (ab.toNatClampNeg / 10)) (nI (ab.toNatClampNeg % 10)) (n.toNatClampNeg - 1) 1) (nI (ab.toNatClampNeg % 10)) σ p).1) → (p ≤ σ.1 2) → (d = (turnA (turnS L (nI (ab.toNatClampNeg / 10)) (nI (ab.toNatClampNeg % 10)) (n.toNatClampNeg - 1) 1) (nI (ab.toNatClampNeg % 10)) σ p).2) → σ.1 2 - p < zn → WG zp l ze ({ frames := 10, cells := 0, slots := 0, locals := 245 } : Room) zs zm za zb zt zc D B 8 (MQ zb (QT D B T) za zs 0 0 (zA B)) (MH D ad h0 σ) 0 0 74 [some (.ref (ad 0)), some (.int (nI (ab.toNatClampNeg))), some (.int (nI (n.toNatClampNeg))), some (.int w), some (.int b), some (.int (nI d)), some (.int (nI p)), none] [] := by
                intro zn
                induction zn with
                | zero => intro b d p h1 h2 h3 hm; exact absurd hm (Nat.not_lt_zero _)
                | succ zn ih74 =>
                  intro b d p h1 h2 h3 hm
                  refine g_iload F dX2_byTurns_74 rfl (np := 76) rfl ?_
                  refine g_aload_n F dX2_byTurns_76 rfl rfl (np := 77) rfl ?_
                  refine h_get F (k := 2) (v := .int (nI (σ.1 2))) (by decide) rfl q1548 dX2_byTurns_77 (np := 80) rfl ?_
                  refine g_icmp_geN F (by omega) (by omega) dX2_byTurns_80 (tp := 154) (by decide) (np := 83) rfl (fun c80 => ?_) (fun c80 => ?_)
                  · refine g_iload_n F dX2_byTurns_154 rfl rfl (np := 155) rfl ?_
                    refine g_if_ne F dX2_byTurns_155 (tp := 163) (by decide) (np := 158) rfl (fun c155 => ?_) (fun c155 => ?_)
                    · refine g_iload F dX2_byTurns_163 rfl (np := 165) rfl ?_
                      have hv : nI (d) = rTurns L σ ab n w := by unfold rTurns; rw [pif_t hP]; unfold turnR; have hp : p = σ.1 2 := by { omega }; rw [hp] at h1 h3; first | (rw [if_pos c155]; exact h1) | (rw [if_neg c155]; exact congrArg nI h3)
                      exact g_iret F hr rfl (Nat.le_of_ble_eq_true rfl) (Nat.le_of_ble_eq_true rfl) dX2_byTurns_165 (fun h hs => by rw [← hT]; exact ⟨congrArg (fun z => some (Value.int z)) hv, hs⟩)
                    · refine g_iload F dX2_byTurns_158 rfl (np := 160) rfl ?_
                      refine g_goto F dX2_byTurns_160 (np := 165) (by decide) ?_
                      have hv : b = rTurns L σ ab n w := by unfold rTurns; rw [pif_t hP]; unfold turnR; have hp : p = σ.1 2 := by { omega }; rw [hp] at h1 h3; first | (rw [if_pos c155]; exact h1) | (rw [if_neg c155]; exact congrArg nI h3)
                      exact g_iret F hr rfl (Nat.le_of_ble_eq_true rfl) (Nat.le_of_ble_eq_true rfl) dX2_byTurns_165 (fun h hs => by rw [← hT]; exact ⟨congrArg (fun z => some (Value.int z)) hv, hs⟩)
                  · refine g_aload_n F dX2_byTurns_83 rfl rfl (np := 84) rfl ?_
                    refine g_iload F dX2_byTurns_84 rfl (np := 86) rfl ?_
                    refine g_iload_n F dX2_byTurns_86 rfl rfl (np := 87) rfl ?_
                    refine g_bipush F (v := (nI 10)) dX2_byTurns_87 (by decide) (np := 89) rfl ?_
                    refine g_iremN F (by omega) (by decide) (by decide) dX2_byTurns_89 (np := 90) rfl ?_
                    refine g_runV F (C := RX2) (ci := 2) (T0 := TX2) (N := 42) (rest := []) (ct_X2_mayDo hE σ p (nI (ab.toNatClampNeg % 10)) (by omega)) (lw_V q1942 q1944 qs92 q102 q1945) hcV_X2_mayDo ⟨Nat.le_of_ble_eq_true rfl, Nat.le_of_ble_eq_true rfl⟩ rfl (fun h hs => hs.obj) rfl rfl (Nat.le_of_ble_eq_true rfl) dX2_byTurns_90 ⟨Nat.le_of_ble_eq_true rfl, Nat.le_of_ble_eq_true rfl⟩ (np := 93) rfl (k_RI ?_)
                    refine g_if_neB F dX2_byTurns_93 (tp := 99) (by decide) (np := 96) rfl (fun c93 => ?_) (fun c93 => ?_)
                    · refine g_aload_n F dX2_byTurns_99 rfl rfl (np := 100) rfl ?_
                      refine h_get F (k := 3) (v := .ref (ad 3)) (by decide) rfl q1549 dX2_byTurns_100 (np := 103) rfl ?_
                      refine g_bipush F (v := (nI 60)) dX2_byTurns_103 (by decide) (np := 105) rfl ?_
                      refine g_iload F dX2_byTurns_105 rfl (np := 107) rfl ?_
                      refine g_iaddN F dX2_byTurns_107 (np := 108) rfl ?_
                      refine g_iconst F (v := (nI 1)) dX2_byTurns_108 (by decide) (np := 109) rfl ?_
                      refine h_ast F (k := 3) (i := 60 + p) (L := 75) rfl rfl (by decide) (by omega) rfl dX2_byTurns_109 (by decide) (by decide) (np := 110) rfl ?_
                      refine g_aload_n F dX2_byTurns_110 rfl rfl (np := 111) rfl ?_
                      refine g_iconst F (v := (nI 1)) dX2_byTurns_111 (by decide) (np := 112) rfl ?_
                      refine g_iload_n F dX2_byTurns_112 rfl rfl (np := 113) rfl ?_
                      refine g_iload_n F dX2_byTurns_113 rfl rfl (np := 114) rfl ?_
                      refine g_runV F (C := RX2) (ci := 2) (T0 := TX2) (N := 42) (rest := []) (ct_X2_turnFrom hE (sA σ 3 (60 + p) (nI (1))) L 1 n.toNatClampNeg ab.toNatClampNeg (by exact hok.sA3 _ _) (by exact hm14) (by omega) (by omega) (by omega)) (lw_V q1938 q1940 qs91 q102 q1941) hcV_X2_turnFrom ⟨Nat.le_of_ble_eq_true rfl, Nat.le_of_ble_eq_true rfl⟩ rfl (fun h hs => hs.obj) rfl rfl (Nat.le_of_ble_eq_true rfl) dX2_byTurns_114 ⟨Nat.le_of_ble_eq_true rfl, Nat.le_of_ble_eq_true rfl⟩ (np := 117) rfl (k_RI ?_)
                      refine g_istore F (lv' := [some (.ref (ad 0)), some (.int (nI (ab.toNatClampNeg))), some (.int (nI (n.toNatClampNeg))), some (.int w), some (.int b), some (.int (nI d)), some (.int (nI p)), some (.int (turnS L (nI (ab.toNatClampNeg / 10)) (nI (ab.toNatClampNeg % 10)) (n.toNatClampNeg - 1) 1 (sA σ 3 (60 + p) (nI (1)))))]) dX2_byTurns_117 (by decide) rfl rfl (np := 119) rfl ?_
                      refine WG.weak (S' := MH D ad h0 (dnP σ p)) (fun h hs => by rw [show (dnP σ p) = ((sA σ 3 (60 + p) (nI (1)))) from by rfl]; exact hs) ?_
                      refine g_aload_n F dX2_byTurns_119 rfl rfl (np := 120) rfl ?_
                      refine h_get F (k := 3) (v := .ref (ad 3)) (by decide) rfl q1549 dX2_byTurns_120 (np := 123) rfl ?_
                      refine g_bipush F (v := (nI 60)) dX2_byTurns_123 (by decide) (np := 125) rfl ?_
                      refine g_iload F dX2_byTurns_125 rfl (np := 127) rfl ?_
                      refine g_iaddN F dX2_byTurns_127 (np := 128) rfl ?_
                      refine g_iconst F (v := (nI 0)) dX2_byTurns_128 (by decide) (np := 129) rfl ?_
                      refine h_ast F (k := 3) (i := 60 + p) (L := 75) rfl rfl (by decide) (by omega) rfl dX2_byTurns_129 (by decide) (by decide) (np := 130) rfl ?_
                      refine WG.weak (S' := MH D ad h0 σ) (fun h hs => by rw [show σ = (sA (dnP σ p) 3 (60 + p) (nI (0))) from by exact (dn_back c93.2.1).symm]; exact hs) ?_
                      refine g_iload F dX2_byTurns_130 rfl (np := 132) rfl ?_
                      refine g_iload F dX2_byTurns_132 rfl (np := 134) rfl ?_
                      refine g_icmp_gt F dX2_byTurns_134 (tp := 140) (by decide) (np := 137) rfl (fun c134 => ?_) (fun c134 => ?_)
                      · refine g_iload F dX2_byTurns_140 rfl (np := 142) rfl ?_
                        refine g_istore F (lv' := [some (.ref (ad 0)), some (.int (nI (ab.toNatClampNeg))), some (.int (nI (n.toNatClampNeg))), some (.int w), some (.int (turnS L (nI (ab.toNatClampNeg / 10)) (nI (ab.toNatClampNeg % 10)) (n.toNatClampNeg - 1) 1 (sA σ 3 (60 + p) (nI (1))))), some (.int (nI d)), some (.int (nI p)), some (.int (turnS L (nI (ab.toNatClampNeg / 10)) (nI (ab.toNatClampNeg % 10)) (n.toNatClampNeg - 1) 1 (sA σ 3 (60 + p) (nI (1)))))]) dX2_byTurns_142 (by decide) rfl rfl (np := 144) rfl ?_
                        refine g_iload F dX2_byTurns_144 rfl (np := 146) rfl ?_
                        refine g_istore F (lv' := [some (.ref (ad 0)), some (.int (nI (ab.toNatClampNeg))), some (.int (nI (n.toNatClampNeg))), some (.int w), some (.int (turnS L (nI (ab.toNatClampNeg / 10)) (nI (ab.toNatClampNeg % 10)) (n.toNatClampNeg - 1) 1 (sA σ 3 (60 + p) (nI (1))))), some (.int (nI p)), some (.int (nI p)), some (.int (turnS L (nI (ab.toNatClampNeg / 10)) (nI (ab.toNatClampNeg % 10)) (n.toNatClampNeg - 1) 1 (sA σ 3 (60 + p) (nI (1)))))]) dX2_byTurns_146 (by decide) rfl rfl (np := 148) rfl ?_
                        refine g_iinc F (v := (nI (p + 1))) (lv' := [some (.ref (ad 0)), some (.int (nI (ab.toNatClampNeg))), some (.int (nI (n.toNatClampNeg))), some (.int w), some (.int (turnS L (nI (ab.toNatClampNeg / 10)) (nI (ab.toNatClampNeg % 10)) (n.toNatClampNeg - 1) 1 (sA σ 3 (60 + p) (nI (1))))), some (.int (nI p)), some (.int (nI (p + 1))), some (.int (turnS L (nI (ab.toNatClampNeg / 10)) (nI (ab.toNatClampNeg % 10)) (n.toNatClampNeg - 1) 1 (sA σ 3 (60 + p) (nI (1)))))]) dX2_byTurns_148 rfl (nI_add _ _) (by decide) rfl rfl (np := 151) rfl ?_
                        refine g_goto F dX2_byTurns_151 (np := 74) (by decide) ?_
                        refine WG.dropL (i := 7) (lv' := [some (.ref (ad 0)), some (.int (nI (ab.toNatClampNeg))), some (.int (nI (n.toNatClampNeg))), some (.int w), some (.int (turnS L (nI (ab.toNatClampNeg / 10)) (nI (ab.toNatClampNeg % 10)) (n.toNatClampNeg - 1) 1 (sA σ 3 (60 + p) (nI (1))))), some (.int (nI p)), some (.int (nI (p + 1))), none]) rfl ?_
                        exact ih74 (turnS L (nI (ab.toNatClampNeg / 10)) (nI (ab.toNatClampNeg % 10)) (n.toNatClampNeg - 1) 1 (sA σ 3 (60 + p) (nI (1)))) p (p + 1) (by unfold turnA; first | (rw [pif_f (show ¬ (mayP σ _ p ∧ _) from fun z => c93 z.1)]; exact h1) | (rw [pif_f (show ¬ (mayP σ _ p ∧ _) from fun z => c134 (by rw [h1]; exact z.2))]; exact h1) | (rw [pif_t (show mayP σ _ p ∧ _ from ⟨c93, by rw [← h1]; exact c134⟩)]; rfl)) (by first | assumption | omega) (by unfold turnA; first | (rw [pif_f (show ¬ (mayP σ _ p ∧ _) from fun z => c93 z.1)]; exact h3) | (rw [pif_f (show ¬ (mayP σ _ p ∧ _) from fun z => c134 (by rw [h1]; exact z.2))]; exact h3) | (rw [pif_t (show mayP σ _ p ∧ _ from ⟨c93, by rw [← h1]; exact c134⟩)])) (by omega)
                      · refine g_goto F dX2_byTurns_137 (np := 148) (by decide) ?_
                        refine g_iinc F (v := (nI (p + 1))) (lv' := [some (.ref (ad 0)), some (.int (nI (ab.toNatClampNeg))), some (.int (nI (n.toNatClampNeg))), some (.int w), some (.int b), some (.int (nI d)), some (.int (nI (p + 1))), some (.int (turnS L (nI (ab.toNatClampNeg / 10)) (nI (ab.toNatClampNeg % 10)) (n.toNatClampNeg - 1) 1 (sA σ 3 (60 + p) (nI (1)))))]) dX2_byTurns_148 rfl (nI_add _ _) (by decide) rfl rfl (np := 151) rfl ?_
                        refine g_goto F dX2_byTurns_151 (np := 74) (by decide) ?_
                        refine WG.dropL (i := 7) (lv' := [some (.ref (ad 0)), some (.int (nI (ab.toNatClampNeg))), some (.int (nI (n.toNatClampNeg))), some (.int w), some (.int b), some (.int (nI d)), some (.int (nI (p + 1))), none]) rfl ?_
                        exact ih74 b d (p + 1) (by unfold turnA; first | (rw [pif_f (show ¬ (mayP σ _ p ∧ _) from fun z => c93 z.1)]; exact h1) | (rw [pif_f (show ¬ (mayP σ _ p ∧ _) from fun z => c134 (by rw [h1]; exact z.2))]; exact h1) | (rw [pif_t (show mayP σ _ p ∧ _ from ⟨c93, by rw [← h1]; exact c134⟩)]; rfl)) (by first | assumption | omega) (by unfold turnA; first | (rw [pif_f (show ¬ (mayP σ _ p ∧ _) from fun z => c93 z.1)]; exact h3) | (rw [pif_f (show ¬ (mayP σ _ p ∧ _) from fun z => c134 (by rw [h1]; exact z.2))]; exact h3) | (rw [pif_t (show mayP σ _ p ∧ _ from ⟨c93, by rw [← h1]; exact c134⟩)])) (by omega)
                    · refine g_goto F dX2_byTurns_96 (np := 148) (by decide) ?_
                      refine g_iinc F (v := (nI (p + 1))) (lv' := [some (.ref (ad 0)), some (.int (nI (ab.toNatClampNeg))), some (.int (nI (n.toNatClampNeg))), some (.int w), some (.int b), some (.int (nI d)), some (.int (nI (p + 1))), none]) dX2_byTurns_148 rfl (nI_add _ _) (by decide) rfl rfl (np := 151) rfl ?_
                      refine g_goto F dX2_byTurns_151 (np := 74) (by decide) ?_
                      exact ih74 b d (p + 1) (by unfold turnA; first | (rw [pif_f (show ¬ (mayP σ _ p ∧ _) from fun z => c93 z.1)]; exact h1) | (rw [pif_f (show ¬ (mayP σ _ p ∧ _) from fun z => c134 (by rw [h1]; exact z.2))]; exact h1) | (rw [pif_t (show mayP σ _ p ∧ _ from ⟨c93, by rw [← h1]; exact c134⟩)]; rfl)) (by first | assumption | omega) (by unfold turnA; first | (rw [pif_f (show ¬ (mayP σ _ p ∧ _) from fun z => c93 z.1)]; exact h3) | (rw [pif_f (show ¬ (mayP σ _ p ∧ _) from fun z => c134 (by rw [h1]; exact z.2))]; exact h3) | (rw [pif_t (show mayP σ _ p ∧ _ from ⟨c93, by rw [← h1]; exact c134⟩)])) (by omega)
              exact L74 _ (turnS L (nI (ab.toNatClampNeg / 10)) (nI (ab.toNatClampNeg % 10)) (n.toNatClampNeg - 1) 1 σ) 14 0 (by rfl) (by omega) (by rfl) (Nat.lt_succ_self _)
            · refine g_ldc F q1727 dX2_byTurns_55 (np := 57) rfl ?_
              have hv : -2000000000 = rTurns L σ ab n w := by unfold rTurns; rw [pif_f (fun z => by obtain ⟨z1, z2, z3, z4, z5, z6⟩ := z; first | exact z1 c1 | exact c12 z2 | exact c23 z3 | exact z4 c34 | exact c43 z5 | exact c52 (bt1.mpr z6))]
              exact g_iret F hr rfl (Nat.le_of_ble_eq_true rfl) (Nat.le_of_ble_eq_true rfl) dX2_byTurns_57 (fun h hs => by rw [← hT]; exact ⟨congrArg (fun z => some (Value.int z)) hv, hs⟩)
