/-! WALKS (printed by walk.py): promises, view -/
set_option maxRecDepth 100000
set_option maxRecDepth 100000 in
theorem ct_X2_promises {l : Launch} {D : va_G} {E : State → Prop} {B : Nat} (hE : Stab E) {ad : Nat → Nat} {h0 : AH} (σ : MSt)  (i : Int32) (a : Int32) (n : Int32) (hno : σ.1 0 ≤ 8) (hm14 : σ.1 2 ≤ 14) (hsh : shOK σ) : Ct l D E B yX2_promises cX2_promises 9 (some .int) 3 67 0 0 [.ref (ad 0), .int i, .int a, .int n] (MH D ad h0 σ) (RI (rPrs σ i a n) (MH D ad h0 (gPrs σ i a n))) := by
  refine Ct.of (nL := 9) (lv := [some (.ref (ad 0)), some (.int i), some (.int a), some (.int n), none, none, none, none, none]) (by decide) (Nat.le_of_ble_eq_true rfl) hE 5 rfl ?_
  generalize hT : RI (rPrs σ i a n) (MH D ad h0 (gPrs σ i a n)) = T
  intro zp ze zs zm zb zt zc F hr hnm
  generalize ([.ref (ad 0), .int i, .int a, .int n] : List Value).toArray = za at F ⊢
  refine g_iload_n F dX2_promises_0 rfl rfl (np := 1) rfl ?_
  refine g_runS F (rest := []) (ct_X2_isShelf hE i ) (lw_S q1704 q1705 q102 q1706) hcS_X2_isShelf ⟨Nat.le_of_ble_eq_true rfl, Nat.le_of_ble_eq_true rfl⟩ rfl rfl (Nat.le_of_ble_eq_true rfl) dX2_promises_1 ⟨Nat.le_of_ble_eq_true rfl, Nat.le_of_ble_eq_true rfl⟩ (np := 4) rfl (k_RI ?_)
  refine g_if_eqB F dX2_promises_4 (tp := 17) (by decide) (np := 7) rfl (fun c4 => ?_) (fun c4 => ?_)
  · refine g_iconst F (v := (-1)) dX2_promises_17 (by decide) (np := 18) rfl ?_
    have hσ : σ = (gPrs σ i a n) := by unfold gPrs; first | (rw [pif_f (fun z => c4 z.1)]; done) | (rw [pif_f (fun z => c14 z.2.1)]; done)
    have hv : -1 = rPrs σ i a n := by unfold rPrs; first | (rw [pif_f (fun z => c4 z.1)]; done) | (rw [pif_f (fun z => c14 z.2)]; done)
    exact g_iret F hr rfl (Nat.le_of_ble_eq_true rfl) (Nat.le_of_ble_eq_true rfl) dX2_promises_18 (fun h hs => by rw [← hT]; exact ⟨congrArg (fun z => some (Value.int z)) hv, (hσ ▸ hs)⟩)
  · obtain ⟨hil, hie⟩ := inN_cl (by decide) c4
    obtain ⟨n0, hn0, en0⟩ := hsh _ hil
    have en1 : lenN σ i.toNatClampNeg = n0 := by unfold lenN; rw [en0]; exact nI_clamp (by omega)
    refine WG.eqv (lv' := [some (.ref (ad 0)), some (.int (nI (i.toNatClampNeg))), some (.int a), some (.int n), none, none, none, none, none]) rfl (congrArg (fun z => ([some (.ref (ad 0)), some (.int z), some (.int a), some (.int n), none, none, none, none, none] : List (Option Value))) (show i = (nI (i.toNatClampNeg)) from by exact hie)) ?_
    refine g_iload_n F dX2_promises_7 rfl rfl (np := 8) rfl ?_
    refine g_iconst F (v := (nI 1)) dX2_promises_8 (by decide) (np := 9) rfl ?_
    refine g_bipush F (v := (nI 14)) dX2_promises_9 (by decide) (np := 11) rfl ?_
    refine g_runS F (rest := []) (ct_X2_within hE n (nI (1)) (nI (14)) ) (lw_S q1677 q1678 q102 q1679) hcS_X2_within ⟨Nat.le_of_ble_eq_true rfl, Nat.le_of_ble_eq_true rfl⟩ rfl rfl (Nat.le_of_ble_eq_true rfl) dX2_promises_11 ⟨Nat.le_of_ble_eq_true rfl, Nat.le_of_ble_eq_true rfl⟩ (np := 14) rfl (k_RI ?_)
    refine g_if_neB F dX2_promises_14 (tp := 19) (by decide) (np := 17) rfl (fun c14 => ?_) (fun c14 => ?_)
    · obtain ⟨nn, hn1, hn2, hnn⟩ := (btw_iff (by decide) (by decide)).mp c14
      have hn9 : n.toNatClampNeg = nn := by rw [hnn]; exact nI_clamp (by omega)
      refine WG.eqv (lv' := [some (.ref (ad 0)), some (.int (nI (i.toNatClampNeg))), some (.int a), some (.int (nI nn)), none, none, none, none, none]) rfl (congrArg (fun z => ([some (.ref (ad 0)), some (.int (nI (i.toNatClampNeg))), some (.int a), some (.int z), none, none, none, none, none] : List (Option Value))) (show n = (nI nn) from by exact hnn)) ?_
      refine g_aload_n F dX2_promises_19 rfl rfl (np := 20) rfl ?_
      refine h_get F (k := 38) (v := .ref (ad 38)) (by decide) rfl q1584 dX2_promises_20 (np := 23) rfl ?_
      refine g_iload_n F dX2_promises_23 rfl rfl (np := 24) rfl ?_
      refine h_ald F (k := 38) (i := i.toNatClampNeg) (L := 6) (v := σ.2.1 38 i.toNatClampNeg) rfl rfl (by decide) (by omega) rfl rfl dX2_promises_24 (by decide) (by decide) (np := 25) rfl ?_
      refine g_iconst F (v := (-1)) dX2_promises_25 (by decide) (np := 26) rfl ?_
      refine g_icmp_ne F dX2_promises_26 (tp := 31) (by decide) (np := 29) rfl (fun c26 => ?_) (fun c26 => ?_)
      · refine g_aload_n F dX2_promises_31 rfl rfl (np := 32) rfl ?_
        refine h_get F (k := 38) (v := .ref (ad 38)) (by decide) rfl q1584 dX2_promises_32 (np := 35) rfl ?_
        refine g_iload_n F dX2_promises_35 rfl rfl (np := 36) rfl ?_
        refine h_ald F (k := 38) (i := i.toNatClampNeg) (L := 6) (v := σ.2.1 38 i.toNatClampNeg) rfl rfl (by decide) (by omega) rfl rfl dX2_promises_36 (by decide) (by decide) (np := 37) rfl ?_
        refine g_if_eq F dX2_promises_37 (tp := 43) (by decide) (np := 40) rfl (fun c37 => ?_) (fun c37 => ?_)
        · refine g_iconst F (v := (nI 0)) dX2_promises_43 (by decide) (np := 44) rfl ?_
          refine g_istore F (lv' := [some (.ref (ad 0)), some (.int (nI (i.toNatClampNeg))), some (.int a), some (.int (nI nn)), some (.int (nI 0)), none, none, none, none]) dX2_promises_44 (by decide) rfl rfl (np := 46) rfl ?_
          refine g_iconst F (v := (nI 0)) dX2_promises_46 (by decide) (np := 47) rfl ?_
          refine g_istore F (lv' := [some (.ref (ad 0)), some (.int (nI (i.toNatClampNeg))), some (.int a), some (.int (nI nn)), some (.int (nI 0)), some (.int (nI 0)), none, none, none]) dX2_promises_47 (by decide) rfl rfl (np := 49) rfl ?_
          have L49 : ∀ (zn : Nat) (k : Nat) (σ1 : MSt), (prsS i.toNatClampNeg n0 nn σ a.toInt = ((prsS i.toNatClampNeg n0 (nn - k) σ1 (a.toInt + 4 * k)).1, (prsS i.toNatClampNeg n0 (nn - k) σ1 (a.toInt + 4 * k)).2 + k)) → (k ≤ nn) → (σ1.1 2 ≤ 14 ∧ σ1.1 0 ≤ 8 ∧ σ1.2.1 39 i.toNatClampNeg = nI n0 ∧ σ1.2.1 38 = σ.2.1 38) → nn - k < zn → WG zp l ze ({ frames := 3, cells := 0, slots := 0, locals := 67 } : Room) zs zm za zb zt zc D B 9 (MQ zb (QT D B T) za zs 0 0 (zA B)) (MH D ad h0 σ1) 0 0 49 [some (.ref (ad 0)), some (.int (nI (i.toNatClampNeg))), some (.int a), some (.int (nI nn)), some (.int (nI k)), some (.int (nI k)), none, none, none] [] := by
            intro zn
            induction zn with
            | zero => intro k σ1 h1 h2 h3 hm; exact absurd hm (Nat.not_lt_zero _)
            | succ zn ih49 =>
              intro k σ1 h1 h2 h3 hm
              refine g_iload F dX2_promises_49 rfl (np := 51) rfl ?_
              refine g_iload_n F dX2_promises_51 rfl rfl (np := 52) rfl ?_
              refine g_icmp_geN F (by omega) (by omega) dX2_promises_52 (tp := 200) (by decide) (np := 55) rfl (fun c52 => ?_) (fun c52 => ?_)
              · have hnl2 : prsS i.toNatClampNeg n0 nn σ a.toInt = (σ1, k) := by rw [h1, show nn - k = 0 by omega]; simp [prsS]
                refine g_iload F dX2_promises_200 rfl (np := 202) rfl ?_
                have hσ : σ1 = (gPrs σ i a n) := by unfold gPrs; rw [pif_t ⟨c4, c14, c37⟩, en1, hn9, hnl2]
                have hv : nI (k) = rPrs σ i a n := by unfold rPrs; rw [pif_t ⟨c4, c14⟩, if_neg c26, if_pos c37, en1, hn9, hnl2]
                exact g_iret F hr rfl (Nat.le_of_ble_eq_true rfl) (Nat.le_of_ble_eq_true rfl) dX2_promises_202 (fun h hs => by rw [← hT]; exact ⟨congrArg (fun z => some (Value.int z)) hv, (hσ ▸ hs)⟩)
              · obtain ⟨h3a, h3b, h3c, h3d⟩ := h3
                have hnl : ∀ z : ¬ prsHere σ1 i.toNatClampNeg n0 (a.toInt + 4 * k), prsS i.toNatClampNeg n0 nn σ a.toInt = (σ1, k) := by
                  intro z
                  rw [h1, prsS_f z]; simp
                refine g_iload_n F dX2_promises_55 rfl rfl (np := 56) rfl ?_
                refine g_i2l F dX2_promises_56 (np := 57) rfl ?_
                refine g_ldc2 F q1707 dX2_promises_57 (np := 60) rfl ?_
                refine g_iload F dX2_promises_60 rfl (np := 62) rfl ?_
                refine g_i2l F dX2_promises_62 (np := 63) rfl ?_
                refine g_lmul F dX2_promises_63 (np := 64) rfl ?_
                refine g_ladd F dX2_promises_64 (np := 65) rfl ?_
                refine g_lstore F (lv' := [some (.ref (ad 0)), some (.int (nI (i.toNatClampNeg))), some (.int a), some (.int (nI nn)), some (.int (nI k)), some (.int (nI k)), some (.long (a.toInt64 + (4 * ((nI (k)).toInt64)))), none, none]) dX2_promises_65 (by decide) rfl rfl (np := 67) rfl ?_
                refine g_lload F dX2_promises_67 rfl (np := 69) rfl ?_
                refine g_lconst F (v := 0) dX2_promises_69 (by decide) (np := 70) rfl ?_
                refine g_lcmp F dX2_promises_70 (np := 71) rfl ?_
                refine g_if_lt F dX2_promises_71 (tp := 100) (by decide) (np := 74) rfl (fun c71 => ?_) (fun c71 => ?_)
                · refine g_iload F dX2_promises_100 rfl (np := 102) rfl ?_
                  have hσ : σ1 = (gPrs σ i a n) := by unfold gPrs; rw [pif_t ⟨c4, c14, c37⟩, en1, hn9, hnl (fun ⟨z1, z2, z3, z4⟩ => by first | exact absurd ((pos_lt a (by omega)).mp c71) (by omega) | exact absurd ((pos_gt a (by omega) (by omega)).mp c88) (by omega) | exact z3 c97)]
                  have hv : nI (k) = rPrs σ i a n := by unfold rPrs; rw [pif_t ⟨c4, c14⟩, if_neg c26, if_pos c37, en1, hn9, hnl (fun ⟨z1, z2, z3, z4⟩ => by first | exact absurd ((pos_lt a (by omega)).mp c71) (by omega) | exact absurd ((pos_gt a (by omega) (by omega)).mp c88) (by omega) | exact z3 c97)]
                  exact g_iret F hr rfl (Nat.le_of_ble_eq_true rfl) (Nat.le_of_ble_eq_true rfl) dX2_promises_102 (fun h hs => by rw [← hT]; exact ⟨congrArg (fun z => some (Value.int z)) hv, (hσ ▸ hs)⟩)
                · refine g_lload F dX2_promises_74 rfl (np := 76) rfl ?_
                  refine g_ldc2 F q1707 dX2_promises_76 (np := 79) rfl ?_
                  refine g_ladd F dX2_promises_79 (np := 80) rfl ?_
                  refine g_aload_n F dX2_promises_80 rfl rfl (np := 81) rfl ?_
                  refine h_get F (k := 39) (v := .ref (ad 39)) (by decide) rfl q1585 dX2_promises_81 (np := 84) rfl ?_
                  refine g_iload_n F dX2_promises_84 rfl rfl (np := 85) rfl ?_
                  refine h_ald F (k := 39) (i := i.toNatClampNeg) (L := 6) (v := σ1.2.1 39 i.toNatClampNeg) rfl rfl (by decide) (by omega) rfl rfl dX2_promises_85 (by decide) (by decide) (np := 86) rfl ?_
                  refine WG.eqv (st' := [.int (nI n0), .long ((a.toInt64 + (4 * ((nI (k)).toInt64))) + 4)]) (congrArg (fun z => ([.int z, .long ((a.toInt64 + (4 * ((nI (k)).toInt64))) + 4)] : List Value)) (show (σ1.2.1 39 i.toNatClampNeg) = (nI n0) from by exact h3c)) rfl ?_
                  refine g_i2l F dX2_promises_86 (np := 87) rfl ?_
                  refine g_lcmp F dX2_promises_87 (np := 88) rfl ?_
                  refine g_if_gt F dX2_promises_88 (tp := 100) (by decide) (np := 91) rfl (fun c88 => ?_) (fun c88 => ?_)
                  · refine g_iload F dX2_promises_100 rfl (np := 102) rfl ?_
                    have hσ : σ1 = (gPrs σ i a n) := by unfold gPrs; rw [pif_t ⟨c4, c14, c37⟩, en1, hn9, hnl (fun ⟨z1, z2, z3, z4⟩ => by first | exact absurd ((pos_lt a (by omega)).mp c71) (by omega) | exact absurd ((pos_gt a (by omega) (by omega)).mp c88) (by omega) | exact z3 c97)]
                    have hv : nI (k) = rPrs σ i a n := by unfold rPrs; rw [pif_t ⟨c4, c14⟩, if_neg c26, if_pos c37, en1, hn9, hnl (fun ⟨z1, z2, z3, z4⟩ => by first | exact absurd ((pos_lt a (by omega)).mp c71) (by omega) | exact absurd ((pos_gt a (by omega) (by omega)).mp c88) (by omega) | exact z3 c97)]
                    exact g_iret F hr rfl (Nat.le_of_ble_eq_true rfl) (Nat.le_of_ble_eq_true rfl) dX2_promises_102 (fun h hs => by rw [← hT]; exact ⟨congrArg (fun z => some (Value.int z)) hv, (hσ ▸ hs)⟩)
                  · refine g_aload_n F dX2_promises_91 rfl rfl (np := 92) rfl ?_
                    refine h_get F (k := 2) (v := .int (nI (σ1.1 2))) (by decide) rfl q1548 dX2_promises_92 (np := 95) rfl ?_
                    refine g_bipush F (v := (nI 14)) dX2_promises_95 (by decide) (np := 97) rfl ?_
                    refine g_icmp_neN F (by omega) (by decide) dX2_promises_97 (tp := 103) (by decide) (np := 100) rfl (fun c97 => ?_) (fun c97 => ?_)
                    · have q1 : ¬ a.toInt + 4 * k < 0 := fun z => c71 ((pos_lt a (by omega)).mpr z)
                      have q2 : ¬ (n0 : Int) < a.toInt + 4 * k + 4 := fun z => c88 ((pos_gt a (by omega) (by omega)).mpr z)
                      obtain ⟨p, hp1⟩ : ∃ p : Nat, a.toInt + 4 * k = p := ⟨(a.toInt + 4 * k).toNat, by omega⟩
                      refine g_lload F dX2_promises_103 rfl (np := 105) rfl ?_
                      refine g_l2i F dX2_promises_105 (np := 106) rfl ?_
                      refine WG.eqv (st' := [.int (nI p)]) (congrArg (fun z => ([.int z] : List Value)) (show ((a.toInt64 + (4 * ((nI (k)).toInt64))).toInt32) = (nI p) from by exact pos_p a (by omega) hp1 (by omega))) rfl ?_
                      refine g_istore F (lv' := [some (.ref (ad 0)), some (.int (nI (i.toNatClampNeg))), some (.int a), some (.int (nI nn)), some (.int (nI k)), some (.int (nI k)), some (.long (a.toInt64 + (4 * ((nI (k)).toInt64)))), none, some (.int (nI p))]) dX2_promises_106 (by decide) rfl rfl (np := 108) rfl ?_
                      refine g_aload_n F dX2_promises_108 rfl rfl (np := 109) rfl ?_
                      refine g_aload_n F dX2_promises_109 rfl rfl (np := 110) rfl ?_
                      refine g_iload_n F dX2_promises_110 rfl rfl (np := 111) rfl ?_
                      refine g_iload F dX2_promises_111 rfl (np := 113) rfl ?_
                      refine g_runV F (C := RX2) (ci := 2) (T0 := TX2) (N := 42) (rest := [.ref (ad 0)]) (ct_X2_toldAt hE σ1 i.toNatClampNeg p (by first | assumption | omega) (by first | assumption | omega)) (lw_V q1708 q1710 qs57 q102 q1711) hcV_X2_toldAt ⟨Nat.le_of_ble_eq_true rfl, Nat.le_of_ble_eq_true rfl⟩ rfl (fun h hs => hs.obj) rfl rfl (Nat.le_of_ble_eq_true rfl) dX2_promises_113 ⟨Nat.le_of_ble_eq_true rfl, Nat.le_of_ble_eq_true rfl⟩ (np := 116) rfl (k_RI ?_)
                      refine g_aload_n F dX2_promises_116 rfl rfl (np := 117) rfl ?_
                      refine g_iload_n F dX2_promises_117 rfl rfl (np := 118) rfl ?_
                      refine g_iload F dX2_promises_118 rfl (np := 120) rfl ?_
                      refine g_iconst F (v := (nI 1)) dX2_promises_120 (by decide) (np := 121) rfl ?_
                      refine g_iaddN F dX2_promises_121 (np := 122) rfl ?_
                      refine g_runV F (C := RX2) (ci := 2) (T0 := TX2) (N := 42) (rest := [.int (toldM σ1 i.toNatClampNeg p), .ref (ad 0)]) (ct_X2_toldAt hE σ1 i.toNatClampNeg (p + 1) (by first | assumption | omega) (by first | assumption | omega)) (lw_V q1708 q1710 qs57 q102 q1711) hcV_X2_toldAt ⟨Nat.le_of_ble_eq_true rfl, Nat.le_of_ble_eq_true rfl⟩ rfl (fun h hs => hs.obj) rfl rfl (Nat.le_of_ble_eq_true rfl) dX2_promises_122 ⟨Nat.le_of_ble_eq_true rfl, Nat.le_of_ble_eq_true rfl⟩ (np := 125) rfl (k_RI ?_)
                      refine g_aload_n F dX2_promises_125 rfl rfl (np := 126) rfl ?_
                      refine g_iload_n F dX2_promises_126 rfl rfl (np := 127) rfl ?_
                      refine g_iload F dX2_promises_127 rfl (np := 129) rfl ?_
                      refine g_iconst F (v := (nI 2)) dX2_promises_129 (by decide) (np := 130) rfl ?_
                      refine g_iaddN F dX2_promises_130 (np := 131) rfl ?_
                      refine g_runV F (C := RX2) (ci := 2) (T0 := TX2) (N := 42) (rest := [.int (toldM σ1 i.toNatClampNeg (p + 1)), .int (toldM σ1 i.toNatClampNeg p), .ref (ad 0)]) (ct_X2_toldAt hE σ1 i.toNatClampNeg (p + 2) (by first | assumption | omega) (by first | assumption | omega)) (lw_V q1708 q1710 qs57 q102 q1711) hcV_X2_toldAt ⟨Nat.le_of_ble_eq_true rfl, Nat.le_of_ble_eq_true rfl⟩ rfl (fun h hs => hs.obj) rfl rfl (Nat.le_of_ble_eq_true rfl) dX2_promises_131 ⟨Nat.le_of_ble_eq_true rfl, Nat.le_of_ble_eq_true rfl⟩ (np := 134) rfl (k_RI ?_)
                      refine g_aload_n F dX2_promises_134 rfl rfl (np := 135) rfl ?_
                      refine g_iload_n F dX2_promises_135 rfl rfl (np := 136) rfl ?_
                      refine g_iload F dX2_promises_136 rfl (np := 138) rfl ?_
                      refine g_iconst F (v := (nI 3)) dX2_promises_138 (by decide) (np := 139) rfl ?_
                      refine g_iaddN F dX2_promises_139 (np := 140) rfl ?_
                      refine g_runV F (C := RX2) (ci := 2) (T0 := TX2) (N := 42) (rest := [.int (toldM σ1 i.toNatClampNeg (p + 2)), .int (toldM σ1 i.toNatClampNeg (p + 1)), .int (toldM σ1 i.toNatClampNeg p), .ref (ad 0)]) (ct_X2_toldAt hE σ1 i.toNatClampNeg (p + 3) (by first | assumption | omega) (by first | assumption | omega)) (lw_V q1708 q1710 qs57 q102 q1711) hcV_X2_toldAt ⟨Nat.le_of_ble_eq_true rfl, Nat.le_of_ble_eq_true rfl⟩ rfl (fun h hs => hs.obj) rfl rfl (Nat.le_of_ble_eq_true rfl) dX2_promises_140 ⟨Nat.le_of_ble_eq_true rfl, Nat.le_of_ble_eq_true rfl⟩ (np := 143) rfl (k_RI ?_)
                      refine g_runV F (C := RX2) (ci := 2) (T0 := TX2) (N := 42) (rest := []) (ct_X2_isSuch hE σ1 (toldM σ1 i.toNatClampNeg p) (toldM σ1 i.toNatClampNeg (p + 1)) (toldM σ1 i.toNatClampNeg (p + 2)) (toldM σ1 i.toNatClampNeg (p + 3)) (by omega)) (lw_V q1684 q1686 qs53 q102 q1687) hcV_X2_isSuch ⟨Nat.le_of_ble_eq_true rfl, Nat.le_of_ble_eq_true rfl⟩ rfl (fun h hs => hs.obj) rfl rfl (Nat.le_of_ble_eq_true rfl) dX2_promises_143 ⟨Nat.le_of_ble_eq_true rfl, Nat.le_of_ble_eq_true rfl⟩ (np := 146) rfl (k_RI ?_)
                      refine g_if_neB F dX2_promises_146 (tp := 152) (by decide) (np := 149) rfl (fun c146 => ?_) (fun c146 => ?_)
                      · have hPH : prsHere σ1 i.toNatClampNeg n0 (a.toInt + 4 * k) := ⟨by omega, by omega, c97, by rw [hp1]; exact c146⟩
                        refine g_aload_n F dX2_promises_152 rfl rfl (np := 153) rfl ?_
                        refine g_aload_n F dX2_promises_153 rfl rfl (np := 154) rfl ?_
                        refine g_iload_n F dX2_promises_154 rfl rfl (np := 155) rfl ?_
                        refine g_iload F dX2_promises_155 rfl (np := 157) rfl ?_
                        refine g_runV F (C := RX2) (ci := 2) (T0 := TX2) (N := 42) (rest := [.ref (ad 0)]) (ct_X2_toldAt hE σ1 i.toNatClampNeg p (by first | assumption | omega) (by first | assumption | omega)) (lw_V q1708 q1710 qs57 q102 q1711) hcV_X2_toldAt ⟨Nat.le_of_ble_eq_true rfl, Nat.le_of_ble_eq_true rfl⟩ rfl (fun h hs => hs.obj) rfl rfl (Nat.le_of_ble_eq_true rfl) dX2_promises_157 ⟨Nat.le_of_ble_eq_true rfl, Nat.le_of_ble_eq_true rfl⟩ (np := 160) rfl (k_RI ?_)
                        refine g_aload_n F dX2_promises_160 rfl rfl (np := 161) rfl ?_
                        refine g_iload_n F dX2_promises_161 rfl rfl (np := 162) rfl ?_
                        refine g_iload F dX2_promises_162 rfl (np := 164) rfl ?_
                        refine g_iconst F (v := (nI 1)) dX2_promises_164 (by decide) (np := 165) rfl ?_
                        refine g_iaddN F dX2_promises_165 (np := 166) rfl ?_
                        refine g_runV F (C := RX2) (ci := 2) (T0 := TX2) (N := 42) (rest := [.int (toldM σ1 i.toNatClampNeg p), .ref (ad 0)]) (ct_X2_toldAt hE σ1 i.toNatClampNeg (p + 1) (by first | assumption | omega) (by first | assumption | omega)) (lw_V q1708 q1710 qs57 q102 q1711) hcV_X2_toldAt ⟨Nat.le_of_ble_eq_true rfl, Nat.le_of_ble_eq_true rfl⟩ rfl (fun h hs => hs.obj) rfl rfl (Nat.le_of_ble_eq_true rfl) dX2_promises_166 ⟨Nat.le_of_ble_eq_true rfl, Nat.le_of_ble_eq_true rfl⟩ (np := 169) rfl (k_RI ?_)
                        refine g_aload_n F dX2_promises_169 rfl rfl (np := 170) rfl ?_
                        refine g_iload_n F dX2_promises_170 rfl rfl (np := 171) rfl ?_
                        refine g_iload F dX2_promises_171 rfl (np := 173) rfl ?_
                        refine g_iconst F (v := (nI 2)) dX2_promises_173 (by decide) (np := 174) rfl ?_
                        refine g_iaddN F dX2_promises_174 (np := 175) rfl ?_
                        refine g_runV F (C := RX2) (ci := 2) (T0 := TX2) (N := 42) (rest := [.int (toldM σ1 i.toNatClampNeg (p + 1)), .int (toldM σ1 i.toNatClampNeg p), .ref (ad 0)]) (ct_X2_toldAt hE σ1 i.toNatClampNeg (p + 2) (by first | assumption | omega) (by first | assumption | omega)) (lw_V q1708 q1710 qs57 q102 q1711) hcV_X2_toldAt ⟨Nat.le_of_ble_eq_true rfl, Nat.le_of_ble_eq_true rfl⟩ rfl (fun h hs => hs.obj) rfl rfl (Nat.le_of_ble_eq_true rfl) dX2_promises_175 ⟨Nat.le_of_ble_eq_true rfl, Nat.le_of_ble_eq_true rfl⟩ (np := 178) rfl (k_RI ?_)
                        refine g_aload_n F dX2_promises_178 rfl rfl (np := 179) rfl ?_
                        refine g_iload_n F dX2_promises_179 rfl rfl (np := 180) rfl ?_
                        refine g_iload F dX2_promises_180 rfl (np := 182) rfl ?_
                        refine g_iconst F (v := (nI 3)) dX2_promises_182 (by decide) (np := 183) rfl ?_
                        refine g_iaddN F dX2_promises_183 (np := 184) rfl ?_
                        refine g_runV F (C := RX2) (ci := 2) (T0 := TX2) (N := 42) (rest := [.int (toldM σ1 i.toNatClampNeg (p + 2)), .int (toldM σ1 i.toNatClampNeg (p + 1)), .int (toldM σ1 i.toNatClampNeg p), .ref (ad 0)]) (ct_X2_toldAt hE σ1 i.toNatClampNeg (p + 3) (by first | assumption | omega) (by first | assumption | omega)) (lw_V q1708 q1710 qs57 q102 q1711) hcV_X2_toldAt ⟨Nat.le_of_ble_eq_true rfl, Nat.le_of_ble_eq_true rfl⟩ rfl (fun h hs => hs.obj) rfl rfl (Nat.le_of_ble_eq_true rfl) dX2_promises_184 ⟨Nat.le_of_ble_eq_true rfl, Nat.le_of_ble_eq_true rfl⟩ (np := 187) rfl (k_RI ?_)
                        refine g_runV F (C := RX2) (ci := 2) (T0 := TX2) (N := 42) (rest := []) (ct_X2_newOne hE σ1 (toldM σ1 i.toNatClampNeg p) (toldM σ1 i.toNatClampNeg (p + 1)) (toldM σ1 i.toNatClampNeg (p + 2)) (toldM σ1 i.toNatClampNeg (p + 3)) (by exact h3a)) (lw_V q1692 q1694 qs55 q102 q1695) hcV_X2_newOne ⟨Nat.le_of_ble_eq_true rfl, Nat.le_of_ble_eq_true rfl⟩ rfl (fun h hs => hs.obj) rfl rfl (Nat.le_of_ble_eq_true rfl) dX2_promises_187 ⟨Nat.le_of_ble_eq_true rfl, Nat.le_of_ble_eq_true rfl⟩ (np := 190) rfl (k_RI ?_)
                        refine g_pop F dX2_promises_190 rfl (np := 191) rfl ?_
                        refine g_iinc F (v := (nI (k + 1))) (lv' := [some (.ref (ad 0)), some (.int (nI (i.toNatClampNeg))), some (.int a), some (.int (nI nn)), some (.int (nI (k + 1))), some (.int (nI k)), some (.long (a.toInt64 + (4 * ((nI (k)).toInt64)))), none, some (.int (nI p))]) dX2_promises_191 rfl (nI_add _ _) (by decide) rfl rfl (np := 194) rfl ?_
                        refine g_iinc F (v := (nI (k + 1))) (lv' := [some (.ref (ad 0)), some (.int (nI (i.toNatClampNeg))), some (.int a), some (.int (nI nn)), some (.int (nI (k + 1))), some (.int (nI (k + 1))), some (.long (a.toInt64 + (4 * ((nI (k)).toInt64)))), none, some (.int (nI p))]) dX2_promises_194 rfl (nI_add _ _) (by decide) rfl rfl (np := 197) rfl ?_
                        refine g_goto F dX2_promises_197 (np := 49) (by decide) ?_
                        refine WG.dropL (i := 6) (lv' := [some (.ref (ad 0)), some (.int (nI (i.toNatClampNeg))), some (.int a), some (.int (nI nn)), some (.int (nI (k + 1))), some (.int (nI (k + 1))), none, none, some (.int (nI p))]) rfl ?_
                        refine WG.dropL (i := 8) (lv' := [some (.ref (ad 0)), some (.int (nI (i.toNatClampNeg))), some (.int a), some (.int (nI nn)), some (.int (nI (k + 1))), some (.int (nI (k + 1))), none, none, none]) rfl ?_
                        exact ih49 (k + 1) ((newS σ1 (toldM σ1 i.toNatClampNeg p) (toldM σ1 i.toNatClampNeg (p + 1)) (toldM σ1 i.toNatClampNeg (p + 2)) (toldM σ1 i.toNatClampNeg (p + 3)))) (by have e9 := prsS_t (c := nn - (k + 1)) hPH; rw [h1, show nn - k = nn - (k + 1) + 1 by omega, e9, hp1]; simp only [Int.toNat_natCast]; rw [show (((k + 1 : Nat) : Int)) = (k : Int) + 1 by omega, show a.toInt + 4 * ((k : Int) + 1) = (p : Int) + 4 by omega, Nat.add_assoc, Nat.add_comm 1 k]) (by omega) (by exact ⟨by show σ1.1 2 + 1 ≤ 14; omega, h3b, h3c, h3d⟩) (by omega)
                      · refine g_iload F dX2_promises_149 rfl (np := 151) rfl ?_
                        have hσ : σ1 = (gPrs σ i a n) := by unfold gPrs; rw [pif_t ⟨c4, c14, c37⟩, en1, hn9, hnl (fun ⟨z1, z2, z3, z4⟩ => c146 (by rw [hp1] at z4; exact z4))]
                        have hv : nI (k) = rPrs σ i a n := by unfold rPrs; rw [pif_t ⟨c4, c14⟩, if_neg c26, if_pos c37, en1, hn9, hnl (fun ⟨z1, z2, z3, z4⟩ => c146 (by rw [hp1] at z4; exact z4))]
                        exact g_iret F hr rfl (Nat.le_of_ble_eq_true rfl) (Nat.le_of_ble_eq_true rfl) dX2_promises_151 (fun h hs => by rw [← hT]; exact ⟨congrArg (fun z => some (Value.int z)) hv, (hσ ▸ hs)⟩)
                    · refine g_iload F dX2_promises_100 rfl (np := 102) rfl ?_
                      have hσ : σ1 = (gPrs σ i a n) := by unfold gPrs; rw [pif_t ⟨c4, c14, c37⟩, en1, hn9, hnl (fun ⟨z1, z2, z3, z4⟩ => by first | exact absurd ((pos_lt a (by omega)).mp c71) (by omega) | exact absurd ((pos_gt a (by omega) (by omega)).mp c88) (by omega) | exact z3 c97)]
                      have hv : nI (k) = rPrs σ i a n := by unfold rPrs; rw [pif_t ⟨c4, c14⟩, if_neg c26, if_pos c37, en1, hn9, hnl (fun ⟨z1, z2, z3, z4⟩ => by first | exact absurd ((pos_lt a (by omega)).mp c71) (by omega) | exact absurd ((pos_gt a (by omega) (by omega)).mp c88) (by omega) | exact z3 c97)]
                      exact g_iret F hr rfl (Nat.le_of_ble_eq_true rfl) (Nat.le_of_ble_eq_true rfl) dX2_promises_102 (fun h hs => by rw [← hT]; exact ⟨congrArg (fun z => some (Value.int z)) hv, (hσ ▸ hs)⟩)
          refine WG.weak (S' := MH D ad h0 σ) (fun h hs => by exact hs) ?_
          exact L49 _ 0 σ (by show _ = ((prsS i.toNatClampNeg n0 nn σ (a.toInt + 0)).1, (prsS i.toNatClampNeg n0 nn σ (a.toInt + 0)).2 + 0); rw [Int.add_zero]; rfl) (by omega) (by exact ⟨hm14, hno, en0, rfl⟩) (Nat.lt_succ_self _)
        · refine g_bipush F (v := (-12)) dX2_promises_40 (by decide) (np := 42) rfl ?_
          have hσ : σ = (gPrs σ i a n) := by unfold gPrs; rw [pif_f (fun z => c37 z.2.2)]
          have hv : -12 = rPrs σ i a n := by unfold rPrs; rw [pif_t ⟨c4, c14⟩, if_neg c26, if_neg c37]
          exact g_iret F hr rfl (Nat.le_of_ble_eq_true rfl) (Nat.le_of_ble_eq_true rfl) dX2_promises_42 (fun h hs => by rw [← hT]; exact ⟨congrArg (fun z => some (Value.int z)) hv, (hσ ▸ hs)⟩)
      · refine g_iconst F (v := (nI 0)) dX2_promises_29 (by decide) (np := 30) rfl ?_
        have hσ : σ = (gPrs σ i a n) := by unfold gPrs; rw [pif_f (fun z => absurd (c26.symm.trans z.2.2) (by decide))]
        have hv : nI (0) = rPrs σ i a n := by unfold rPrs; rw [pif_t ⟨c4, c14⟩, if_pos c26]; try rfl
        exact g_iret F hr rfl (Nat.le_of_ble_eq_true rfl) (Nat.le_of_ble_eq_true rfl) dX2_promises_30 (fun h hs => by rw [← hT]; exact ⟨congrArg (fun z => some (Value.int z)) hv, (hσ ▸ hs)⟩)
    · refine g_iconst F (v := (-1)) dX2_promises_17 (by decide) (np := 18) rfl ?_
      have hσ : σ = (gPrs σ i a n) := by unfold gPrs; first | (rw [pif_f (fun z => c4 z.1)]; done) | (rw [pif_f (fun z => c14 z.2.1)]; done)
      have hv : -1 = rPrs σ i a n := by unfold rPrs; first | (rw [pif_f (fun z => c4 z.1)]; done) | (rw [pif_f (fun z => c14 z.2)]; done)
      exact g_iret F hr rfl (Nat.le_of_ble_eq_true rfl) (Nat.le_of_ble_eq_true rfl) dX2_promises_18 (fun h hs => by rw [← hT]; exact ⟨congrArg (fun z => some (Value.int z)) hv, (hσ ▸ hs)⟩)

set_option maxRecDepth 100000 in
theorem ct_X2_view {l : Launch} {D : va_G} {E : State → Prop} {B : Nat} (hE : Stab E) {ad : Nat → Nat} {h0 : AH} (σ : MSt) (L : LawT) (o : Int32) (w : Int32) (hok : mOK σ L) : Ct l D E B yX2_view cX2_view 6 (some .int) 6 137 0 0 [.ref (ad 0), .int o, .int w] (MH D ad h0 σ) (RI (rView (mV σ L) (σ.1 6) (σ.1 0) o w) (MH D ad h0 σ)) := by
  refine Ct.of (nL := 6) (lv := [some (.ref (ad 0)), some (.int o), some (.int w), none, none, none]) (by decide) (Nat.le_of_ble_eq_true rfl) hE 3 rfl ?_
  generalize hT : RI (rView (mV σ L) (σ.1 6) (σ.1 0) o w) (MH D ad h0 σ) = T
  intro zp ze zs zm zb zt zc F hr hnm
  generalize ([.ref (ad 0), .int o, .int w] : List Value).toArray = za at F ⊢
  have hok2 := hok
  obtain ⟨ho8, hm15, ht99, hby, hlaw⟩ := hok2
  refine g_aload_n F dX2_view_0 rfl rfl (np := 1) rfl ?_
  refine g_iload_n F dX2_view_1 rfl rfl (np := 2) rfl ?_
  refine g_runV F (C := RX2) (ci := 2) (T0 := TX2) (N := 42) (rest := []) (ct_X2_isOwner hE σ o (by first | assumption | omega)) (lw_V q1688 q1690 qs54 q102 q1691) hcV_X2_isOwner ⟨Nat.le_of_ble_eq_true rfl, Nat.le_of_ble_eq_true rfl⟩ rfl (fun h hs => hs.obj) rfl rfl (Nat.le_of_ble_eq_true rfl) dX2_view_2 ⟨Nat.le_of_ble_eq_true rfl, Nat.le_of_ble_eq_true rfl⟩ (np := 5) rfl (k_RI ?_)
  refine g_if_eqB F dX2_view_5 (tp := 17) (by decide) (np := 8) rfl (fun c5 => ?_) (fun c5 => ?_)
  · refine g_iconst F (v := (-1)) dX2_view_17 (by decide) (np := 18) rfl ?_
    have hv : -1 = rView (mV σ L) (σ.1 6) (σ.1 0) o w := by unfold rView; first | (rw [pif_f (fun z => c5 z.1)]; done) | (rw [pif_f (fun z => c14 (bt1.mpr z.2))]; done)
    exact g_iret F hr rfl (Nat.le_of_ble_eq_true rfl) (Nat.le_of_ble_eq_true rfl) dX2_view_18 (fun h hs => by rw [← hT]; exact ⟨congrArg (fun z => some (Value.int z)) hv, hs⟩)
  · refine g_iload_n F dX2_view_8 rfl rfl (np := 9) rfl ?_
    refine g_iconst F (v := (nI 0)) dX2_view_9 (by decide) (np := 10) rfl ?_
    refine g_iconst F (v := (nI 1)) dX2_view_10 (by decide) (np := 11) rfl ?_
    refine g_runS F (rest := []) (ct_X2_within hE w (nI (0)) (nI (1)) ) (lw_S q1677 q1678 q102 q1679) hcS_X2_within ⟨Nat.le_of_ble_eq_true rfl, Nat.le_of_ble_eq_true rfl⟩ rfl rfl (Nat.le_of_ble_eq_true rfl) dX2_view_11 ⟨Nat.le_of_ble_eq_true rfl, Nat.le_of_ble_eq_true rfl⟩ (np := 14) rfl (k_RI ?_)
    refine g_if_neB F dX2_view_14 (tp := 19) (by decide) (np := 17) rfl (fun c14 => ?_) (fun c14 => ?_)
    · obtain ⟨hol, hoe⟩ := inN_cl (by omega) c5
      have hw2 := bt1.mp c14
      obtain ⟨hwl, hwe⟩ := inN_cl (by decide) hw2
      refine WG.eqv (lv' := [some (.ref (ad 0)), some (.int (nI (o.toNatClampNeg))), some (.int w), none, none, none]) rfl (congrArg (fun z => ([some (.ref (ad 0)), some (.int z), some (.int w), none, none, none] : List (Option Value))) (show o = (nI (o.toNatClampNeg)) from by exact hoe)) ?_
      refine WG.eqv (lv' := [some (.ref (ad 0)), some (.int (nI (o.toNatClampNeg))), some (.int (nI (w.toNatClampNeg))), none, none, none]) rfl (congrArg (fun z => ([some (.ref (ad 0)), some (.int (nI (o.toNatClampNeg))), some (.int z), none, none, none] : List (Option Value))) (show w = (nI (w.toNatClampNeg)) from by exact hwe)) ?_
      obtain ⟨tot, htot⟩ : ∃ t, t = sV (mV σ L) (σ.1 6) (σ.1 0) w.toNatClampNeg (if w.toNatClampNeg = 0 then σ.1 0 - (o.toNatClampNeg + 1) else o.toNatClampNeg) (-1) := ⟨_, rfl⟩
      refine g_iconst F (v := (nI 0)) dX2_view_19 (by decide) (np := 20) rfl ?_
      refine g_istore_n F (lv' := [some (.ref (ad 0)), some (.int (nI (o.toNatClampNeg))), some (.int (nI (w.toNatClampNeg))), some (.int (nI 0)), none, none]) dX2_view_20 rfl (by decide) rfl rfl (np := 21) rfl ?_
      refine g_iconst F (v := (-1)) dX2_view_21 (by decide) (np := 22) rfl ?_
      refine g_istore F (lv' := [some (.ref (ad 0)), some (.int (nI (o.toNatClampNeg))), some (.int (nI (w.toNatClampNeg))), some (.int (nI 0)), some (.int (-1)), none]) dX2_view_22 (by decide) rfl rfl (np := 24) rfl ?_
      refine g_iload_n F dX2_view_24 rfl rfl (np := 25) rfl ?_
      refine g_iload_n F dX2_view_25 rfl rfl (np := 26) rfl ?_
      refine g_if_neN F (by omega) dX2_view_26 (tp := 33) (by decide) (np := 29) rfl (fun c26 => ?_) (fun c26 => ?_)
      · refine g_iconst F (v := (-1)) dX2_view_33 (by decide) (np := 34) rfl ?_
        refine g_iadd F dX2_view_34 (np := 35) rfl ?_
        refine g_istore F (lv' := [some (.ref (ad 0)), some (.int (nI (o.toNatClampNeg))), some (.int (nI (w.toNatClampNeg))), some (.int (nI 0)), some (.int (-1)), some (.int ((nI (o.toNatClampNeg)) + (-1)))]) dX2_view_35 (by decide) rfl rfl (np := 37) rfl ?_
        have L37 : ∀ (zn : Nat) (n : Nat) (b : Int32) (x : Int32) (mm : Nat), (n + sV (mV σ L) (σ.1 6) (σ.1 0) w.toNatClampNeg mm b = tot) → (mm ≤ σ.1 0) → ((w.toNatClampNeg = 0 ∧ x = nI (σ.1 0 - mm)) ∨ (¬ w.toNatClampNeg = 0 ∧ x = nI mm - 1)) → mm < zn → WG zp l ze ({ frames := 6, cells := 0, slots := 0, locals := 137 } : Room) zs zm za zb zt zc D B 6 (MQ zb (QT D B T) za zs 0 0 (zA B)) (MH D ad h0 σ) 0 0 37 [some (.ref (ad 0)), some (.int (nI (o.toNatClampNeg))), some (.int (nI (w.toNatClampNeg))), some (.int (nI n)), some (.int b), some (.int x)] [] := by
          intro zn
          induction zn with
          | zero => intro n b x mm h1 h2 h3 hm; exact absurd hm (Nat.not_lt_zero _)
          | succ zn ih37 =>
            intro n b x mm h1 h2 h3 hm
            refine g_aload_n F dX2_view_37 rfl rfl (np := 38) rfl ?_
            refine g_iload F dX2_view_38 rfl (np := 40) rfl ?_
            refine g_runV F (C := RX2) (ci := 2) (T0 := TX2) (N := 42) (rest := []) (ct_X2_isOwner hE σ x (by first | assumption | omega)) (lw_V q1688 q1690 qs54 q102 q1691) hcV_X2_isOwner ⟨Nat.le_of_ble_eq_true rfl, Nat.le_of_ble_eq_true rfl⟩ rfl (fun h hs => hs.obj) rfl rfl (Nat.le_of_ble_eq_true rfl) dX2_view_40 ⟨Nat.le_of_ble_eq_true rfl, Nat.le_of_ble_eq_true rfl⟩ (np := 43) rfl (k_RI ?_)
            refine g_if_eqB F dX2_view_43 (tp := 88) (by decide) (np := 46) rfl (fun c43 => ?_) (fun c43 => ?_)
            · have hm0 : mm = 0 := by
                rcases Nat.eq_zero_or_pos mm with z | z
                · exact z
                · exfalso
                  obtain ⟨m1, rfl⟩ : ∃ k, mm = k + 1 := ⟨mm - 1, by omega⟩
                  apply c43
                  rcases h3 with ⟨z1, z2⟩ | ⟨z1, z2⟩
                  · rw [z2]; exact (inN_nI (by omega) (by omega)).mpr (by omega)
                  · rw [z2, nI_pred]; exact (inN_nI (by omega) (by omega)).mpr (by omega)
              refine g_iload_n F dX2_view_88 rfl rfl (np := 89) rfl ?_
              have hv : nI (n) = rView (mV σ L) (σ.1 6) (σ.1 0) o w := by unfold rView; rw [pif_t ⟨c5, hw2⟩]; exact congrArg nI (view_fin hwe hol (hm0 ▸ h1) htot)
              exact g_iret F hr rfl (Nat.le_of_ble_eq_true rfl) (Nat.le_of_ble_eq_true rfl) dX2_view_89 (fun h hs => by rw [← hT]; exact ⟨congrArg (fun z => some (Value.int z)) hv, hs⟩)
            · have hx0 := inN_cl (by omega) c43
              obtain ⟨m1, q, rfl, hq2, hq1⟩ : ∃ m1 q, mm = m1 + 1 ∧ ((w.toNatClampNeg = 0 ∧ q + (m1 + 1) = σ.1 0) ∨ (¬ w.toNatClampNeg = 0 ∧ q = m1)) ∧ x = nI q := by
                rcases Nat.eq_zero_or_pos mm with rfl | z
                · exfalso
                  rcases h3 with ⟨z1, z2⟩ | ⟨z1, z2⟩
                  · rw [z2] at c43; have := (inN_nI (by omega) (by omega)).mp c43; omega
                  · rw [z2] at c43; exact inN_pred0 (by omega) c43
                · obtain ⟨m1, rfl⟩ : ∃ k, mm = k + 1 := ⟨mm - 1, by omega⟩
                  rcases h3 with ⟨z1, z2⟩ | ⟨z1, z2⟩
                  · exact ⟨m1, σ.1 0 - (m1 + 1), rfl, Or.inl ⟨z1, by omega⟩, z2⟩
                  · exact ⟨m1, m1, rfl, Or.inr ⟨z1, rfl⟩, by rw [z2]; exact nI_pred m1⟩
              clear h3
              refine WG.eqv (lv' := [some (.ref (ad 0)), some (.int (nI (o.toNatClampNeg))), some (.int (nI (w.toNatClampNeg))), some (.int (nI n)), some (.int b), some (.int (nI q))]) rfl (congrArg (fun z => ([some (.ref (ad 0)), some (.int (nI (o.toNatClampNeg))), some (.int (nI (w.toNatClampNeg))), some (.int (nI n)), some (.int b), some (.int z)] : List (Option Value))) (show x = (nI q) from by exact hq1)) ?_
              refine g_aload_n F dX2_view_46 rfl rfl (np := 47) rfl ?_
              refine g_iload F dX2_view_47 rfl (np := 49) rfl ?_
              refine g_runV F (C := RX2) (ci := 2) (T0 := TX2) (N := 42) (rest := []) (ct_X2_highOf hE σ L (nI (q)) (by first | assumption | omega)) (lw_V q1844 q1846 qs80 q102 q1847) hcV_X2_highOf ⟨Nat.le_of_ble_eq_true rfl, Nat.le_of_ble_eq_true rfl⟩ rfl (fun h hs => hs.obj) rfl rfl (Nat.le_of_ble_eq_true rfl) dX2_view_49 ⟨Nat.le_of_ble_eq_true rfl, Nat.le_of_ble_eq_true rfl⟩ (np := 52) rfl (k_RI ?_)
              refine g_iload F dX2_view_52 rfl (np := 54) rfl ?_
              refine g_icmp_gt F dX2_view_54 (tp := 60) (by decide) (np := 57) rfl (fun c54 => ?_) (fun c54 => ?_)
              · refine g_aload_n F dX2_view_60 rfl rfl (np := 61) rfl ?_
                refine g_iload F dX2_view_61 rfl (np := 63) rfl ?_
                refine g_runV F (C := RX2) (ci := 2) (T0 := TX2) (N := 42) (rest := []) (ct_X2_highOf hE σ L (nI (q)) (by first | assumption | omega)) (lw_V q1844 q1846 qs80 q102 q1847) hcV_X2_highOf ⟨Nat.le_of_ble_eq_true rfl, Nat.le_of_ble_eq_true rfl⟩ rfl (fun h hs => hs.obj) rfl rfl (Nat.le_of_ble_eq_true rfl) dX2_view_63 ⟨Nat.le_of_ble_eq_true rfl, Nat.le_of_ble_eq_true rfl⟩ (np := 66) rfl (k_RI ?_)
                refine g_istore F (lv' := [some (.ref (ad 0)), some (.int (nI (o.toNatClampNeg))), some (.int (nI (w.toNatClampNeg))), some (.int (nI n)), some (.int (sHigh (mV σ L) (σ.1 6) (nI (q)))), some (.int (nI q))]) dX2_view_66 (by decide) rfl rfl (np := 68) rfl ?_
                refine g_iinc F (v := (nI (n + 1))) (lv' := [some (.ref (ad 0)), some (.int (nI (o.toNatClampNeg))), some (.int (nI (w.toNatClampNeg))), some (.int (nI (n + 1))), some (.int (sHigh (mV σ L) (σ.1 6) (nI (q)))), some (.int (nI q))]) dX2_view_68 rfl (nI_add _ _) (by decide) rfl rfl (np := 71) rfl ?_
                refine g_iload F dX2_view_71 rfl (np := 73) rfl ?_
                refine g_iload_n F dX2_view_73 rfl rfl (np := 74) rfl ?_
                refine g_if_neN F (by omega) dX2_view_74 (tp := 81) (by decide) (np := 77) rfl (fun c74 => ?_) (fun c74 => ?_)
                · refine g_iconst F (v := (-1)) dX2_view_81 (by decide) (np := 82) rfl ?_
                  refine g_iadd F dX2_view_82 (np := 83) rfl ?_
                  refine g_istore F (lv' := [some (.ref (ad 0)), some (.int (nI (o.toNatClampNeg))), some (.int (nI (w.toNatClampNeg))), some (.int (nI (n + 1))), some (.int (sHigh (mV σ L) (σ.1 6) (nI (q)))), some (.int ((nI (q)) + (-1)))]) dX2_view_83 (by decide) rfl rfl (np := 85) rfl ?_
                  refine g_goto F dX2_view_85 (np := 37) (by decide) ?_
                  exact ih37 (n + 1) (sHigh (mV σ L) (σ.1 6) (nI (q))) ((nI (q)) + (-1)) m1 (by first | (rw [sV_s hq2, if_neg c54] at h1; exact h1) | (rw [sV_s hq2, if_pos c54] at h1; omega)) (by omega) (by first | exact absurd c26 c74 | exact absurd c74 c26 | (left; exact ⟨‹_›, congrArg nI (show q + 1 = σ.1 0 - m1 by omega)⟩) | (right; exact ⟨‹_›, by rw [show q = m1 by omega]; exact zi_m1 _⟩)) (by omega)
                · refine g_iconst F (v := (nI 1)) dX2_view_77 (by decide) (np := 78) rfl ?_
                  refine g_goto F dX2_view_78 (np := 82) (by decide) ?_
                  refine g_iaddN F dX2_view_82 (np := 83) rfl ?_
                  refine g_istore F (lv' := [some (.ref (ad 0)), some (.int (nI (o.toNatClampNeg))), some (.int (nI (w.toNatClampNeg))), some (.int (nI (n + 1))), some (.int (sHigh (mV σ L) (σ.1 6) (nI (q)))), some (.int (nI (q + 1)))]) dX2_view_83 (by decide) rfl rfl (np := 85) rfl ?_
                  refine g_goto F dX2_view_85 (np := 37) (by decide) ?_
                  exact ih37 (n + 1) (sHigh (mV σ L) (σ.1 6) (nI (q))) (nI (q + 1)) m1 (by first | (rw [sV_s hq2, if_neg c54] at h1; exact h1) | (rw [sV_s hq2, if_pos c54] at h1; omega)) (by omega) (by first | exact absurd c26 c74 | exact absurd c74 c26 | (left; exact ⟨‹_›, congrArg nI (show q + 1 = σ.1 0 - m1 by omega)⟩) | (right; exact ⟨‹_›, by rw [show q = m1 by omega]; exact zi_m1 _⟩)) (by omega)
              · refine g_goto F dX2_view_57 (np := 71) (by decide) ?_
                refine g_iload F dX2_view_71 rfl (np := 73) rfl ?_
                refine g_iload_n F dX2_view_73 rfl rfl (np := 74) rfl ?_
                refine g_if_neN F (by omega) dX2_view_74 (tp := 81) (by decide) (np := 77) rfl (fun c74 => ?_) (fun c74 => ?_)
                · refine g_iconst F (v := (-1)) dX2_view_81 (by decide) (np := 82) rfl ?_
                  refine g_iadd F dX2_view_82 (np := 83) rfl ?_
                  refine g_istore F (lv' := [some (.ref (ad 0)), some (.int (nI (o.toNatClampNeg))), some (.int (nI (w.toNatClampNeg))), some (.int (nI n)), some (.int b), some (.int ((nI (q)) + (-1)))]) dX2_view_83 (by decide) rfl rfl (np := 85) rfl ?_
                  refine g_goto F dX2_view_85 (np := 37) (by decide) ?_
                  exact ih37 n b ((nI (q)) + (-1)) m1 (by first | (rw [sV_s hq2, if_neg c54] at h1; exact h1) | (rw [sV_s hq2, if_pos c54] at h1; omega)) (by omega) (by first | exact absurd c26 c74 | exact absurd c74 c26 | (left; exact ⟨‹_›, congrArg nI (show q + 1 = σ.1 0 - m1 by omega)⟩) | (right; exact ⟨‹_›, by rw [show q = m1 by omega]; exact zi_m1 _⟩)) (by omega)
                · refine g_iconst F (v := (nI 1)) dX2_view_77 (by decide) (np := 78) rfl ?_
                  refine g_goto F dX2_view_78 (np := 82) (by decide) ?_
                  refine g_iaddN F dX2_view_82 (np := 83) rfl ?_
                  refine g_istore F (lv' := [some (.ref (ad 0)), some (.int (nI (o.toNatClampNeg))), some (.int (nI (w.toNatClampNeg))), some (.int (nI n)), some (.int b), some (.int (nI (q + 1)))]) dX2_view_83 (by decide) rfl rfl (np := 85) rfl ?_
                  refine g_goto F dX2_view_85 (np := 37) (by decide) ?_
                  exact ih37 n b (nI (q + 1)) m1 (by first | (rw [sV_s hq2, if_neg c54] at h1; exact h1) | (rw [sV_s hq2, if_pos c54] at h1; omega)) (by omega) (by first | exact absurd c26 c74 | exact absurd c74 c26 | (left; exact ⟨‹_›, congrArg nI (show q + 1 = σ.1 0 - m1 by omega)⟩) | (right; exact ⟨‹_›, by rw [show q = m1 by omega]; exact zi_m1 _⟩)) (by omega)
        exact L37 _ 0 (-1) ((nI (o.toNatClampNeg)) + (-1)) ((if w.toNatClampNeg = 0 then σ.1 0 - (o.toNatClampNeg + 1) else o.toNatClampNeg)) (by rw [htot]; exact Nat.zero_add _) (by split <;> omega) (by first | (left; exact ⟨‹_›, by rw [if_pos ‹w.toNatClampNeg = 0›, show σ.1 0 - (σ.1 0 - (o.toNatClampNeg + 1)) = o.toNatClampNeg + 1 by omega]; try rfl⟩) | (right; exact ⟨‹_›, by rw [if_neg ‹¬ w.toNatClampNeg = 0›]; exact zi_m1 _⟩)) (Nat.lt_succ_self _)
      · refine g_iconst F (v := (nI 1)) dX2_view_29 (by decide) (np := 30) rfl ?_
        refine g_goto F dX2_view_30 (np := 34) (by decide) ?_
        refine g_iaddN F dX2_view_34 (np := 35) rfl ?_
        refine g_istore F (lv' := [some (.ref (ad 0)), some (.int (nI (o.toNatClampNeg))), some (.int (nI (w.toNatClampNeg))), some (.int (nI 0)), some (.int (-1)), some (.int (nI (o.toNatClampNeg + 1)))]) dX2_view_35 (by decide) rfl rfl (np := 37) rfl ?_
        have L37 : ∀ (zn : Nat) (n : Nat) (b : Int32) (x : Int32) (mm : Nat), (n + sV (mV σ L) (σ.1 6) (σ.1 0) w.toNatClampNeg mm b = tot) → (mm ≤ σ.1 0) → ((w.toNatClampNeg = 0 ∧ x = nI (σ.1 0 - mm)) ∨ (¬ w.toNatClampNeg = 0 ∧ x = nI mm - 1)) → mm < zn → WG zp l ze ({ frames := 6, cells := 0, slots := 0, locals := 137 } : Room) zs zm za zb zt zc D B 6 (MQ zb (QT D B T) za zs 0 0 (zA B)) (MH D ad h0 σ) 0 0 37 [some (.ref (ad 0)), some (.int (nI (o.toNatClampNeg))), some (.int (nI (w.toNatClampNeg))), some (.int (nI n)), some (.int b), some (.int x)] [] := by
          intro zn
          induction zn with
          | zero => intro n b x mm h1 h2 h3 hm; exact absurd hm (Nat.not_lt_zero _)
          | succ zn ih37 =>
            intro n b x mm h1 h2 h3 hm
            refine g_aload_n F dX2_view_37 rfl rfl (np := 38) rfl ?_
            refine g_iload F dX2_view_38 rfl (np := 40) rfl ?_
            refine g_runV F (C := RX2) (ci := 2) (T0 := TX2) (N := 42) (rest := []) (ct_X2_isOwner hE σ x (by first | assumption | omega)) (lw_V q1688 q1690 qs54 q102 q1691) hcV_X2_isOwner ⟨Nat.le_of_ble_eq_true rfl, Nat.le_of_ble_eq_true rfl⟩ rfl (fun h hs => hs.obj) rfl rfl (Nat.le_of_ble_eq_true rfl) dX2_view_40 ⟨Nat.le_of_ble_eq_true rfl, Nat.le_of_ble_eq_true rfl⟩ (np := 43) rfl (k_RI ?_)
            refine g_if_eqB F dX2_view_43 (tp := 88) (by decide) (np := 46) rfl (fun c43 => ?_) (fun c43 => ?_)
            · have hm0 : mm = 0 := by
                rcases Nat.eq_zero_or_pos mm with z | z
                · exact z
                · exfalso
                  obtain ⟨m1, rfl⟩ : ∃ k, mm = k + 1 := ⟨mm - 1, by omega⟩
                  apply c43
                  rcases h3 with ⟨z1, z2⟩ | ⟨z1, z2⟩
                  · rw [z2]; exact (inN_nI (by omega) (by omega)).mpr (by omega)
                  · rw [z2, nI_pred]; exact (inN_nI (by omega) (by omega)).mpr (by omega)
              refine g_iload_n F dX2_view_88 rfl rfl (np := 89) rfl ?_
              have hv : nI (n) = rView (mV σ L) (σ.1 6) (σ.1 0) o w := by unfold rView; rw [pif_t ⟨c5, hw2⟩]; exact congrArg nI (view_fin hwe hol (hm0 ▸ h1) htot)
              exact g_iret F hr rfl (Nat.le_of_ble_eq_true rfl) (Nat.le_of_ble_eq_true rfl) dX2_view_89 (fun h hs => by rw [← hT]; exact ⟨congrArg (fun z => some (Value.int z)) hv, hs⟩)
            · have hx0 := inN_cl (by omega) c43
              obtain ⟨m1, q, rfl, hq2, hq1⟩ : ∃ m1 q, mm = m1 + 1 ∧ ((w.toNatClampNeg = 0 ∧ q + (m1 + 1) = σ.1 0) ∨ (¬ w.toNatClampNeg = 0 ∧ q = m1)) ∧ x = nI q := by
                rcases Nat.eq_zero_or_pos mm with rfl | z
                · exfalso
                  rcases h3 with ⟨z1, z2⟩ | ⟨z1, z2⟩
                  · rw [z2] at c43; have := (inN_nI (by omega) (by omega)).mp c43; omega
                  · rw [z2] at c43; exact inN_pred0 (by omega) c43
                · obtain ⟨m1, rfl⟩ : ∃ k, mm = k + 1 := ⟨mm - 1, by omega⟩
                  rcases h3 with ⟨z1, z2⟩ | ⟨z1, z2⟩
                  · exact ⟨m1, σ.1 0 - (m1 + 1), rfl, Or.inl ⟨z1, by omega⟩, z2⟩
                  · exact ⟨m1, m1, rfl, Or.inr ⟨z1, rfl⟩, by rw [z2]; exact nI_pred m1⟩
              clear h3
              refine WG.eqv (lv' := [some (.ref (ad 0)), some (.int (nI (o.toNatClampNeg))), some (.int (nI (w.toNatClampNeg))), some (.int (nI n)), some (.int b), some (.int (nI q))]) rfl (congrArg (fun z => ([some (.ref (ad 0)), some (.int (nI (o.toNatClampNeg))), some (.int (nI (w.toNatClampNeg))), some (.int (nI n)), some (.int b), some (.int z)] : List (Option Value))) (show x = (nI q) from by exact hq1)) ?_
              refine g_aload_n F dX2_view_46 rfl rfl (np := 47) rfl ?_
              refine g_iload F dX2_view_47 rfl (np := 49) rfl ?_
              refine g_runV F (C := RX2) (ci := 2) (T0 := TX2) (N := 42) (rest := []) (ct_X2_highOf hE σ L (nI (q)) (by first | assumption | omega)) (lw_V q1844 q1846 qs80 q102 q1847) hcV_X2_highOf ⟨Nat.le_of_ble_eq_true rfl, Nat.le_of_ble_eq_true rfl⟩ rfl (fun h hs => hs.obj) rfl rfl (Nat.le_of_ble_eq_true rfl) dX2_view_49 ⟨Nat.le_of_ble_eq_true rfl, Nat.le_of_ble_eq_true rfl⟩ (np := 52) rfl (k_RI ?_)
              refine g_iload F dX2_view_52 rfl (np := 54) rfl ?_
              refine g_icmp_gt F dX2_view_54 (tp := 60) (by decide) (np := 57) rfl (fun c54 => ?_) (fun c54 => ?_)
              · refine g_aload_n F dX2_view_60 rfl rfl (np := 61) rfl ?_
                refine g_iload F dX2_view_61 rfl (np := 63) rfl ?_
                refine g_runV F (C := RX2) (ci := 2) (T0 := TX2) (N := 42) (rest := []) (ct_X2_highOf hE σ L (nI (q)) (by first | assumption | omega)) (lw_V q1844 q1846 qs80 q102 q1847) hcV_X2_highOf ⟨Nat.le_of_ble_eq_true rfl, Nat.le_of_ble_eq_true rfl⟩ rfl (fun h hs => hs.obj) rfl rfl (Nat.le_of_ble_eq_true rfl) dX2_view_63 ⟨Nat.le_of_ble_eq_true rfl, Nat.le_of_ble_eq_true rfl⟩ (np := 66) rfl (k_RI ?_)
                refine g_istore F (lv' := [some (.ref (ad 0)), some (.int (nI (o.toNatClampNeg))), some (.int (nI (w.toNatClampNeg))), some (.int (nI n)), some (.int (sHigh (mV σ L) (σ.1 6) (nI (q)))), some (.int (nI q))]) dX2_view_66 (by decide) rfl rfl (np := 68) rfl ?_
                refine g_iinc F (v := (nI (n + 1))) (lv' := [some (.ref (ad 0)), some (.int (nI (o.toNatClampNeg))), some (.int (nI (w.toNatClampNeg))), some (.int (nI (n + 1))), some (.int (sHigh (mV σ L) (σ.1 6) (nI (q)))), some (.int (nI q))]) dX2_view_68 rfl (nI_add _ _) (by decide) rfl rfl (np := 71) rfl ?_
                refine g_iload F dX2_view_71 rfl (np := 73) rfl ?_
                refine g_iload_n F dX2_view_73 rfl rfl (np := 74) rfl ?_
                refine g_if_neN F (by omega) dX2_view_74 (tp := 81) (by decide) (np := 77) rfl (fun c74 => ?_) (fun c74 => ?_)
                · refine g_iconst F (v := (-1)) dX2_view_81 (by decide) (np := 82) rfl ?_
                  refine g_iadd F dX2_view_82 (np := 83) rfl ?_
                  refine g_istore F (lv' := [some (.ref (ad 0)), some (.int (nI (o.toNatClampNeg))), some (.int (nI (w.toNatClampNeg))), some (.int (nI (n + 1))), some (.int (sHigh (mV σ L) (σ.1 6) (nI (q)))), some (.int ((nI (q)) + (-1)))]) dX2_view_83 (by decide) rfl rfl (np := 85) rfl ?_
                  refine g_goto F dX2_view_85 (np := 37) (by decide) ?_
                  exact ih37 (n + 1) (sHigh (mV σ L) (σ.1 6) (nI (q))) ((nI (q)) + (-1)) m1 (by first | (rw [sV_s hq2, if_neg c54] at h1; exact h1) | (rw [sV_s hq2, if_pos c54] at h1; omega)) (by omega) (by first | exact absurd c26 c74 | exact absurd c74 c26 | (left; exact ⟨‹_›, congrArg nI (show q + 1 = σ.1 0 - m1 by omega)⟩) | (right; exact ⟨‹_›, by rw [show q = m1 by omega]; exact zi_m1 _⟩)) (by omega)
                · refine g_iconst F (v := (nI 1)) dX2_view_77 (by decide) (np := 78) rfl ?_
                  refine g_goto F dX2_view_78 (np := 82) (by decide) ?_
                  refine g_iaddN F dX2_view_82 (np := 83) rfl ?_
                  refine g_istore F (lv' := [some (.ref (ad 0)), some (.int (nI (o.toNatClampNeg))), some (.int (nI (w.toNatClampNeg))), some (.int (nI (n + 1))), some (.int (sHigh (mV σ L) (σ.1 6) (nI (q)))), some (.int (nI (q + 1)))]) dX2_view_83 (by decide) rfl rfl (np := 85) rfl ?_
                  refine g_goto F dX2_view_85 (np := 37) (by decide) ?_
                  exact ih37 (n + 1) (sHigh (mV σ L) (σ.1 6) (nI (q))) (nI (q + 1)) m1 (by first | (rw [sV_s hq2, if_neg c54] at h1; exact h1) | (rw [sV_s hq2, if_pos c54] at h1; omega)) (by omega) (by first | exact absurd c26 c74 | exact absurd c74 c26 | (left; exact ⟨‹_›, congrArg nI (show q + 1 = σ.1 0 - m1 by omega)⟩) | (right; exact ⟨‹_›, by rw [show q = m1 by omega]; exact zi_m1 _⟩)) (by omega)
              · refine g_goto F dX2_view_57 (np := 71) (by decide) ?_
                refine g_iload F dX2_view_71 rfl (np := 73) rfl ?_
                refine g_iload_n F dX2_view_73 rfl rfl (np := 74) rfl ?_
                refine g_if_neN F (by omega) dX2_view_74 (tp := 81) (by decide) (np := 77) rfl (fun c74 => ?_) (fun c74 => ?_)
                · refine g_iconst F (v := (-1)) dX2_view_81 (by decide) (np := 82) rfl ?_
                  refine g_iadd F dX2_view_82 (np := 83) rfl ?_
                  refine g_istore F (lv' := [some (.ref (ad 0)), some (.int (nI (o.toNatClampNeg))), some (.int (nI (w.toNatClampNeg))), some (.int (nI n)), some (.int b), some (.int ((nI (q)) + (-1)))]) dX2_view_83 (by decide) rfl rfl (np := 85) rfl ?_
                  refine g_goto F dX2_view_85 (np := 37) (by decide) ?_
                  exact ih37 n b ((nI (q)) + (-1)) m1 (by first | (rw [sV_s hq2, if_neg c54] at h1; exact h1) | (rw [sV_s hq2, if_pos c54] at h1; omega)) (by omega) (by first | exact absurd c26 c74 | exact absurd c74 c26 | (left; exact ⟨‹_›, congrArg nI (show q + 1 = σ.1 0 - m1 by omega)⟩) | (right; exact ⟨‹_›, by rw [show q = m1 by omega]; exact zi_m1 _⟩)) (by omega)
                · refine g_iconst F (v := (nI 1)) dX2_view_77 (by decide) (np := 78) rfl ?_
                  refine g_goto F dX2_view_78 (np := 82) (by decide) ?_
                  refine g_iaddN F dX2_view_82 (np := 83) rfl ?_
                  refine g_istore F (lv' := [some (.ref (ad 0)), some (.int (nI (o.toNatClampNeg))), some (.int (nI (w.toNatClampNeg))), some (.int (nI n)), some (.int b), some (.int (nI (q + 1)))]) dX2_view_83 (by decide) rfl rfl (np := 85) rfl ?_
                  refine g_goto F dX2_view_85 (np := 37) (by decide) ?_
                  exact ih37 n b (nI (q + 1)) m1 (by first | (rw [sV_s hq2, if_neg c54] at h1; exact h1) | (rw [sV_s hq2, if_pos c54] at h1; omega)) (by omega) (by first | exact absurd c26 c74 | exact absurd c74 c26 | (left; exact ⟨‹_›, congrArg nI (show q + 1 = σ.1 0 - m1 by omega)⟩) | (right; exact ⟨‹_›, by rw [show q = m1 by omega]; exact zi_m1 _⟩)) (by omega)
        exact L37 _ 0 (-1) (nI (o.toNatClampNeg + 1)) ((if w.toNatClampNeg = 0 then σ.1 0 - (o.toNatClampNeg + 1) else o.toNatClampNeg)) (by rw [htot]; exact Nat.zero_add _) (by split <;> omega) (by first | (left; exact ⟨‹_›, by rw [if_pos ‹w.toNatClampNeg = 0›, show σ.1 0 - (σ.1 0 - (o.toNatClampNeg + 1)) = o.toNatClampNeg + 1 by omega]; try rfl⟩) | (right; exact ⟨‹_›, by rw [if_neg ‹¬ w.toNatClampNeg = 0›]; exact zi_m1 _⟩)) (Nat.lt_succ_self _)
    · refine g_iconst F (v := (-1)) dX2_view_17 (by decide) (np := 18) rfl ?_
      have hv : -1 = rView (mV σ L) (σ.1 6) (σ.1 0) o w := by unfold rView; first | (rw [pif_f (fun z => c5 z.1)]; done) | (rw [pif_f (fun z => c14 (bt1.mpr z.2))]; done)
      exact g_iret F hr rfl (Nat.le_of_ble_eq_true rfl) (Nat.le_of_ble_eq_true rfl) dX2_view_18 (fun h hs => by rw [← hT]; exact ⟨congrArg (fun z => some (Value.int z)) hv, hs⟩)
