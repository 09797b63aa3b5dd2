/-! WALKS (printed by walk.py): tallest, skyline, view, standsSo, worthOf, mayDo, lowers, isBetter, bestLower, lower -/
set_option maxRecDepth 100000
set_option maxRecDepth 100000 in
theorem ct_X0_tallest {l : Launch} {D : va_G} {B : Nat} {Λ : LT} {I : AH} {L : LawT} (σ : MSt)   (hok : mOK σ L) (hm14 : σ.1 2 ≤ 14) (hbO : byOK σ) : Ct l D ZE B yX0_tallest cX0_tallest 3 (some .int) 204 4692 0 0 [.ref (Λ.1 0 38)] (XH D Λ I L σ) (RI (oI (sTallN (mV σ L) (σ.1 6) (σ.1 0))) (XH D Λ I L σ)) := by
  refine Ct.of (nL := 3) (lv := [some (.ref (Λ.1 0 38)), none, none]) (by decide) (Nat.le_of_ble_eq_true rfl) stZE 2 rfl ?_
  generalize hT : RI (oI (sTallN (mV σ L) (σ.1 6) (σ.1 0))) (XH D Λ I L σ) = T
  intro zp ze zs zm zb zt zc F hr hnm
  generalize ([.ref (Λ.1 0 38)] : List Value).toArray = za at F ⊢
  have hok2 := hok
  obtain ⟨ho8, hm15, ht99, hby, hlaw⟩ := hok2
  refine g_bipush F (v := (-2)) dX0_tallest_0 (by decide) (np := 2) rfl ?_
  refine g_istore_n F (lv' := [some (.ref (Λ.1 0 38)), some (.int (-2)), none]) dX0_tallest_2 rfl (by decide) rfl rfl (np := 3) rfl ?_
  refine g_iconst F (v := (nI 0)) dX0_tallest_3 (by decide) (np := 4) rfl ?_
  refine g_istore_n F (lv' := [some (.ref (Λ.1 0 38)), some (.int (-2)), some (.int (nI 0))]) dX0_tallest_4 rfl (by decide) rfl rfl (np := 5) rfl ?_
  have L5 : ∀ (zn : Nat) (f : Int32) (o : Nat), (f = oI (sTallN (mV σ L) (σ.1 6) o)) → (o ≤ σ.1 0) → σ.1 0 - o < zn → WG zp l ze ({ frames := 204, cells := 0, slots := 0, locals := 4692 } : Room) zs zm za zb zt zc D B 3 (MQ zb (QT D B T) za zs 0 0 (zA B)) (XH D Λ I L σ) 0 0 5 [some (.ref (Λ.1 0 38)), some (.int f), some (.int (nI o))] [] := by
    intro zn
    induction zn with
    | zero => intro f o h1 h2 hm; exact absurd hm (Nat.not_lt_zero _)
    | succ zn ih5 =>
      intro f o h1 h2 hm
      refine g_iload_n F dX0_tallest_5 rfl rfl (np := 6) rfl ?_
      refine g_aload_n F dX0_tallest_6 rfl rfl (np := 7) rfl ?_
      refine x_get F (k := 2) (v := .int (nI (σ.1 0))) (by decide) rfl (Or.inl q179) dX0_tallest_7 (np := 10) rfl ?_
      refine g_icmp_geN F (by omega) (by omega) dX0_tallest_10 (tp := 46) (by decide) (np := 13) rfl (fun c10 => ?_) (fun c10 => ?_)
      · refine g_iload_n F dX0_tallest_46 rfl rfl (np := 47) rfl ?_
        have hv : f = oI (sTallN (mV σ L) (σ.1 6) (σ.1 0)) := by rw [h1, show o = σ.1 0 by omega]
        exact g_iret F hr rfl (Nat.le_of_ble_eq_true rfl) (Nat.le_of_ble_eq_true rfl) dX0_tallest_47 (fun h hs => by rw [← hT]; exact ⟨congrArg (fun z => some (Value.int z)) hv, hs⟩)
      · refine g_iload_n F dX0_tallest_13 rfl rfl (np := 14) rfl ?_
        refine g_if_lt F dX0_tallest_14 (tp := 38) (by decide) (np := 17) rfl (fun c14 => ?_) (fun c14 => ?_)
        · refine g_iload_n F dX0_tallest_38 rfl rfl (np := 39) rfl ?_
          refine g_istore_n F (lv' := [some (.ref (Λ.1 0 38)), some (.int (nI o)), some (.int (nI o))]) dX0_tallest_39 rfl (by decide) rfl rfl (np := 40) rfl ?_
          refine g_iinc F (v := (nI (o + 1))) (lv' := [some (.ref (Λ.1 0 38)), some (.int (nI o)), some (.int (nI (o + 1)))]) dX0_tallest_40 rfl (nI_add _ _) (by decide) rfl rfl (np := 43) rfl ?_
          refine g_goto F dX0_tallest_43 (np := 5) (by decide) ?_
          exact ih5 (nI (o)) (o + 1) (by unfold sTallN; first | (rw [(oI_lt (sTallN_lt _ _ o) (by omega)).mp (by rw [← h1]; exact c14)]; rfl) | (rw [hr1]; simp only; rw [if_pos (Int32.not_le.mp c35)]; rfl) | (rw [hr1]; simp only; rw [if_neg (Int32.not_lt.mpr c35), h1, hr1])) (by first | assumption | omega) (by omega)
        · obtain ⟨r0, hr1, hr2, hr3⟩ := oI_some2 (sTallN_lt _ _ o) (by omega) (fun z => c14 (by rw [h1]; exact z))
          refine g_aload_n F dX0_tallest_17 rfl rfl (np := 18) rfl ?_
          refine g_iload_n F dX0_tallest_18 rfl rfl (np := 19) rfl ?_
          refine g_aload_n F dX0_tallest_19 rfl rfl (np := 20) rfl ?_
          refine x_get F (k := 4) (v := .int (nI (σ.1 6))) (by decide) rfl (Or.inl q181) dX0_tallest_20 (np := 23) rfl ?_
          refine g_runV F (C := RX0) (ci := 0) (T0 := TX0) (N := 38) (rest := []) (ct_X0_highOf σ (nI (o)) (σ.1 6) (by first | assumption | omega) (by first | assumption | omega) (by first | assumption | omega)) (lw_V q877 q879 qs27 q100 q880) hcV_X0_highOf ⟨Nat.le_of_ble_eq_true rfl, Nat.le_of_ble_eq_true rfl⟩ rfl (fun h hs => hs.obj) rfl rfl (Nat.le_of_ble_eq_true rfl) dX0_tallest_23 ⟨Nat.le_of_ble_eq_true rfl, Nat.le_of_ble_eq_true rfl⟩ (np := 26) rfl (k_RI ?_)
          refine g_aload_n F dX0_tallest_26 rfl rfl (np := 27) rfl ?_
          refine g_iload_n F dX0_tallest_27 rfl rfl (np := 28) rfl ?_
          refine WG.eqv (st' := [.int (nI r0), .ref (Λ.1 0 38), .int (sHigh (mV σ L) (σ.1 6) (nI (o)))]) (congrArg (fun z => ([.int z, .ref (Λ.1 0 38), .int (sHigh (mV σ L) (σ.1 6) (nI (o)))] : List Value)) (show f = (nI r0) from by exact h1.trans hr2)) rfl ?_
          refine g_aload_n F dX0_tallest_28 rfl rfl (np := 29) rfl ?_
          refine x_get F (k := 4) (v := .int (nI (σ.1 6))) (by decide) rfl (Or.inl q181) dX0_tallest_29 (np := 32) rfl ?_
          refine g_runV F (C := RX0) (ci := 0) (T0 := TX0) (N := 38) (rest := [.int (sHigh (mV σ L) (σ.1 6) (nI (o)))]) (ct_X0_highOf σ (nI (r0)) (σ.1 6) (by first | assumption | omega) (by first | assumption | omega) (by first | assumption | omega)) (lw_V q877 q879 qs27 q100 q880) hcV_X0_highOf ⟨Nat.le_of_ble_eq_true rfl, Nat.le_of_ble_eq_true rfl⟩ rfl (fun h hs => hs.obj) rfl rfl (Nat.le_of_ble_eq_true rfl) dX0_tallest_32 ⟨Nat.le_of_ble_eq_true rfl, Nat.le_of_ble_eq_true rfl⟩ (np := 35) rfl (k_RI ?_)
          refine g_icmp_le F dX0_tallest_35 (tp := 40) (by decide) (np := 38) rfl (fun c35 => ?_) (fun c35 => ?_)
          · refine g_iinc F (v := (nI (o + 1))) (lv' := [some (.ref (Λ.1 0 38)), some (.int f), some (.int (nI (o + 1)))]) dX0_tallest_40 rfl (nI_add _ _) (by decide) rfl rfl (np := 43) rfl ?_
            refine g_goto F dX0_tallest_43 (np := 5) (by decide) ?_
            exact ih5 f (o + 1) (by unfold sTallN; first | (rw [(oI_lt (sTallN_lt _ _ o) (by omega)).mp (by rw [← h1]; exact c14)]; rfl) | (rw [hr1]; simp only; rw [if_pos (Int32.not_le.mp c35)]; rfl) | (rw [hr1]; simp only; rw [if_neg (Int32.not_lt.mpr c35), h1, hr1])) (by first | assumption | omega) (by omega)
          · refine g_iload_n F dX0_tallest_38 rfl rfl (np := 39) rfl ?_
            refine g_istore_n F (lv' := [some (.ref (Λ.1 0 38)), some (.int (nI o)), some (.int (nI o))]) dX0_tallest_39 rfl (by decide) rfl rfl (np := 40) rfl ?_
            refine g_iinc F (v := (nI (o + 1))) (lv' := [some (.ref (Λ.1 0 38)), some (.int (nI o)), some (.int (nI (o + 1)))]) dX0_tallest_40 rfl (nI_add _ _) (by decide) rfl rfl (np := 43) rfl ?_
            refine g_goto F dX0_tallest_43 (np := 5) (by decide) ?_
            exact ih5 (nI (o)) (o + 1) (by unfold sTallN; first | (rw [(oI_lt (sTallN_lt _ _ o) (by omega)).mp (by rw [← h1]; exact c14)]; rfl) | (rw [hr1]; simp only; rw [if_pos (Int32.not_le.mp c35)]; rfl) | (rw [hr1]; simp only; rw [if_neg (Int32.not_lt.mpr c35), h1, hr1])) (by first | assumption | omega) (by omega)
  exact L5 _ (-2) 0 (by rfl) (by omega) (Nat.lt_succ_self _)

set_option maxRecDepth 100000 in
theorem ct_X0_skyline {l : Launch} {D : va_G} {B : Nat} {Λ : LT} {I : AH} {L : LawT} (σ : MSt)  (w : Int32) (hok : mOK σ L) (hm14 : σ.1 2 ≤ 14) (hbO : byOK σ) : Ct l D ZE B yX0_skyline cX0_skyline 5 (some .int) 205 4714 0 0 [.ref (Λ.1 0 38), .int w] (XH D Λ I L σ) (RI (rSky (mV σ L) (σ.1 6) (σ.1 0) w) (XH D Λ I L σ)) := by
  refine Ct.of (nL := 5) (lv := [some (.ref (Λ.1 0 38)), some (.int w), none, none, none]) (by decide) (Nat.le_of_ble_eq_true rfl) stZE 3 rfl ?_
  generalize hT : RI (rSky (mV σ L) (σ.1 6) (σ.1 0) w) (XH D Λ I L σ) = T
  intro zp ze zs zm zb zt zc F hr hnm
  generalize ([.ref (Λ.1 0 38), .int w] : List Value).toArray = za at F ⊢
  have hok2 := hok
  obtain ⟨ho8, hm15, ht99, hby, hlaw⟩ := hok2
  refine g_iload_n F dX0_skyline_0 rfl rfl (np := 1) rfl ?_
  refine g_iconst F (v := (nI 0)) dX0_skyline_1 (by decide) (np := 2) rfl ?_
  refine g_iconst F (v := (nI 1)) dX0_skyline_2 (by decide) (np := 3) rfl ?_
  refine g_runS F (rest := []) (ct_X0_in w (nI (0)) (nI (1)) ) (lw_S q298 q299 q100 q300) hcS_X0_in ⟨Nat.le_of_ble_eq_true rfl, Nat.le_of_ble_eq_true rfl⟩ rfl rfl (Nat.le_of_ble_eq_true rfl) dX0_skyline_3 ⟨Nat.le_of_ble_eq_true rfl, Nat.le_of_ble_eq_true rfl⟩ (np := 6) rfl (k_RI ?_)
  refine g_if_neB F dX0_skyline_6 (tp := 11) (by decide) (np := 9) rfl (fun c6 => ?_) (fun c6 => ?_)
  · refine g_iload_n F dX0_skyline_11 rfl rfl (np := 12) rfl ?_
    refine g_iconst F (v := (nI 1)) dX0_skyline_12 (by decide) (np := 13) rfl ?_
    refine g_icmp_ne F dX0_skyline_13 (tp := 21) (by decide) (np := 16) rfl (fun c13 => ?_) (fun c13 => ?_)
    · refine g_iconst F (v := (nI 0)) dX0_skyline_21 (by decide) (np := 22) rfl ?_
      refine g_istore_n F (lv' := [some (.ref (Λ.1 0 38)), some (.int w), some (.int (nI 0)), none, none]) dX0_skyline_22 rfl (by decide) rfl rfl (np := 23) rfl ?_
      refine g_iconst F (v := (-1)) dX0_skyline_23 (by decide) (np := 24) rfl ?_
      refine g_istore_n F (lv' := [some (.ref (Λ.1 0 38)), some (.int w), some (.int (nI 0)), some (.int (-1)), none]) dX0_skyline_24 rfl (by decide) rfl rfl (np := 25) rfl ?_
      refine g_iconst F (v := (nI 0)) dX0_skyline_25 (by decide) (np := 26) rfl ?_
      refine g_istore F (lv' := [some (.ref (Λ.1 0 38)), some (.int w), some (.int (nI 0)), some (.int (-1)), some (.int (nI 0))]) dX0_skyline_26 (by decide) rfl rfl (np := 28) rfl ?_
      have L28 : ∀ (zn : Nat) (b : Int32) (a : Int32) (o : Nat), (b = sSky (mV σ L) (σ.1 6) o) → (a = sMost (mV σ L) (σ.1 6) o) → (o ≤ σ.1 0) → σ.1 0 - o < zn → WG zp l ze ({ frames := 205, cells := 0, slots := 0, locals := 4714 } : Room) zs zm za zb zt zc D B 5 (MQ zb (QT D B T) za zs 0 0 (zA B)) (XH D Λ I L σ) 0 0 28 [some (.ref (Λ.1 0 38)), some (.int w), some (.int b), some (.int a), some (.int (nI o))] [] := by
        intro zn
        induction zn with
        | zero => intro b a o h1 h2 h3 hm; exact absurd hm (Nat.not_lt_zero _)
        | succ zn ih28 =>
          intro b a o h1 h2 h3 hm
          refine g_iload F dX0_skyline_28 rfl (np := 30) rfl ?_
          refine g_aload_n F dX0_skyline_30 rfl rfl (np := 31) rfl ?_
          refine x_get F (k := 2) (v := .int (nI (σ.1 0))) (by decide) rfl (Or.inl q179) dX0_skyline_31 (np := 34) rfl ?_
          refine g_icmp_geN F (by omega) (by omega) dX0_skyline_34 (tp := 78) (by decide) (np := 37) rfl (fun c34 => ?_) (fun c34 => ?_)
          · refine g_iload_n F dX0_skyline_78 rfl rfl (np := 79) rfl ?_
            have hv : b = rSky (mV σ L) (σ.1 6) (σ.1 0) w := by unfold rSky; rw [pif_t (bt1.mp c6), if_pos (by obtain ⟨j, hj, e⟩ := bt1.mp c6; rcases (show j = 0 ∨ j = 1 by omega) with rfl | rfl; exact e; exact absurd e c13), h1, show o = σ.1 0 by omega]
            exact g_iret F hr rfl (Nat.le_of_ble_eq_true rfl) (Nat.le_of_ble_eq_true rfl) dX0_skyline_79 (fun h hs => by rw [← hT]; exact ⟨congrArg (fun z => some (Value.int z)) hv, hs⟩)
          · refine g_aload_n F dX0_skyline_37 rfl rfl (np := 38) rfl ?_
            refine g_iload F dX0_skyline_38 rfl (np := 40) rfl ?_
            refine g_aload_n F dX0_skyline_40 rfl rfl (np := 41) rfl ?_
            refine x_get F (k := 4) (v := .int (nI (σ.1 6))) (by decide) rfl (Or.inl q181) dX0_skyline_41 (np := 44) rfl ?_
            refine g_runV F (C := RX0) (ci := 0) (T0 := TX0) (N := 38) (rest := []) (ct_X0_highOf σ (nI (o)) (σ.1 6) (by first | assumption | omega) (by first | assumption | omega) (by first | assumption | omega)) (lw_V q877 q879 qs27 q100 q880) hcV_X0_highOf ⟨Nat.le_of_ble_eq_true rfl, Nat.le_of_ble_eq_true rfl⟩ rfl (fun h hs => hs.obj) rfl rfl (Nat.le_of_ble_eq_true rfl) dX0_skyline_44 ⟨Nat.le_of_ble_eq_true rfl, Nat.le_of_ble_eq_true rfl⟩ (np := 47) rfl (k_RI ?_)
            refine g_iload_n F dX0_skyline_47 rfl rfl (np := 48) rfl ?_
            refine g_icmp_gt F dX0_skyline_48 (tp := 54) (by decide) (np := 51) rfl (fun c48 => ?_) (fun c48 => ?_)
            · refine g_aload_n F dX0_skyline_54 rfl rfl (np := 55) rfl ?_
              refine g_iload F dX0_skyline_55 rfl (np := 57) rfl ?_
              refine g_aload_n F dX0_skyline_57 rfl rfl (np := 58) rfl ?_
              refine x_get F (k := 4) (v := .int (nI (σ.1 6))) (by decide) rfl (Or.inl q181) dX0_skyline_58 (np := 61) rfl ?_
              refine g_runV F (C := RX0) (ci := 0) (T0 := TX0) (N := 38) (rest := []) (ct_X0_highOf σ (nI (o)) (σ.1 6) (by first | assumption | omega) (by first | assumption | omega) (by first | assumption | omega)) (lw_V q877 q879 qs27 q100 q880) hcV_X0_highOf ⟨Nat.le_of_ble_eq_true rfl, Nat.le_of_ble_eq_true rfl⟩ rfl (fun h hs => hs.obj) rfl rfl (Nat.le_of_ble_eq_true rfl) dX0_skyline_61 ⟨Nat.le_of_ble_eq_true rfl, Nat.le_of_ble_eq_true rfl⟩ (np := 64) rfl (k_RI ?_)
              refine g_istore_n F (lv' := [some (.ref (Λ.1 0 38)), some (.int w), some (.int b), some (.int (sHigh (mV σ L) (σ.1 6) (nI (o)))), some (.int (nI o))]) dX0_skyline_64 rfl (by decide) rfl rfl (np := 65) rfl ?_
              refine g_iload_n F dX0_skyline_65 rfl rfl (np := 66) rfl ?_
              refine g_iconst F (v := (nI 1)) dX0_skyline_66 (by decide) (np := 67) rfl ?_
              refine g_iload F dX0_skyline_67 rfl (np := 69) rfl ?_
              refine g_ishl F dX0_skyline_69 (np := 70) rfl ?_
              refine g_ior F dX0_skyline_70 (np := 71) rfl ?_
              refine g_istore_n F (lv' := [some (.ref (Λ.1 0 38)), some (.int w), some (.int (b ||| ((nI (1)) <<< ((nI (o)) &&& 31)))), some (.int (sHigh (mV σ L) (σ.1 6) (nI (o)))), some (.int (nI o))]) dX0_skyline_71 rfl (by decide) rfl rfl (np := 72) rfl ?_
              refine g_iinc F (v := (nI (o + 1))) (lv' := [some (.ref (Λ.1 0 38)), some (.int w), some (.int (b ||| ((nI (1)) <<< ((nI (o)) &&& 31)))), some (.int (sHigh (mV σ L) (σ.1 6) (nI (o)))), some (.int (nI (o + 1)))]) dX0_skyline_72 rfl (nI_add _ _) (by decide) rfl rfl (np := 75) rfl ?_
              refine g_goto F dX0_skyline_75 (np := 28) (by decide) ?_
              exact ih28 (b ||| ((nI (1)) <<< ((nI (o)) &&& 31))) (sHigh (mV σ L) (σ.1 6) (nI (o))) (o + 1) (by rw [sSky_s, ← h2]; first | (rw [if_pos c48, h1]; done) | (rw [if_neg c48, h1])) (by rw [sMost_s, ← h2]; first | (rw [if_pos c48]; done) | (rw [if_neg c48])) (by first | assumption | omega) (by omega)
            · refine g_goto F dX0_skyline_51 (np := 72) (by decide) ?_
              refine g_iinc F (v := (nI (o + 1))) (lv' := [some (.ref (Λ.1 0 38)), some (.int w), some (.int b), some (.int a), some (.int (nI (o + 1)))]) dX0_skyline_72 rfl (nI_add _ _) (by decide) rfl rfl (np := 75) rfl ?_
              refine g_goto F dX0_skyline_75 (np := 28) (by decide) ?_
              exact ih28 b a (o + 1) (by rw [sSky_s, ← h2]; first | (rw [if_pos c48, h1]; done) | (rw [if_neg c48, h1])) (by rw [sMost_s, ← h2]; first | (rw [if_pos c48]; done) | (rw [if_neg c48])) (by first | assumption | omega) (by omega)
      exact L28 _ (nI (0)) (-1) 0 (by rfl) (by rfl) (by omega) (Nat.lt_succ_self _)
    · refine g_aload_n F dX0_skyline_16 rfl rfl (np := 17) rfl ?_
      refine g_runV F (C := RX0) (ci := 0) (T0 := TX0) (N := 38) (rest := []) (ct_X0_tallest σ (by first | assumption | omega) (by first | assumption | omega) (by first | assumption | omega)) (lw_V q901 q903 qs29 q100 q904) hcV_X0_tallest ⟨Nat.le_of_ble_eq_true rfl, Nat.le_of_ble_eq_true rfl⟩ rfl (fun h hs => hs.obj) rfl rfl (Nat.le_of_ble_eq_true rfl) dX0_skyline_17 ⟨Nat.le_of_ble_eq_true rfl, Nat.le_of_ble_eq_true rfl⟩ (np := 20) rfl (k_RI ?_)
      have hv : oI (sTallN (mV σ L) (σ.1 6) (σ.1 0)) = rSky (mV σ L) (σ.1 6) (σ.1 0) w := by unfold rSky; rw [pif_t (bt1.mp c6), if_neg (by rw [c13]; decide)]
      exact g_iret F hr rfl (Nat.le_of_ble_eq_true rfl) (Nat.le_of_ble_eq_true rfl) dX0_skyline_20 (fun h hs => by rw [← hT]; exact ⟨congrArg (fun z => some (Value.int z)) hv, hs⟩)
  · refine g_iconst F (v := (-1)) dX0_skyline_9 (by decide) (np := 10) rfl ?_
    have hv : -1 = rSky (mV σ L) (σ.1 6) (σ.1 0) w := by unfold rSky; rw [pif_f (fun z => c6 (bt1.mpr z))]
    exact g_iret F hr rfl (Nat.le_of_ble_eq_true rfl) (Nat.le_of_ble_eq_true rfl) dX0_skyline_10 (fun h hs => by rw [← hT]; exact ⟨congrArg (fun z => some (Value.int z)) hv, hs⟩)

set_option maxRecDepth 100000 in
theorem ct_X0_view {l : Launch} {D : va_G} {B : Nat} {Λ : LT} {I : AH} {L : LawT} (σ : MSt)  (o : Int32) (w : Int32) (hok : mOK σ L) (hm14 : σ.1 2 ≤ 14) (hbO : byOK σ) : Ct l D ZE B yX0_view cX0_view 7 (some .int) 204 4692 0 0 [.ref (Λ.1 0 38), .int o, .int w] (XH D Λ I L σ) (RI (rView (mV σ L) (σ.1 6) (σ.1 0) o w) (XH D Λ I L σ)) := by
  refine Ct.of (nL := 7) (lv := [some (.ref (Λ.1 0 38)), some (.int o), some (.int w), none, none, none, none]) (by decide) (Nat.le_of_ble_eq_true rfl) stZE 4 rfl ?_
  generalize hT : RI (rView (mV σ L) (σ.1 6) (σ.1 0) o w) (XH D Λ I L σ) = T
  intro zp ze zs zm zb zt zc F hr hnm
  generalize ([.ref (Λ.1 0 38), .int o, .int w] : List Value).toArray = za at F ⊢
  have hok2 := hok
  obtain ⟨ho8, hm15, ht99, hby, hlaw⟩ := hok2
  refine g_aload_n F dX0_view_0 rfl rfl (np := 1) rfl ?_
  refine g_iload_n F dX0_view_1 rfl rfl (np := 2) rfl ?_
  refine g_runV F (C := RX0) (ci := 0) (T0 := TX0) (N := 38) (rest := []) (ct_X0_isOwner σ o (by first | assumption | omega)) (lw_V q319 q321 qs1 q100 q322) hcV_X0_isOwner ⟨Nat.le_of_ble_eq_true rfl, Nat.le_of_ble_eq_true rfl⟩ rfl (fun h hs => hs.obj) rfl rfl (Nat.le_of_ble_eq_true rfl) dX0_view_2 ⟨Nat.le_of_ble_eq_true rfl, Nat.le_of_ble_eq_true rfl⟩ (np := 5) rfl (k_RI ?_)
  refine g_if_eqB F dX0_view_5 (tp := 17) (by decide) (np := 8) rfl (fun c5 => ?_) (fun c5 => ?_)
  · refine g_iconst F (v := (-1)) dX0_view_17 (by decide) (np := 18) rfl ?_
    have hv : -1 = rView (mV σ L) (σ.1 6) (σ.1 0) o w := by unfold rView; first | (rw [pif_f (fun z => c5 z.1)]; done) | (rw [pif_f (fun z => c14 (bt1.mpr z.2))]; done)
    exact g_iret F hr rfl (Nat.le_of_ble_eq_true rfl) (Nat.le_of_ble_eq_true rfl) dX0_view_18 (fun h hs => by rw [← hT]; exact ⟨congrArg (fun z => some (Value.int z)) hv, hs⟩)
  · refine g_iload_n F dX0_view_8 rfl rfl (np := 9) rfl ?_
    refine g_iconst F (v := (nI 0)) dX0_view_9 (by decide) (np := 10) rfl ?_
    refine g_iconst F (v := (nI 1)) dX0_view_10 (by decide) (np := 11) rfl ?_
    refine g_runS F (rest := []) (ct_X0_in w (nI (0)) (nI (1)) ) (lw_S q298 q299 q100 q300) hcS_X0_in ⟨Nat.le_of_ble_eq_true rfl, Nat.le_of_ble_eq_true rfl⟩ rfl rfl (Nat.le_of_ble_eq_true rfl) dX0_view_11 ⟨Nat.le_of_ble_eq_true rfl, Nat.le_of_ble_eq_true rfl⟩ (np := 14) rfl (k_RI ?_)
    refine g_if_neB F dX0_view_14 (tp := 19) (by decide) (np := 17) rfl (fun c14 => ?_) (fun c14 => ?_)
    · obtain ⟨hol, hoe⟩ := inN_cl (by omega) c5
      have hw2 := bt1.mp c14
      obtain ⟨hwl, hwe⟩ := inN_cl (by decide) hw2
      refine WG.eqv (lv' := [some (.ref (Λ.1 0 38)), some (.int (nI (o.toNatClampNeg))), some (.int w), none, none, none, none]) rfl (congrArg (fun z => ([some (.ref (Λ.1 0 38)), some (.int z), some (.int w), none, none, none, none] : List (Option Value))) (show o = (nI (o.toNatClampNeg)) from by exact hoe)) ?_
      refine WG.eqv (lv' := [some (.ref (Λ.1 0 38)), some (.int (nI (o.toNatClampNeg))), some (.int (nI (w.toNatClampNeg))), none, none, none, none]) rfl (congrArg (fun z => ([some (.ref (Λ.1 0 38)), some (.int (nI (o.toNatClampNeg))), some (.int z), none, none, none, none] : List (Option Value))) (show w = (nI (w.toNatClampNeg)) from by exact hwe)) ?_
      obtain ⟨tot, htot⟩ : ∃ t, t = sV (mV σ L) (σ.1 6) (σ.1 0) w.toNatClampNeg (if w.toNatClampNeg = 0 then σ.1 0 - (o.toNatClampNeg + 1) else o.toNatClampNeg) (-1) := ⟨_, rfl⟩
      refine g_iload_n F dX0_view_19 rfl rfl (np := 20) rfl ?_
      refine g_if_neN F (by omega) dX0_view_20 (tp := 27) (by decide) (np := 23) rfl (fun c20 => ?_) (fun c20 => ?_)
      · have hw0 : ¬ w.toNatClampNeg = 0 := c20
        refine g_iconst F (v := (-1)) dX0_view_27 (by decide) (np := 28) rfl ?_
        refine g_istore_n F (lv' := [some (.ref (Λ.1 0 38)), some (.int (nI (o.toNatClampNeg))), some (.int (nI (w.toNatClampNeg))), some (.int (-1)), none, none, none]) dX0_view_28 rfl (by decide) rfl rfl (np := 29) rfl ?_
        refine g_iconst F (v := (-1)) dX0_view_29 (by decide) (np := 30) rfl ?_
        refine g_istore F (lv' := [some (.ref (Λ.1 0 38)), some (.int (nI (o.toNatClampNeg))), some (.int (nI (w.toNatClampNeg))), some (.int (-1)), some (.int (-1)), none, none]) dX0_view_30 (by decide) rfl rfl (np := 32) rfl ?_
        refine g_iconst F (v := (nI 0)) dX0_view_32 (by decide) (np := 33) rfl ?_
        refine g_istore F (lv' := [some (.ref (Λ.1 0 38)), some (.int (nI (o.toNatClampNeg))), some (.int (nI (w.toNatClampNeg))), some (.int (-1)), some (.int (-1)), some (.int (nI 0)), none]) dX0_view_33 (by decide) rfl rfl (np := 35) rfl ?_
        refine g_iload_n F dX0_view_35 rfl rfl (np := 36) rfl ?_
        refine g_iload_n F dX0_view_36 rfl rfl (np := 37) rfl ?_
        refine g_iadd F dX0_view_37 (np := 38) rfl ?_
        refine g_istore F (lv' := [some (.ref (Λ.1 0 38)), some (.int (nI (o.toNatClampNeg))), some (.int (nI (w.toNatClampNeg))), some (.int (-1)), some (.int (-1)), some (.int (nI 0)), some (.int ((nI (o.toNatClampNeg)) + (-1)))]) dX0_view_38 (by decide) rfl rfl (np := 40) rfl ?_
        have L40 : ∀ (zn : Nat) (b : Int32) (n : Nat) (x : Int32) (mm : Nat), (n + sV (mV σ L) (σ.1 6) (σ.1 0) w.toNatClampNeg mm b = tot) → (mm ≤ σ.1 0) → (x = nI mm - 1) → mm < zn → WG zp l ze ({ frames := 204, cells := 0, slots := 0, locals := 4692 } : Room) zs zm za zb zt zc D B 7 (MQ zb (QT D B T) za zs 0 0 (zA B)) (XH D Λ I L σ) 0 0 40 [some (.ref (Λ.1 0 38)), some (.int (nI (o.toNatClampNeg))), some (.int (nI (w.toNatClampNeg))), some (.int (-1)), some (.int b), some (.int (nI n)), some (.int x)] [] := by
          intro zn
          induction zn with
          | zero => intro b n x mm h1 h2 h3 hm; exact absurd hm (Nat.not_lt_zero _)
          | succ zn ih40 =>
            intro b n x mm h1 h2 h3 hm
            refine g_iload F dX0_view_40 rfl (np := 42) rfl ?_
            refine g_iconst F (v := (nI 0)) dX0_view_42 (by decide) (np := 43) rfl ?_
            refine g_aload_n F dX0_view_43 rfl rfl (np := 44) rfl ?_
            refine x_get F (k := 2) (v := .int (nI (σ.1 0))) (by decide) rfl (Or.inl q179) dX0_view_44 (np := 47) rfl ?_
            refine g_iconst F (v := (nI 1)) dX0_view_47 (by decide) (np := 48) rfl ?_
            refine g_isub F dX0_view_48 (np := 49) rfl ?_
            refine g_runS F (rest := []) (ct_X0_in x (nI (0)) ((nI (σ.1 0)) - (nI (1))) ) (lw_S q298 q299 q100 q300) hcS_X0_in ⟨Nat.le_of_ble_eq_true rfl, Nat.le_of_ble_eq_true rfl⟩ rfl rfl (Nat.le_of_ble_eq_true rfl) dX0_view_49 ⟨Nat.le_of_ble_eq_true rfl, Nat.le_of_ble_eq_true rfl⟩ (np := 52) rfl (k_RI ?_)
            refine g_if_eqB F dX0_view_52 (tp := 97) (by decide) (np := 55) rfl (fun c52 => ?_) (fun c52 => ?_)
            · have c52n : ¬ inN x (σ.1 0) := fun z => c52 ((bt_n1 (by omega)).mpr z)
              have hm0 : mm = 0 := by
                rcases Nat.eq_zero_or_pos mm with z | z
                · exact z
                · exfalso; obtain ⟨m1, rfl⟩ : ∃ k, mm = k + 1 := ⟨mm - 1, by omega⟩
                  apply c52n; rw [h3, nI_pred]; exact (inN_nI (by omega) (by omega)).mpr (by omega)
              refine g_iload F dX0_view_97 rfl (np := 99) rfl ?_
              have hv : nI (n) = rView (mV σ L) (σ.1 6) (σ.1 0) o w := by unfold rView; rw [pif_t ⟨c5, hw2⟩]; exact congrArg nI (view_fin hwe hol (hm0 ▸ h1) htot)
              exact g_iret F hr rfl (Nat.le_of_ble_eq_true rfl) (Nat.le_of_ble_eq_true rfl) dX0_view_99 (fun h hs => by rw [← hT]; exact ⟨congrArg (fun z => some (Value.int z)) hv, hs⟩)
            · have c52n := (bt_n1 (by omega)).mp c52
              obtain ⟨m1, q, rfl, hq2, hq1⟩ : ∃ m1 q, mm = m1 + 1 ∧ ((w.toNatClampNeg = 0 ∧ q + (m1 + 1) = σ.1 0) ∨ (¬ w.toNatClampNeg = 0 ∧ q = m1)) ∧ x = nI q := by
                rcases Nat.eq_zero_or_pos mm with rfl | z
                · exfalso; rw [h3] at c52n; exact inN_pred0 (by omega) c52n
                · obtain ⟨m1, rfl⟩ : ∃ k, mm = k + 1 := ⟨mm - 1, by omega⟩
                  exact ⟨m1, m1, rfl, Or.inr ⟨hw0, rfl⟩, by rw [h3]; exact nI_pred m1⟩
              refine WG.eqv (lv' := [some (.ref (Λ.1 0 38)), some (.int (nI (o.toNatClampNeg))), some (.int (nI (w.toNatClampNeg))), some (.int (-1)), some (.int b), some (.int (nI n)), some (.int (nI q))]) rfl (congrArg (fun z => ([some (.ref (Λ.1 0 38)), some (.int (nI (o.toNatClampNeg))), some (.int (nI (w.toNatClampNeg))), some (.int (-1)), some (.int b), some (.int (nI n)), some (.int z)] : List (Option Value))) (show x = (nI q) from by exact hq1)) ?_
              refine g_aload_n F dX0_view_55 rfl rfl (np := 56) rfl ?_
              refine g_iload F dX0_view_56 rfl (np := 58) rfl ?_
              refine g_aload_n F dX0_view_58 rfl rfl (np := 59) rfl ?_
              refine x_get F (k := 4) (v := .int (nI (σ.1 6))) (by decide) rfl (Or.inl q181) dX0_view_59 (np := 62) rfl ?_
              refine g_runV F (C := RX0) (ci := 0) (T0 := TX0) (N := 38) (rest := []) (ct_X0_highOf σ (nI (q)) (σ.1 6) (by first | assumption | omega) (by first | assumption | omega) (by first | assumption | omega)) (lw_V q877 q879 qs27 q100 q880) hcV_X0_highOf ⟨Nat.le_of_ble_eq_true rfl, Nat.le_of_ble_eq_true rfl⟩ rfl (fun h hs => hs.obj) rfl rfl (Nat.le_of_ble_eq_true rfl) dX0_view_62 ⟨Nat.le_of_ble_eq_true rfl, Nat.le_of_ble_eq_true rfl⟩ (np := 65) rfl (k_RI ?_)
              refine g_iload F dX0_view_65 rfl (np := 67) rfl ?_
              refine g_icmp_gt F dX0_view_67 (tp := 73) (by decide) (np := 70) rfl (fun c67 => ?_) (fun c67 => ?_)
              · refine g_aload_n F dX0_view_73 rfl rfl (np := 74) rfl ?_
                refine g_iload F dX0_view_74 rfl (np := 76) rfl ?_
                refine g_aload_n F dX0_view_76 rfl rfl (np := 77) rfl ?_
                refine x_get F (k := 4) (v := .int (nI (σ.1 6))) (by decide) rfl (Or.inl q181) dX0_view_77 (np := 80) rfl ?_
                refine g_runV F (C := RX0) (ci := 0) (T0 := TX0) (N := 38) (rest := []) (ct_X0_highOf σ (nI (q)) (σ.1 6) (by first | assumption | omega) (by first | assumption | omega) (by first | assumption | omega)) (lw_V q877 q879 qs27 q100 q880) hcV_X0_highOf ⟨Nat.le_of_ble_eq_true rfl, Nat.le_of_ble_eq_true rfl⟩ rfl (fun h hs => hs.obj) rfl rfl (Nat.le_of_ble_eq_true rfl) dX0_view_80 ⟨Nat.le_of_ble_eq_true rfl, Nat.le_of_ble_eq_true rfl⟩ (np := 83) rfl (k_RI ?_)
                refine g_istore F (lv' := [some (.ref (Λ.1 0 38)), some (.int (nI (o.toNatClampNeg))), some (.int (nI (w.toNatClampNeg))), some (.int (-1)), some (.int (sHigh (mV σ L) (σ.1 6) (nI (q)))), some (.int (nI n)), some (.int (nI q))]) dX0_view_83 (by decide) rfl rfl (np := 85) rfl ?_
                refine g_iinc F (v := (nI (n + 1))) (lv' := [some (.ref (Λ.1 0 38)), some (.int (nI (o.toNatClampNeg))), some (.int (nI (w.toNatClampNeg))), some (.int (-1)), some (.int (sHigh (mV σ L) (σ.1 6) (nI (q)))), some (.int (nI (n + 1))), some (.int (nI q))]) dX0_view_85 rfl (nI_add _ _) (by decide) rfl rfl (np := 88) rfl ?_
                refine g_iload F dX0_view_88 rfl (np := 90) rfl ?_
                refine g_iload_n F dX0_view_90 rfl rfl (np := 91) rfl ?_
                refine g_iadd F dX0_view_91 (np := 92) rfl ?_
                refine g_istore F (lv' := [some (.ref (Λ.1 0 38)), some (.int (nI (o.toNatClampNeg))), some (.int (nI (w.toNatClampNeg))), some (.int (-1)), some (.int (sHigh (mV σ L) (σ.1 6) (nI (q)))), some (.int (nI (n + 1))), some (.int ((nI (q)) + (-1)))]) dX0_view_92 (by decide) rfl rfl (np := 94) rfl ?_
                refine g_goto F dX0_view_94 (np := 40) (by decide) ?_
                exact ih40 (sHigh (mV σ L) (σ.1 6) (nI (q))) (n + 1) ((nI (q)) + (-1)) m1 (by first | (rw [sV_s hq2, if_neg c67] at h1; exact h1) | (rw [sV_s hq2, if_pos c67] at h1; omega)) (by omega) (by rw [show q = m1 by omega]; exact zi_m1 _) (by omega)
              · refine g_goto F dX0_view_70 (np := 88) (by decide) ?_
                refine g_iload F dX0_view_88 rfl (np := 90) rfl ?_
                refine g_iload_n F dX0_view_90 rfl rfl (np := 91) rfl ?_
                refine g_iadd F dX0_view_91 (np := 92) rfl ?_
                refine g_istore F (lv' := [some (.ref (Λ.1 0 38)), some (.int (nI (o.toNatClampNeg))), some (.int (nI (w.toNatClampNeg))), some (.int (-1)), some (.int b), some (.int (nI n)), some (.int ((nI (q)) + (-1)))]) dX0_view_92 (by decide) rfl rfl (np := 94) rfl ?_
                refine g_goto F dX0_view_94 (np := 40) (by decide) ?_
                exact ih40 b n ((nI (q)) + (-1)) m1 (by first | (rw [sV_s hq2, if_neg c67] at h1; exact h1) | (rw [sV_s hq2, if_pos c67] at h1; omega)) (by omega) (by rw [show q = m1 by omega]; exact zi_m1 _) (by omega)
        exact L40 _ (-1) 0 ((nI (o.toNatClampNeg)) + (-1)) o.toNatClampNeg (by rw [htot, if_neg hw0]; exact Nat.zero_add _) (by omega) (by exact zi_m1 _) (Nat.lt_succ_self _)
      · have hw0 : w.toNatClampNeg = 0 := c20
        refine g_iconst F (v := (nI 1)) dX0_view_23 (by decide) (np := 24) rfl ?_
        refine g_goto F dX0_view_24 (np := 28) (by decide) ?_
        refine g_istore_n F (lv' := [some (.ref (Λ.1 0 38)), some (.int (nI (o.toNatClampNeg))), some (.int (nI (w.toNatClampNeg))), some (.int (nI 1)), none, none, none]) dX0_view_28 rfl (by decide) rfl rfl (np := 29) rfl ?_
        refine g_iconst F (v := (-1)) dX0_view_29 (by decide) (np := 30) rfl ?_
        refine g_istore F (lv' := [some (.ref (Λ.1 0 38)), some (.int (nI (o.toNatClampNeg))), some (.int (nI (w.toNatClampNeg))), some (.int (nI 1)), some (.int (-1)), none, none]) dX0_view_30 (by decide) rfl rfl (np := 32) rfl ?_
        refine g_iconst F (v := (nI 0)) dX0_view_32 (by decide) (np := 33) rfl ?_
        refine g_istore F (lv' := [some (.ref (Λ.1 0 38)), some (.int (nI (o.toNatClampNeg))), some (.int (nI (w.toNatClampNeg))), some (.int (nI 1)), some (.int (-1)), some (.int (nI 0)), none]) dX0_view_33 (by decide) rfl rfl (np := 35) rfl ?_
        refine g_iload_n F dX0_view_35 rfl rfl (np := 36) rfl ?_
        refine g_iload_n F dX0_view_36 rfl rfl (np := 37) rfl ?_
        refine g_iaddN F dX0_view_37 (np := 38) rfl ?_
        refine g_istore F (lv' := [some (.ref (Λ.1 0 38)), some (.int (nI (o.toNatClampNeg))), some (.int (nI (w.toNatClampNeg))), some (.int (nI 1)), some (.int (-1)), some (.int (nI 0)), some (.int (nI (o.toNatClampNeg + 1)))]) dX0_view_38 (by decide) rfl rfl (np := 40) rfl ?_
        have L40 : ∀ (zn : Nat) (b : Int32) (n : Nat) (x : Int32) (mm : Nat), (n + sV (mV σ L) (σ.1 6) (σ.1 0) w.toNatClampNeg mm b = tot) → (mm ≤ σ.1 0) → (x = nI (σ.1 0 - mm)) → mm < zn → WG zp l ze ({ frames := 204, cells := 0, slots := 0, locals := 4692 } : Room) zs zm za zb zt zc D B 7 (MQ zb (QT D B T) za zs 0 0 (zA B)) (XH D Λ I L σ) 0 0 40 [some (.ref (Λ.1 0 38)), some (.int (nI (o.toNatClampNeg))), some (.int (nI (w.toNatClampNeg))), some (.int (nI 1)), some (.int b), some (.int (nI n)), some (.int x)] [] := by
          intro zn
          induction zn with
          | zero => intro b n x mm h1 h2 h3 hm; exact absurd hm (Nat.not_lt_zero _)
          | succ zn ih40 =>
            intro b n x mm h1 h2 h3 hm
            refine g_iload F dX0_view_40 rfl (np := 42) rfl ?_
            refine g_iconst F (v := (nI 0)) dX0_view_42 (by decide) (np := 43) rfl ?_
            refine g_aload_n F dX0_view_43 rfl rfl (np := 44) rfl ?_
            refine x_get F (k := 2) (v := .int (nI (σ.1 0))) (by decide) rfl (Or.inl q179) dX0_view_44 (np := 47) rfl ?_
            refine g_iconst F (v := (nI 1)) dX0_view_47 (by decide) (np := 48) rfl ?_
            refine g_isub F dX0_view_48 (np := 49) rfl ?_
            refine g_runS F (rest := []) (ct_X0_in x (nI (0)) ((nI (σ.1 0)) - (nI (1))) ) (lw_S q298 q299 q100 q300) hcS_X0_in ⟨Nat.le_of_ble_eq_true rfl, Nat.le_of_ble_eq_true rfl⟩ rfl rfl (Nat.le_of_ble_eq_true rfl) dX0_view_49 ⟨Nat.le_of_ble_eq_true rfl, Nat.le_of_ble_eq_true rfl⟩ (np := 52) rfl (k_RI ?_)
            refine g_if_eqB F dX0_view_52 (tp := 97) (by decide) (np := 55) rfl (fun c52 => ?_) (fun c52 => ?_)
            · have c52n : ¬ inN x (σ.1 0) := fun z => c52 ((bt_n1 (by omega)).mpr z)
              have hm0 : mm = 0 := by
                rcases Nat.eq_zero_or_pos mm with z | z
                · exact z
                · exfalso; apply c52n; rw [h3]; exact (inN_nI (by omega) (by omega)).mpr (by omega)
              refine g_iload F dX0_view_97 rfl (np := 99) rfl ?_
              have hv : nI (n) = rView (mV σ L) (σ.1 6) (σ.1 0) o w := by unfold rView; rw [pif_t ⟨c5, hw2⟩]; exact congrArg nI (view_fin hwe hol (hm0 ▸ h1) htot)
              exact g_iret F hr rfl (Nat.le_of_ble_eq_true rfl) (Nat.le_of_ble_eq_true rfl) dX0_view_99 (fun h hs => by rw [← hT]; exact ⟨congrArg (fun z => some (Value.int z)) hv, hs⟩)
            · have c52n := (bt_n1 (by omega)).mp c52
              obtain ⟨m1, q, rfl, hq2, hq1⟩ : ∃ m1 q, mm = m1 + 1 ∧ ((w.toNatClampNeg = 0 ∧ q + (m1 + 1) = σ.1 0) ∨ (¬ w.toNatClampNeg = 0 ∧ q = m1)) ∧ x = nI q := by
                rcases Nat.eq_zero_or_pos mm with rfl | z
                · exfalso; rw [h3] at c52n; have := (inN_nI (by omega) (by omega)).mp c52n; omega
                · obtain ⟨m1, rfl⟩ : ∃ k, mm = k + 1 := ⟨mm - 1, by omega⟩
                  exact ⟨m1, σ.1 0 - (m1 + 1), rfl, Or.inl ⟨hw0, by omega⟩, h3⟩
              refine WG.eqv (lv' := [some (.ref (Λ.1 0 38)), some (.int (nI (o.toNatClampNeg))), some (.int (nI (w.toNatClampNeg))), some (.int (nI 1)), some (.int b), some (.int (nI n)), some (.int (nI q))]) rfl (congrArg (fun z => ([some (.ref (Λ.1 0 38)), some (.int (nI (o.toNatClampNeg))), some (.int (nI (w.toNatClampNeg))), some (.int (nI 1)), some (.int b), some (.int (nI n)), some (.int z)] : List (Option Value))) (show x = (nI q) from by exact hq1)) ?_
              refine g_aload_n F dX0_view_55 rfl rfl (np := 56) rfl ?_
              refine g_iload F dX0_view_56 rfl (np := 58) rfl ?_
              refine g_aload_n F dX0_view_58 rfl rfl (np := 59) rfl ?_
              refine x_get F (k := 4) (v := .int (nI (σ.1 6))) (by decide) rfl (Or.inl q181) dX0_view_59 (np := 62) rfl ?_
              refine g_runV F (C := RX0) (ci := 0) (T0 := TX0) (N := 38) (rest := []) (ct_X0_highOf σ (nI (q)) (σ.1 6) (by first | assumption | omega) (by first | assumption | omega) (by first | assumption | omega)) (lw_V q877 q879 qs27 q100 q880) hcV_X0_highOf ⟨Nat.le_of_ble_eq_true rfl, Nat.le_of_ble_eq_true rfl⟩ rfl (fun h hs => hs.obj) rfl rfl (Nat.le_of_ble_eq_true rfl) dX0_view_62 ⟨Nat.le_of_ble_eq_true rfl, Nat.le_of_ble_eq_true rfl⟩ (np := 65) rfl (k_RI ?_)
              refine g_iload F dX0_view_65 rfl (np := 67) rfl ?_
              refine g_icmp_gt F dX0_view_67 (tp := 73) (by decide) (np := 70) rfl (fun c67 => ?_) (fun c67 => ?_)
              · refine g_aload_n F dX0_view_73 rfl rfl (np := 74) rfl ?_
                refine g_iload F dX0_view_74 rfl (np := 76) rfl ?_
                refine g_aload_n F dX0_view_76 rfl rfl (np := 77) rfl ?_
                refine x_get F (k := 4) (v := .int (nI (σ.1 6))) (by decide) rfl (Or.inl q181) dX0_view_77 (np := 80) rfl ?_
                refine g_runV F (C := RX0) (ci := 0) (T0 := TX0) (N := 38) (rest := []) (ct_X0_highOf σ (nI (q)) (σ.1 6) (by first | assumption | omega) (by first | assumption | omega) (by first | assumption | omega)) (lw_V q877 q879 qs27 q100 q880) hcV_X0_highOf ⟨Nat.le_of_ble_eq_true rfl, Nat.le_of_ble_eq_true rfl⟩ rfl (fun h hs => hs.obj) rfl rfl (Nat.le_of_ble_eq_true rfl) dX0_view_80 ⟨Nat.le_of_ble_eq_true rfl, Nat.le_of_ble_eq_true rfl⟩ (np := 83) rfl (k_RI ?_)
                refine g_istore F (lv' := [some (.ref (Λ.1 0 38)), some (.int (nI (o.toNatClampNeg))), some (.int (nI (w.toNatClampNeg))), some (.int (nI 1)), some (.int (sHigh (mV σ L) (σ.1 6) (nI (q)))), some (.int (nI n)), some (.int (nI q))]) dX0_view_83 (by decide) rfl rfl (np := 85) rfl ?_
                refine g_iinc F (v := (nI (n + 1))) (lv' := [some (.ref (Λ.1 0 38)), some (.int (nI (o.toNatClampNeg))), some (.int (nI (w.toNatClampNeg))), some (.int (nI 1)), some (.int (sHigh (mV σ L) (σ.1 6) (nI (q)))), some (.int (nI (n + 1))), some (.int (nI q))]) dX0_view_85 rfl (nI_add _ _) (by decide) rfl rfl (np := 88) rfl ?_
                refine g_iload F dX0_view_88 rfl (np := 90) rfl ?_
                refine g_iload_n F dX0_view_90 rfl rfl (np := 91) rfl ?_
                refine g_iaddN F dX0_view_91 (np := 92) rfl ?_
                refine g_istore F (lv' := [some (.ref (Λ.1 0 38)), some (.int (nI (o.toNatClampNeg))), some (.int (nI (w.toNatClampNeg))), some (.int (nI 1)), some (.int (sHigh (mV σ L) (σ.1 6) (nI (q)))), some (.int (nI (n + 1))), some (.int (nI (q + 1)))]) dX0_view_92 (by decide) rfl rfl (np := 94) rfl ?_
                refine g_goto F dX0_view_94 (np := 40) (by decide) ?_
                exact ih40 (sHigh (mV σ L) (σ.1 6) (nI (q))) (n + 1) (nI (q + 1)) m1 (by first | (rw [sV_s hq2, if_neg c67] at h1; exact h1) | (rw [sV_s hq2, if_pos c67] at h1; omega)) (by omega) (by exact congrArg nI (show q + 1 = σ.1 0 - m1 by omega)) (by omega)
              · refine g_goto F dX0_view_70 (np := 88) (by decide) ?_
                refine g_iload F dX0_view_88 rfl (np := 90) rfl ?_
                refine g_iload_n F dX0_view_90 rfl rfl (np := 91) rfl ?_
                refine g_iaddN F dX0_view_91 (np := 92) rfl ?_
                refine g_istore F (lv' := [some (.ref (Λ.1 0 38)), some (.int (nI (o.toNatClampNeg))), some (.int (nI (w.toNatClampNeg))), some (.int (nI 1)), some (.int b), some (.int (nI n)), some (.int (nI (q + 1)))]) dX0_view_92 (by decide) rfl rfl (np := 94) rfl ?_
                refine g_goto F dX0_view_94 (np := 40) (by decide) ?_
                exact ih40 b n (nI (q + 1)) m1 (by first | (rw [sV_s hq2, if_neg c67] at h1; exact h1) | (rw [sV_s hq2, if_pos c67] at h1; omega)) (by omega) (by exact congrArg nI (show q + 1 = σ.1 0 - m1 by omega)) (by omega)
        exact L40 _ (-1) 0 (nI (o.toNatClampNeg + 1)) ((σ.1 0 - (o.toNatClampNeg + 1))) (by rw [htot, if_pos hw0]; exact Nat.zero_add _) (by omega) (by rw [show σ.1 0 - (σ.1 0 - (o.toNatClampNeg + 1)) = o.toNatClampNeg + 1 by omega]; try rfl) (Nat.lt_succ_self _)
    · refine g_iconst F (v := (-1)) dX0_view_17 (by decide) (np := 18) rfl ?_
      have hv : -1 = rView (mV σ L) (σ.1 6) (σ.1 0) o w := by unfold rView; first | (rw [pif_f (fun z => c5 z.1)]; done) | (rw [pif_f (fun z => c14 (bt1.mpr z.2))]; done)
      exact g_iret F hr rfl (Nat.le_of_ble_eq_true rfl) (Nat.le_of_ble_eq_true rfl) dX0_view_18 (fun h hs => by rw [← hT]; exact ⟨congrArg (fun z => some (Value.int z)) hv, hs⟩)

set_option maxRecDepth 100000 in
theorem ct_X0_standsSo {l : Launch} {D : va_G} {B : Nat} {Λ : LT} {I : AH} {L : LawT} (σ : MSt)  (o : Int32) (x : Int32) (k : Nat) (hok : mOK σ L) (hm14 : σ.1 2 ≤ 14) (hbO : byOK σ) (hk : k ≤ 40) : Ct l D ZE B yX0_standsSo cX0_standsSo 5 (some .boolean) 204 4692 0 0 [.ref (Λ.1 0 38), .int o, .int x, .int (nI k)] (XH D Λ I L σ) (RI (bI (sStands (mV σ L) (σ.1 6) o x k)) (XH D Λ I L σ)) := by
  refine Ct.of (nL := 5) (lv := [some (.ref (Λ.1 0 38)), some (.int o), some (.int x), some (.int (nI k)), none]) (by decide) (Nat.le_of_ble_eq_true rfl) stZE 1 rfl ?_
  generalize hT : RI (bI (sStands (mV σ L) (σ.1 6) o x k)) (XH D Λ I L σ) = T
  intro zp ze zs zm zb zt zc F hr hnm
  generalize ([.ref (Λ.1 0 38), .int o, .int x, .int (nI k)] : List Value).toArray = za at F ⊢
  have hok2 := hok
  obtain ⟨ho8, hm15, ht99, hby, hlaw⟩ := hok2
  refine g_iconst F (v := (nI 0)) dX0_standsSo_0 (by decide) (np := 1) rfl ?_
  refine g_istore F (lv' := [some (.ref (Λ.1 0 38)), some (.int o), some (.int x), some (.int (nI k)), some (.int (nI 0))]) dX0_standsSo_1 (by decide) rfl rfl (np := 3) rfl ?_
  have L3 : ∀ (zn : Nat) (j : Nat), (∀ i, i < j → ¬ sHigh (mV σ L) (day (σ.1 6) i) o < x) → (j ≤ k + 1) → k + 1 - j < zn → WG zp l ze ({ frames := 204, cells := 0, slots := 0, locals := 4692 } : Room) zs zm za zb zt zc D B 5 (MQ zb (QT D B T) za zs 0 0 (zA B)) (XH D Λ I L σ) 0 0 3 [some (.ref (Λ.1 0 38)), some (.int o), some (.int x), some (.int (nI k)), some (.int (nI j))] [] := by
    intro zn
    induction zn with
    | zero => intro j h1 h2 hm; exact absurd hm (Nat.not_lt_zero _)
    | succ zn ih3 =>
      intro j h1 h2 hm
      refine g_iload F dX0_standsSo_3 rfl (np := 5) rfl ?_
      refine g_iload_n F dX0_standsSo_5 rfl rfl (np := 6) rfl ?_
      refine g_icmp_gtN F (by omega) (by omega) dX0_standsSo_6 (tp := 32) (by decide) (np := 9) rfl (fun c6 => ?_) (fun c6 => ?_)
      · refine g_iconst F (v := (nI 1)) dX0_standsSo_32 (by decide) (np := 33) rfl ?_
        have hv : (nI (1) : Int32) = bI (sStands (mV σ L) (σ.1 6) o x k) := (show (1 : Int32) = _ from (bI_t (by rw [show j = k + 1 by omega] at h1; exact h1)).symm)
        exact g_iret F hr rfl (Nat.le_of_ble_eq_true rfl) (Nat.le_of_ble_eq_true rfl) dX0_standsSo_33 (fun h hs => by rw [← hT]; exact ⟨congrArg (fun z => some (Value.int z)) hv, hs⟩)
      · refine g_aload_n F dX0_standsSo_9 rfl rfl (np := 10) rfl ?_
        refine g_iload_n F dX0_standsSo_10 rfl rfl (np := 11) rfl ?_
        refine g_aload_n F dX0_standsSo_11 rfl rfl (np := 12) rfl ?_
        refine g_iload F dX0_standsSo_12 rfl (np := 14) rfl ?_
        refine g_runV F (C := RX0) (ci := 0) (T0 := TX0) (N := 38) (rest := [.int o, .ref (Λ.1 0 38)]) (ct_X0_dayBehind σ j (by first | assumption | omega) (by first | assumption | omega)) (lw_V q869 q871 qs25 q100 q872) hcV_X0_dayBehind ⟨Nat.le_of_ble_eq_true rfl, Nat.le_of_ble_eq_true rfl⟩ rfl (fun h hs => hs.obj) rfl rfl (Nat.le_of_ble_eq_true rfl) dX0_standsSo_14 ⟨Nat.le_of_ble_eq_true rfl, Nat.le_of_ble_eq_true rfl⟩ (np := 17) rfl (k_RI ?_)
        refine g_runV F (C := RX0) (ci := 0) (T0 := TX0) (N := 38) (rest := []) (ct_X0_highOf σ o (day (σ.1 6) j) (by first | assumption | omega) (by first | assumption | omega) (by first | assumption | omega)) (lw_V q877 q879 qs27 q100 q880) hcV_X0_highOf ⟨Nat.le_of_ble_eq_true rfl, Nat.le_of_ble_eq_true rfl⟩ rfl (fun h hs => hs.obj) rfl rfl (Nat.le_of_ble_eq_true rfl) dX0_standsSo_17 ⟨Nat.le_of_ble_eq_true rfl, Nat.le_of_ble_eq_true rfl⟩ (np := 20) rfl (k_RI ?_)
        refine g_iload_n F dX0_standsSo_20 rfl rfl (np := 21) rfl ?_
        refine g_icmp_ge F dX0_standsSo_21 (tp := 26) (by decide) (np := 24) rfl (fun c21 => ?_) (fun c21 => ?_)
        · refine g_iinc F (v := (nI (j + 1))) (lv' := [some (.ref (Λ.1 0 38)), some (.int o), some (.int x), some (.int (nI k)), some (.int (nI (j + 1)))]) dX0_standsSo_26 rfl (nI_add _ _) (by decide) rfl rfl (np := 29) rfl ?_
          refine g_goto F dX0_standsSo_29 (np := 3) (by decide) ?_
          exact ih3 (j + 1) (by exact (all_s (K := fun i => ¬ sHigh (mV σ L) (day (σ.1 6) i) o < x) (Int32.not_lt.mpr c21)).mp h1) (by first | assumption | omega) (by omega)
        · refine g_iconst F (v := (nI 0)) dX0_standsSo_24 (by decide) (np := 25) rfl ?_
          have hv : (nI (0) : Int32) = bI (sStands (mV σ L) (σ.1 6) o x k) := (show (0 : Int32) = _ from (bI_f (by exact fun z => z j (by omega) (Int32.not_le.mp c21))).symm)
          exact g_iret F hr rfl (Nat.le_of_ble_eq_true rfl) (Nat.le_of_ble_eq_true rfl) dX0_standsSo_25 (fun h hs => by rw [← hT]; exact ⟨congrArg (fun z => some (Value.int z)) hv, hs⟩)
  exact L3 _ 0 (by intro i hi; omega) (by omega) (Nat.lt_succ_self _)

set_option maxRecDepth 100000 in
theorem ct_X0_worthOf {l : Launch} {D : va_G} {B : Nat} {Λ : LT} {I : AH} {L : LawT} (σ : MSt)  (set : Int32) (hm14 : σ.1 2 ≤ 14) : Ct l D ZE B yX0_worthOf cX0_worthOf 4 (some .int) 1 21 0 0 [.ref (Λ.1 0 38), .int set] (XH D Λ I L σ) (RI (sWorth (mP σ) set (σ.1 2)) (XH D Λ I L σ)) := by
  refine Ct.of (nL := 4) (lv := [some (.ref (Λ.1 0 38)), some (.int set), none, none]) (by decide) (Nat.le_of_ble_eq_true rfl) stZE 2 rfl ?_
  generalize hT : RI (sWorth (mP σ) set (σ.1 2)) (XH D Λ I L σ) = T
  intro zp ze zs zm zb zt zc F hr hnm
  generalize ([.ref (Λ.1 0 38), .int set] : List Value).toArray = za at F ⊢
  refine g_iconst F (v := (nI 0)) dX0_worthOf_0 (by decide) (np := 1) rfl ?_
  refine g_istore_n F (lv' := [some (.ref (Λ.1 0 38)), some (.int set), some (.int (nI 0)), none]) dX0_worthOf_1 rfl (by decide) rfl rfl (np := 2) rfl ?_
  refine g_iconst F (v := (nI 0)) dX0_worthOf_2 (by decide) (np := 3) rfl ?_
  refine g_istore_n F (lv' := [some (.ref (Λ.1 0 38)), some (.int set), some (.int (nI 0)), some (.int (nI 0))]) dX0_worthOf_3 rfl (by decide) rfl rfl (np := 4) rfl ?_
  have L4 : ∀ (zn : Nat) (a : Int32) (p : Nat), (a = sWorth (mP σ) set p) → (p ≤ σ.1 2) → σ.1 2 - p < zn → WG zp l ze ({ frames := 1, cells := 0, slots := 0, locals := 21 } : Room) zs zm za zb zt zc D B 4 (MQ zb (QT D B T) za zs 0 0 (zA B)) (XH D Λ I L σ) 0 0 4 [some (.ref (Λ.1 0 38)), some (.int set), some (.int a), some (.int (nI p))] [] := by
    intro zn
    induction zn with
    | zero => intro a p h1 h2 hm; exact absurd hm (Nat.not_lt_zero _)
    | succ zn ih4 =>
      intro a p h1 h2 hm
      refine g_iload_n F dX0_worthOf_4 rfl rfl (np := 5) rfl ?_
      refine g_aload_n F dX0_worthOf_5 rfl rfl (np := 6) rfl ?_
      refine x_get F (k := 3) (v := .int (nI (σ.1 2))) (by decide) rfl (Or.inl q180) dX0_worthOf_6 (np := 9) rfl ?_
      refine g_icmp_geN F (by omega) (by omega) dX0_worthOf_9 (tp := 42) (by decide) (np := 12) rfl (fun c9 => ?_) (fun c9 => ?_)
      · refine g_iload_n F dX0_worthOf_42 rfl rfl (np := 43) rfl ?_
        have hv : a = sWorth (mP σ) set (σ.1 2) := by rw [h1, show p = σ.1 2 by omega]
        exact g_iret F hr rfl (Nat.le_of_ble_eq_true rfl) (Nat.le_of_ble_eq_true rfl) dX0_worthOf_43 (fun h hs => by rw [← hT]; exact ⟨congrArg (fun z => some (Value.int z)) hv, hs⟩)
      · refine g_iload_n F dX0_worthOf_12 rfl rfl (np := 13) rfl ?_
        refine g_iload_n F dX0_worthOf_13 rfl rfl (np := 14) rfl ?_
        refine g_iload_n F dX0_worthOf_14 rfl rfl (np := 15) rfl ?_
        refine g_runS F (rest := [.int a]) (ct_X0_has set p ) (lw_S q937 q938 q100 q939) hcS_X0_has ⟨Nat.le_of_ble_eq_true rfl, Nat.le_of_ble_eq_true rfl⟩ rfl rfl (Nat.le_of_ble_eq_true rfl) dX0_worthOf_15 ⟨Nat.le_of_ble_eq_true rfl, Nat.le_of_ble_eq_true rfl⟩ (np := 18) rfl (k_RI ?_)
        refine g_if_eqB F dX0_worthOf_18 (tp := 33) (by decide) (np := 21) rfl (fun c18 => ?_) (fun c18 => ?_)
        · refine g_iconst F (v := (nI 0)) dX0_worthOf_33 (by decide) (np := 34) rfl ?_
          refine g_iadd F dX0_worthOf_34 (np := 35) rfl ?_
          refine g_istore_n F (lv' := [some (.ref (Λ.1 0 38)), some (.int set), some (.int (a + (nI (0)))), some (.int (nI p))]) dX0_worthOf_35 rfl (by decide) rfl rfl (np := 36) rfl ?_
          refine g_iinc F (v := (nI (p + 1))) (lv' := [some (.ref (Λ.1 0 38)), some (.int set), some (.int (a + (nI (0)))), some (.int (nI (p + 1)))]) dX0_worthOf_36 rfl (nI_add _ _) (by decide) rfl rfl (np := 39) rfl ?_
          refine g_goto F dX0_worthOf_39 (np := 4) (by decide) ?_
          exact ih4 (a + (nI (0))) (p + 1) (by unfold sWorth; first | (rw [pif_f c18, h1, nI_0, Int32.add_zero]; done) | (rw [pif_t c18, h1, mP_2]; done)) (by first | assumption | omega) (by omega)
        · refine g_aload_n F dX0_worthOf_21 rfl rfl (np := 22) rfl ?_
          refine x_get F (k := 1) (v := .ref (Λ.1 0 1)) (by decide) rfl (Or.inl q178) dX0_worthOf_22 (np := 25) rfl ?_
          refine g_iload_n F dX0_worthOf_25 rfl rfl (np := 26) rfl ?_
          refine x_aldP F (i := p) rfl (show p < σ.1 2 by omega) (show σ.1 2 ≤ 14 by omega) dX0_worthOf_26 (np := 27) rfl ?_
          refine x_getP F (k := 2) (i := p) (v := .int (σ.2.1 3 p)) (by decide) (show p < σ.1 2 by omega) rfl (Or.inr ⟨_, ze337⟩) dX0_worthOf_27 (np := 30) rfl ?_
          refine g_goto F dX0_worthOf_30 (np := 34) (by decide) ?_
          refine g_iadd F dX0_worthOf_34 (np := 35) rfl ?_
          refine g_istore_n F (lv' := [some (.ref (Λ.1 0 38)), some (.int set), some (.int (a + (σ.2.1 3 p))), some (.int (nI p))]) dX0_worthOf_35 rfl (by decide) rfl rfl (np := 36) rfl ?_
          refine g_iinc F (v := (nI (p + 1))) (lv' := [some (.ref (Λ.1 0 38)), some (.int set), some (.int (a + (σ.2.1 3 p))), some (.int (nI (p + 1)))]) dX0_worthOf_36 rfl (nI_add _ _) (by decide) rfl rfl (np := 39) rfl ?_
          refine g_goto F dX0_worthOf_39 (np := 4) (by decide) ?_
          exact ih4 (a + (σ.2.1 3 p)) (p + 1) (by unfold sWorth; first | (rw [pif_f c18, h1, nI_0, Int32.add_zero]; done) | (rw [pif_t c18, h1, mP_2]; done)) (by first | assumption | omega) (by omega)
  exact L4 _ (nI (0)) 0 (by rfl) (by omega) (Nat.lt_succ_self _)

set_option maxRecDepth 100000 in
theorem ct_X0_mayDo {l : Launch} {D : va_G} {B : Nat} {Λ : LT} {I : AH} {L : LawT} (σ : MSt)  (o : Int32) (hm14 : σ.1 2 ≤ 14) : Ct l D ZE B yX0_mayDo cX0_mayDo 4 (some .int) 1 21 0 0 [.ref (Λ.1 0 38), .int o] (XH D Λ I L σ) (RI (sMay (mP σ) (σ.1 6) o (σ.1 2)) (XH D Λ I L σ)) := by
  refine Ct.of (nL := 4) (lv := [some (.ref (Λ.1 0 38)), some (.int o), none, none]) (by decide) (Nat.le_of_ble_eq_true rfl) stZE 2 rfl ?_
  generalize hT : RI (sMay (mP σ) (σ.1 6) o (σ.1 2)) (XH D Λ I L σ) = T
  intro zp ze zs zm zb zt zc F hr hnm
  generalize ([.ref (Λ.1 0 38), .int o] : List Value).toArray = za at F ⊢
  refine g_iconst F (v := (nI 0)) dX0_mayDo_0 (by decide) (np := 1) rfl ?_
  refine g_istore_n F (lv' := [some (.ref (Λ.1 0 38)), some (.int o), some (.int (nI 0)), none]) dX0_mayDo_1 rfl (by decide) rfl rfl (np := 2) rfl ?_
  refine g_iconst F (v := (nI 0)) dX0_mayDo_2 (by decide) (np := 3) rfl ?_
  refine g_istore_n F (lv' := [some (.ref (Λ.1 0 38)), some (.int o), some (.int (nI 0)), some (.int (nI 0))]) dX0_mayDo_3 rfl (by decide) rfl rfl (np := 4) rfl ?_
  have L4 : ∀ (zn : Nat) (a : Int32) (p : Nat), (a = sMay (mP σ) (σ.1 6) o p) → (p ≤ σ.1 2) → σ.1 2 - p < zn → WG zp l ze ({ frames := 1, cells := 0, slots := 0, locals := 21 } : Room) zs zm za zb zt zc D B 4 (MQ zb (QT D B T) za zs 0 0 (zA B)) (XH D Λ I L σ) 0 0 4 [some (.ref (Λ.1 0 38)), some (.int o), some (.int a), some (.int (nI p))] [] := by
    intro zn
    induction zn with
    | zero => intro a p h1 h2 hm; exact absurd hm (Nat.not_lt_zero _)
    | succ zn ih4 =>
      intro a p h1 h2 hm
      refine g_iload_n F dX0_mayDo_4 rfl rfl (np := 5) rfl ?_
      refine g_aload_n F dX0_mayDo_5 rfl rfl (np := 6) rfl ?_
      refine x_get F (k := 3) (v := .int (nI (σ.1 2))) (by decide) rfl (Or.inl q180) dX0_mayDo_6 (np := 9) rfl ?_
      refine g_icmp_geN F (by omega) (by omega) dX0_mayDo_9 (tp := 66) (by decide) (np := 12) rfl (fun c9 => ?_) (fun c9 => ?_)
      · refine g_iload_n F dX0_mayDo_66 rfl rfl (np := 67) rfl ?_
        have hv : a = sMay (mP σ) (σ.1 6) o (σ.1 2) := by rw [h1, show p = σ.1 2 by omega]
        exact g_iret F hr rfl (Nat.le_of_ble_eq_true rfl) (Nat.le_of_ble_eq_true rfl) dX0_mayDo_67 (fun h hs => by rw [← hT]; exact ⟨congrArg (fun z => some (Value.int z)) hv, hs⟩)
      · refine g_aload_n F dX0_mayDo_12 rfl rfl (np := 13) rfl ?_
        refine x_get F (k := 1) (v := .ref (Λ.1 0 1)) (by decide) rfl (Or.inl q178) dX0_mayDo_13 (np := 16) rfl ?_
        refine g_iload_n F dX0_mayDo_16 rfl rfl (np := 17) rfl ?_
        refine x_aldP F (i := p) rfl (show p < σ.1 2 by omega) (show σ.1 2 ≤ 14 by omega) dX0_mayDo_17 (np := 18) rfl ?_
        refine x_getP F (k := 0) (i := p) (v := .int (σ.2.1 4 p)) (by decide) (show p < σ.1 2 by omega) rfl (Or.inr ⟨_, ze333⟩) dX0_mayDo_18 (np := 21) rfl ?_
        refine g_iload_n F dX0_mayDo_21 rfl rfl (np := 22) rfl ?_
        refine g_icmp_ne F dX0_mayDo_22 (tp := 60) (by decide) (np := 25) rfl (fun c22 => ?_) (fun c22 => ?_)
        · refine g_iinc F (v := (nI (p + 1))) (lv' := [some (.ref (Λ.1 0 38)), some (.int o), some (.int a), some (.int (nI (p + 1)))]) dX0_mayDo_60 rfl (nI_add _ _) (by decide) rfl rfl (np := 63) rfl ?_
          refine g_goto F dX0_mayDo_63 (np := 4) (by decide) ?_
          exact ih4 a (p + 1) (by unfold sMay; first | (rw [pif_f (fun z => c22 z.1), h1]; done) | (rw [pif_f (fun z => c38 z.2.1), h1]; done) | (rw [pif_f (fun z => z.2.2 (by rw [mP_3]; exact c51)), h1]; done) | (rw [pif_t ⟨c22, c38, fun z => c51 (by rw [mP_3] at z; exact z)⟩, h1])) (by first | assumption | omega) (by omega)
        · refine g_aload_n F dX0_mayDo_25 rfl rfl (np := 26) rfl ?_
          refine x_get F (k := 1) (v := .ref (Λ.1 0 1)) (by decide) rfl (Or.inl q178) dX0_mayDo_26 (np := 29) rfl ?_
          refine g_iload_n F dX0_mayDo_29 rfl rfl (np := 30) rfl ?_
          refine x_aldP F (i := p) rfl (show p < σ.1 2 by omega) (show σ.1 2 ≤ 14 by omega) dX0_mayDo_30 (np := 31) rfl ?_
          refine g_aload_n F dX0_mayDo_31 rfl rfl (np := 32) rfl ?_
          refine x_get F (k := 4) (v := .int (nI (σ.1 6))) (by decide) rfl (Or.inl q181) dX0_mayDo_32 (np := 35) rfl ?_
          refine g_runV F (C := RX4) (ci := 4) (T0 := TX4) (N := 7) (rest := []) (ct_X4_isOpen σ p (σ.1 6) (by first | assumption | omega)) (lw_V q820 q821 q822 q104 q823) hcV_X4_isOpen ⟨Nat.le_of_ble_eq_true rfl, Nat.le_of_ble_eq_true rfl⟩ rfl (fun h hs => ⟨_, hs.prm (show p < σ.1 2 by omega)⟩) rfl rfl (Nat.le_of_ble_eq_true rfl) dX0_mayDo_35 ⟨Nat.le_of_ble_eq_true rfl, Nat.le_of_ble_eq_true rfl⟩ (np := 38) rfl (k_RI ?_)
          refine g_if_eqB F dX0_mayDo_38 (tp := 60) (by decide) (np := 41) rfl (fun c38 => ?_) (fun c38 => ?_)
          · refine g_iinc F (v := (nI (p + 1))) (lv' := [some (.ref (Λ.1 0 38)), some (.int o), some (.int a), some (.int (nI (p + 1)))]) dX0_mayDo_60 rfl (nI_add _ _) (by decide) rfl rfl (np := 63) rfl ?_
            refine g_goto F dX0_mayDo_63 (np := 4) (by decide) ?_
            exact ih4 a (p + 1) (by unfold sMay; first | (rw [pif_f (fun z => c22 z.1), h1]; done) | (rw [pif_f (fun z => c38 z.2.1), h1]; done) | (rw [pif_f (fun z => z.2.2 (by rw [mP_3]; exact c51)), h1]; done) | (rw [pif_t ⟨c22, c38, fun z => c51 (by rw [mP_3] at z; exact z)⟩, h1])) (by first | assumption | omega) (by omega)
          · refine g_aload_n F dX0_mayDo_41 rfl rfl (np := 42) rfl ?_
            refine x_get F (k := 1) (v := .ref (Λ.1 0 1)) (by decide) rfl (Or.inl q178) dX0_mayDo_42 (np := 45) rfl ?_
            refine g_iload_n F dX0_mayDo_45 rfl rfl (np := 46) rfl ?_
            refine x_aldP F (i := p) rfl (show p < σ.1 2 by omega) (show σ.1 2 ≤ 14 by omega) dX0_mayDo_46 (np := 47) rfl ?_
            refine x_getP F (k := 3) (i := p) (v := .int (σ.2.1 3 (15 + p))) (by decide) (show p < σ.1 2 by omega) rfl (Or.inr ⟨_, ze339⟩) dX0_mayDo_47 (np := 50) rfl ?_
            refine g_iconst F (v := (nI 2)) dX0_mayDo_50 (by decide) (np := 51) rfl ?_
            refine g_icmp_eq F dX0_mayDo_51 (tp := 60) (by decide) (np := 54) rfl (fun c51 => ?_) (fun c51 => ?_)
            · refine g_iinc F (v := (nI (p + 1))) (lv' := [some (.ref (Λ.1 0 38)), some (.int o), some (.int a), some (.int (nI (p + 1)))]) dX0_mayDo_60 rfl (nI_add _ _) (by decide) rfl rfl (np := 63) rfl ?_
              refine g_goto F dX0_mayDo_63 (np := 4) (by decide) ?_
              exact ih4 a (p + 1) (by unfold sMay; first | (rw [pif_f (fun z => c22 z.1), h1]; done) | (rw [pif_f (fun z => c38 z.2.1), h1]; done) | (rw [pif_f (fun z => z.2.2 (by rw [mP_3]; exact c51)), h1]; done) | (rw [pif_t ⟨c22, c38, fun z => c51 (by rw [mP_3] at z; exact z)⟩, h1])) (by first | assumption | omega) (by omega)
            · refine g_iload_n F dX0_mayDo_54 rfl rfl (np := 55) rfl ?_
              refine g_iconst F (v := (nI 1)) dX0_mayDo_55 (by decide) (np := 56) rfl ?_
              refine g_iload_n F dX0_mayDo_56 rfl rfl (np := 57) rfl ?_
              refine g_ishl F dX0_mayDo_57 (np := 58) rfl ?_
              refine g_ior F dX0_mayDo_58 (np := 59) rfl ?_
              refine g_istore_n F (lv' := [some (.ref (Λ.1 0 38)), some (.int o), some (.int (a ||| ((nI (1)) <<< ((nI (p)) &&& 31)))), some (.int (nI p))]) dX0_mayDo_59 rfl (by decide) rfl rfl (np := 60) rfl ?_
              refine g_iinc F (v := (nI (p + 1))) (lv' := [some (.ref (Λ.1 0 38)), some (.int o), some (.int (a ||| ((nI (1)) <<< ((nI (p)) &&& 31)))), some (.int (nI (p + 1)))]) dX0_mayDo_60 rfl (nI_add _ _) (by decide) rfl rfl (np := 63) rfl ?_
              refine g_goto F dX0_mayDo_63 (np := 4) (by decide) ?_
              exact ih4 (a ||| ((nI (1)) <<< ((nI (p)) &&& 31))) (p + 1) (by unfold sMay; first | (rw [pif_f (fun z => c22 z.1), h1]; done) | (rw [pif_f (fun z => c38 z.2.1), h1]; done) | (rw [pif_f (fun z => z.2.2 (by rw [mP_3]; exact c51)), h1]; done) | (rw [pif_t ⟨c22, c38, fun z => c51 (by rw [mP_3] at z; exact z)⟩, h1])) (by first | assumption | omega) (by omega)
  exact L4 _ (nI (0)) 0 (by rfl) (by omega) (Nat.lt_succ_self _)

set_option maxRecDepth 100000 in
theorem ct_X0_lowers {l : Launch} {D : va_G} {B : Nat} {Λ : LT} {I : AH} {L : LawT} (σ : MSt)  (set : Int32) (o : Int32) (x : Int32) (hok : mOK σ L) (hm14 : σ.1 2 ≤ 14) (hbO : byOK σ) (hz : ∀ p, p < σ.1 2 → jbit set p → mP σ p 6 = 0) : Ct l D ZE B yX0_lowers cX0_lowers 6 (some .boolean) 204 4692 0 0 [.ref (Λ.1 0 38), .int set, .int o, .int x] (XH D Λ I L σ) (RI (bI (sHighW (mV σ L) (σ.1 6) set o ≤ x)) (XH D Λ I L σ)) := by
  refine Ct.of (nL := 6) (lv := [some (.ref (Λ.1 0 38)), some (.int set), some (.int o), some (.int x), none, none]) (by decide) (Nat.le_of_ble_eq_true rfl) stZE 2 rfl ?_
  generalize hT : RI (bI (sHighW (mV σ L) (σ.1 6) set o ≤ x)) (XH D Λ I L σ) = T
  intro zp ze zs zm zb zt zc F hr hnm
  generalize ([.ref (Λ.1 0 38), .int set, .int o, .int x] : List Value).toArray = za at F ⊢
  have hok2 := hok
  obtain ⟨ho8, hm15, ht99, hby, hlaw⟩ := hok2
  refine WG.weak (S' := XH D Λ I L (dnS σ set 0 0)) (fun h hs => by rw [show (dnS σ set 0 0) = σ from by exact dnS_0 _ _ (Nat.le_refl _)]; exact hs) ?_
  refine g_iconst F (v := (nI 0)) dX0_lowers_0 (by decide) (np := 1) rfl ?_
  refine g_istore F (lv' := [some (.ref (Λ.1 0 38)), some (.int set), some (.int o), some (.int x), some (.int (nI 0)), none]) dX0_lowers_1 (by decide) rfl rfl (np := 3) rfl ?_
  have L3 : ∀ (zn : Nat) (p : Nat), (p ≤ σ.1 2) → σ.1 2 - p < zn → WG zp l ze ({ frames := 204, cells := 0, slots := 0, locals := 4692 } : Room) zs zm za zb zt zc D B 6 (MQ zb (QT D B T) za zs 0 0 (zA B)) (XH D Λ I L (dnS σ set 0 p)) 0 0 3 [some (.ref (Λ.1 0 38)), some (.int set), some (.int o), some (.int x), some (.int (nI p)), none] [] := by
    intro zn
    induction zn with
    | zero => intro p h2 hm; exact absurd hm (Nat.not_lt_zero _)
    | succ zn ih3 =>
      intro p h2 hm
      refine g_iload F dX0_lowers_3 rfl (np := 5) rfl ?_
      refine g_aload_n F dX0_lowers_5 rfl rfl (np := 6) rfl ?_
      refine x_get F (k := 3) (v := .int (nI (σ.1 2))) (by decide) rfl (Or.inl q180) dX0_lowers_6 (np := 9) rfl ?_
      refine g_icmp_geN F (by omega) (by omega) dX0_lowers_9 (tp := 38) (by decide) (np := 12) rfl (fun c9 => ?_) (fun c9 => ?_)
      · have hpe : p = σ.1 2 := by omega
        refine WG.weak (S' := XH D Λ I L (dnS σ set 0 (σ.1 2))) (fun h hs => by rw [show (dnS σ set 0 (σ.1 2)) = (dnS σ set 0 p) from by rw [hpe]]; exact hs) ?_
        refine g_aload_n F dX0_lowers_38 rfl rfl (np := 39) rfl ?_
        refine g_iload_n F dX0_lowers_39 rfl rfl (np := 40) rfl ?_
        refine g_aload_n F dX0_lowers_40 rfl rfl (np := 41) rfl ?_
        refine x_get F (k := 4) (v := .int (nI (σ.1 6))) (by decide) rfl (Or.inl q181) dX0_lowers_41 (np := 44) rfl ?_
        refine g_runV F (C := RX0) (ci := 0) (T0 := TX0) (N := 38) (rest := []) (ct_X0_highOf (dnS σ set 0 (σ.1 2)) o (σ.1 6) (by exact hok.same rfl (fun k hk => dnS_ne _ _ _ _ hk)) (by exact hm14) (by exact hbO.same rfl rfl (dnS_ne _ _ _ _ (by decide)))) (lw_V q877 q879 qs27 q100 q880) hcV_X0_highOf ⟨Nat.le_of_ble_eq_true rfl, Nat.le_of_ble_eq_true rfl⟩ rfl (fun h hs => hs.obj) rfl rfl (Nat.le_of_ble_eq_true rfl) dX0_lowers_44 ⟨Nat.le_of_ble_eq_true rfl, Nat.le_of_ble_eq_true rfl⟩ (np := 47) rfl (k_RI ?_)
        have J58 : ∀ (is : Int32), (is = bI (sHighW (mV σ L) (σ.1 6) set o ≤ x)) → WG zp l ze ({ frames := 204, cells := 0, slots := 0, locals := 4692 } : Room) zs zm za zb zt zc D B 6 (MQ zb (QT D B T) za zs 0 0 (zA B)) (XH D Λ I L ((dnS σ set 0 (σ.1 2)))) 0 0 58 [some (.ref (Λ.1 0 38)), some (.int set), some (.int o), some (.int x), some (.int is), none] [] := by
          intro is k1
          refine g_iconst F (v := (nI 0)) dX0_lowers_58 (by decide) (np := 59) rfl ?_
          refine g_istore F (lv' := [some (.ref (Λ.1 0 38)), some (.int set), some (.int o), some (.int x), some (.int is), some (.int (nI 0))]) dX0_lowers_59 (by decide) rfl rfl (np := 61) rfl ?_
          have L61 : ∀ (zn : Nat) (q : Nat), (q ≤ σ.1 2) → σ.1 2 - q < zn → WG zp l ze ({ frames := 204, cells := 0, slots := 0, locals := 4692 } : Room) zs zm za zb zt zc D B 6 (MQ zb (QT D B T) za zs 0 0 (zA B)) (XH D Λ I L (dnS σ set q (σ.1 2))) 0 0 61 [some (.ref (Λ.1 0 38)), some (.int set), some (.int o), some (.int x), some (.int is), some (.int (nI q))] [] := by
            intro zn
            induction zn with
            | zero => intro q g2 hm; exact absurd hm (Nat.not_lt_zero _)
            | succ zn ih61 =>
              intro q g2 hm
              refine g_iload F dX0_lowers_61 rfl (np := 63) rfl ?_
              refine g_aload_n F dX0_lowers_63 rfl rfl (np := 64) rfl ?_
              refine x_get F (k := 3) (v := .int (nI (σ.1 2))) (by decide) rfl (Or.inl q180) dX0_lowers_64 (np := 67) rfl ?_
              refine g_icmp_geN F (by omega) (by omega) dX0_lowers_67 (tp := 96) (by decide) (np := 70) rfl (fun c67 => ?_) (fun c67 => ?_)
              · have hqe : q = σ.1 2 := by omega
                refine WG.weak (S' := XH D Λ I L σ) (fun h hs => by rw [show σ = (dnS σ set q (σ.1 2)) from by rw [hqe]; exact (dnS_0 _ _ (Nat.le_refl _)).symm]; exact hs) ?_
                refine g_iload F dX0_lowers_96 rfl (np := 98) rfl ?_
                have hv : is = bI (sHighW (mV σ L) (σ.1 6) set o ≤ x) := by exact k1
                exact g_iret F hr (by rw [hv]; exact bI_nar) (Nat.le_of_ble_eq_true rfl) (Nat.le_of_ble_eq_true rfl) dX0_lowers_98 (fun h hs => by rw [← hT]; exact ⟨congrArg (fun z => some (Value.int z)) hv, hs⟩)
              · refine g_iload_n F dX0_lowers_70 rfl rfl (np := 71) rfl ?_
                refine g_iload F dX0_lowers_71 rfl (np := 73) rfl ?_
                refine g_runS F (rest := []) (ct_X0_has set q ) (lw_S q937 q938 q100 q939) hcS_X0_has ⟨Nat.le_of_ble_eq_true rfl, Nat.le_of_ble_eq_true rfl⟩ rfl rfl (Nat.le_of_ble_eq_true rfl) dX0_lowers_73 ⟨Nat.le_of_ble_eq_true rfl, Nat.le_of_ble_eq_true rfl⟩ (np := 76) rfl (k_RI ?_)
                refine g_if_eqB F dX0_lowers_76 (tp := 90) (by decide) (np := 79) rfl (fun c76 => ?_) (fun c76 => ?_)
                · refine g_iinc F (v := (nI (q + 1))) (lv' := [some (.ref (Λ.1 0 38)), some (.int set), some (.int o), some (.int x), some (.int is), some (.int (nI (q + 1)))]) dX0_lowers_90 rfl (nI_add _ _) (by decide) rfl rfl (np := 93) rfl ?_
                  refine g_goto F dX0_lowers_93 (np := 61) (by decide) ?_
                  refine WG.weak (S' := XH D Λ I L (dnS σ set (q + 1) (σ.1 2))) (fun h hs => by first | (have z6 := hz q (by omega) ‹jbit set q›; rw [mP_6] at z6; rw [← dnS_back σ set z6]; exact hs) | (rw [← dnS_skip2 σ set ‹¬ jbit set q›]; exact hs)) ?_
                  exact ih61 (q + 1) (by first | assumption | omega) (by omega)
                · refine g_aload_n F dX0_lowers_79 rfl rfl (np := 80) rfl ?_
                  refine x_get F (k := 1) (v := .ref (Λ.1 0 1)) (by decide) rfl (Or.inl q178) dX0_lowers_80 (np := 83) rfl ?_
                  refine g_iload F dX0_lowers_83 rfl (np := 85) rfl ?_
                  refine x_aldP F (i := q) rfl (show q < σ.1 2 by omega) (show σ.1 2 ≤ 14 by omega) dX0_lowers_85 (np := 86) rfl ?_
                  refine g_iconst F (v := (nI 0)) dX0_lowers_86 (by decide) (np := 87) rfl ?_
                  refine x_putP F (j := 6) (q := q) (by decide) (by decide) (show σ.1 2 ≤ 15 by omega) (show q < σ.1 2 by omega) (Or.inr ⟨_, ze345⟩) rfl rfl dX0_lowers_87 (np := 90) rfl ?_
                  refine g_iinc F (v := (nI (q + 1))) (lv' := [some (.ref (Λ.1 0 38)), some (.int set), some (.int o), some (.int x), some (.int is), some (.int (nI (q + 1)))]) dX0_lowers_90 rfl (nI_add _ _) (by decide) rfl rfl (np := 93) rfl ?_
                  refine g_goto F dX0_lowers_93 (np := 61) (by decide) ?_
                  refine WG.weak (S' := XH D Λ I L (dnS σ set (q + 1) (σ.1 2))) (fun h hs => by first | (have z6 := hz q (by omega) ‹jbit set q›; rw [mP_6] at z6; rw [← dnS_back σ set z6]; exact hs) | (rw [← dnS_skip2 σ set ‹¬ jbit set q›]; exact hs)) ?_
                  exact ih61 (q + 1) (by first | assumption | omega) (by omega)
          exact L61 _ 0 (by omega) (Nat.lt_succ_self _)
        obtain ⟨hv0, hhv⟩ : ∃ z, z = sHigh (mV (dnS σ set 0 (σ.1 2)) L) (σ.1 6) o := ⟨_, rfl⟩
        refine WG.eqv (st' := [.int hv0]) (congrArg (fun z => ([.int z] : List Value)) (show (sHigh (mV (dnS σ set 0 (σ.1 2)) L) (σ.1 6) o) = hv0 from by exact hhv.symm)) rfl ?_
        refine g_iload_n F dX0_lowers_47 rfl rfl (np := 48) rfl ?_
        refine g_icmp_gt F dX0_lowers_48 (tp := 55) (by decide) (np := 51) rfl (fun c48 => ?_) (fun c48 => ?_)
        · refine g_iconst F (v := (nI 0)) dX0_lowers_55 (by decide) (np := 56) rfl ?_
          refine g_istore F (lv' := [some (.ref (Λ.1 0 38)), some (.int set), some (.int o), some (.int x), some (.int (nI 0)), none]) dX0_lowers_56 (by decide) rfl rfl (np := 58) rfl ?_
          exact J58 (nI (0)) (by rw [sHighW_dn (L := L) (by omega) set (σ.1 6) o] at hhv; first | (refine (bI_t ?_).symm; rw [← hhv]; exact Int32.not_lt.mp c48) | (refine (bI_f ?_).symm; rw [← hhv]; exact Int32.not_le.mpr c48))
        · refine g_iconst F (v := (nI 1)) dX0_lowers_51 (by decide) (np := 52) rfl ?_
          refine g_goto F dX0_lowers_52 (np := 56) (by decide) ?_
          refine g_istore F (lv' := [some (.ref (Λ.1 0 38)), some (.int set), some (.int o), some (.int x), some (.int (nI 1)), none]) dX0_lowers_56 (by decide) rfl rfl (np := 58) rfl ?_
          exact J58 (nI (1)) (by rw [sHighW_dn (L := L) (by omega) set (σ.1 6) o] at hhv; first | (refine (bI_t ?_).symm; rw [← hhv]; exact Int32.not_lt.mp c48) | (refine (bI_f ?_).symm; rw [← hhv]; exact Int32.not_le.mpr c48))
      · refine g_iload_n F dX0_lowers_12 rfl rfl (np := 13) rfl ?_
        refine g_iload F dX0_lowers_13 rfl (np := 15) rfl ?_
        refine g_runS F (rest := []) (ct_X0_has set p ) (lw_S q937 q938 q100 q939) hcS_X0_has ⟨Nat.le_of_ble_eq_true rfl, Nat.le_of_ble_eq_true rfl⟩ rfl rfl (Nat.le_of_ble_eq_true rfl) dX0_lowers_15 ⟨Nat.le_of_ble_eq_true rfl, Nat.le_of_ble_eq_true rfl⟩ (np := 18) rfl (k_RI ?_)
        refine g_if_eqB F dX0_lowers_18 (tp := 32) (by decide) (np := 21) rfl (fun c18 => ?_) (fun c18 => ?_)
        · refine g_iinc F (v := (nI (p + 1))) (lv' := [some (.ref (Λ.1 0 38)), some (.int set), some (.int o), some (.int x), some (.int (nI (p + 1))), none]) dX0_lowers_32 rfl (nI_add _ _) (by decide) rfl rfl (np := 35) rfl ?_
          refine g_goto F dX0_lowers_35 (np := 3) (by decide) ?_
          refine WG.weak (S' := XH D Λ I L (dnS σ set 0 (p + 1))) (fun h hs => by first | (rw [← dnS_add σ set ‹jbit set p›]; exact hs) | (rw [← dnS_skip σ set ‹¬ jbit set p›]; exact hs)) ?_
          exact ih3 (p + 1) (by first | assumption | omega) (by omega)
        · refine g_aload_n F dX0_lowers_21 rfl rfl (np := 22) rfl ?_
          refine x_get F (k := 1) (v := .ref (Λ.1 0 1)) (by decide) rfl (Or.inl q178) dX0_lowers_22 (np := 25) rfl ?_
          refine g_iload F dX0_lowers_25 rfl (np := 27) rfl ?_
          refine x_aldP F (i := p) rfl (show p < σ.1 2 by omega) (show σ.1 2 ≤ 14 by omega) dX0_lowers_27 (np := 28) rfl ?_
          refine g_iconst F (v := (nI 1)) dX0_lowers_28 (by decide) (np := 29) rfl ?_
          refine x_putP F (j := 6) (q := p) (by decide) (by decide) (show σ.1 2 ≤ 15 by omega) (show p < σ.1 2 by omega) (Or.inr ⟨_, ze345⟩) rfl rfl dX0_lowers_29 (np := 32) rfl ?_
          refine g_iinc F (v := (nI (p + 1))) (lv' := [some (.ref (Λ.1 0 38)), some (.int set), some (.int o), some (.int x), some (.int (nI (p + 1))), none]) dX0_lowers_32 rfl (nI_add _ _) (by decide) rfl rfl (np := 35) rfl ?_
          refine g_goto F dX0_lowers_35 (np := 3) (by decide) ?_
          refine WG.weak (S' := XH D Λ I L (dnS σ set 0 (p + 1))) (fun h hs => by first | (rw [← dnS_add σ set ‹jbit set p›]; exact hs) | (rw [← dnS_skip σ set ‹¬ jbit set p›]; exact hs)) ?_
          exact ih3 (p + 1) (by first | assumption | omega) (by omega)
  exact L3 _ 0 (by omega) (Nat.lt_succ_self _)

set_option maxRecDepth 100000 in
theorem ct_X0_isBetter {l : Launch} {D : va_G} {B : Nat} {Λ : LT} {I : AH} {L : LawT} (σ : MSt)  (set : Int32) (f : Int32) (hm14 : σ.1 2 ≤ 14) : Ct l D ZE B yX0_isBetter cX0_isBetter 4 (some .boolean) 2 44 0 0 [.ref (Λ.1 0 38), .int set, .int f] (XH D Λ I L σ) (RI (bI (betterP (fun z => sWorth (mP σ) z (σ.1 2)) set f)) (XH D Λ I L σ)) := by
  refine Ct.of (nL := 4) (lv := [some (.ref (Λ.1 0 38)), some (.int set), some (.int f), none]) (by decide) (Nat.le_of_ble_eq_true rfl) stZE 1 rfl ?_
  generalize hT : RI (bI (betterP (fun z => sWorth (mP σ) z (σ.1 2)) set f)) (XH D Λ I L σ) = T
  intro zp ze zs zm zb zt zc F hr hnm
  generalize ([.ref (Λ.1 0 38), .int set, .int f] : List Value).toArray = za at F ⊢
  refine g_iload_n F dX0_isBetter_0 rfl rfl (np := 1) rfl ?_
  refine g_if_ge F dX0_isBetter_1 (tp := 6) (by decide) (np := 4) rfl (fun c1 => ?_) (fun c1 => ?_)
  · refine g_iload_n F dX0_isBetter_6 rfl rfl (np := 7) rfl ?_
    refine g_runS F (rest := []) (ct_J13_bitCount stZE set ) (lw_S q944 q945 q127 q946) hcS_J13_bitCount ⟨Nat.le_of_ble_eq_true rfl, Nat.le_of_ble_eq_true rfl⟩ rfl rfl (Nat.le_of_ble_eq_true rfl) dX0_isBetter_7 ⟨Nat.le_of_ble_eq_true rfl, Nat.le_of_ble_eq_true rfl⟩ (np := 10) rfl (k_RI ?_)
    refine g_iload_n F dX0_isBetter_10 rfl rfl (np := 11) rfl ?_
    refine g_runS F (rest := [.int (jbc set)]) (ct_J13_bitCount stZE f ) (lw_S q944 q945 q127 q946) hcS_J13_bitCount ⟨Nat.le_of_ble_eq_true rfl, Nat.le_of_ble_eq_true rfl⟩ rfl rfl (Nat.le_of_ble_eq_true rfl) dX0_isBetter_11 ⟨Nat.le_of_ble_eq_true rfl, Nat.le_of_ble_eq_true rfl⟩ (np := 14) rfl (k_RI ?_)
    refine g_isub F dX0_isBetter_14 (np := 15) rfl ?_
    refine g_istore_n F (lv' := [some (.ref (Λ.1 0 38)), some (.int set), some (.int f), some (.int ((jbc set) - (jbc f)))]) dX0_isBetter_15 rfl (by decide) rfl rfl (np := 16) rfl ?_
    refine g_iload_n F dX0_isBetter_16 rfl rfl (np := 17) rfl ?_
    refine g_if_lt F dX0_isBetter_17 (tp := 37) (by decide) (np := 20) rfl (fun c17 => ?_) (fun c17 => ?_)
    · refine g_iconst F (v := (nI 1)) dX0_isBetter_37 (by decide) (np := 38) rfl ?_
      refine g_goto F dX0_isBetter_38 (np := 42) (by decide) ?_
      have hv : (nI (1) : Int32) = bI (betterP (fun z => sWorth (mP σ) z (σ.1 2)) set f) := (show (1 : Int32) = _ from (bI_t (by first | exact Or.inl (Int32.not_le.mp c1) | exact Or.inr (Or.inl c17) | exact Or.inr (Or.inr ⟨c21, Int32.not_le.mp c34⟩) | (intro z; rcases z with z | z | z <;> first | exact absurd z (Int32.not_lt.mpr c1) | exact c17 z | exact c21 z.1 | exact Int32.not_lt.mpr c34 z.2))).symm)
      exact g_iret F hr rfl (Nat.le_of_ble_eq_true rfl) (Nat.le_of_ble_eq_true rfl) dX0_isBetter_42 (fun h hs => by rw [← hT]; exact ⟨congrArg (fun z => some (Value.int z)) hv, hs⟩)
    · refine g_iload_n F dX0_isBetter_20 rfl rfl (np := 21) rfl ?_
      refine g_if_ne F dX0_isBetter_21 (tp := 41) (by decide) (np := 24) rfl (fun c21 => ?_) (fun c21 => ?_)
      · refine g_iconst F (v := (nI 0)) dX0_isBetter_41 (by decide) (np := 42) rfl ?_
        have hv : (nI (0) : Int32) = bI (betterP (fun z => sWorth (mP σ) z (σ.1 2)) set f) := (show (0 : Int32) = _ from (bI_f (by first | exact Or.inl (Int32.not_le.mp c1) | exact Or.inr (Or.inl c17) | exact Or.inr (Or.inr ⟨c21, Int32.not_le.mp c34⟩) | (intro z; rcases z with z | z | z <;> first | exact absurd z (Int32.not_lt.mpr c1) | exact c17 z | exact c21 z.1 | exact Int32.not_lt.mpr c34 z.2))).symm)
        exact g_iret F hr rfl (Nat.le_of_ble_eq_true rfl) (Nat.le_of_ble_eq_true rfl) dX0_isBetter_42 (fun h hs => by rw [← hT]; exact ⟨congrArg (fun z => some (Value.int z)) hv, hs⟩)
      · refine g_aload_n F dX0_isBetter_24 rfl rfl (np := 25) rfl ?_
        refine g_iload_n F dX0_isBetter_25 rfl rfl (np := 26) rfl ?_
        refine g_runV F (C := RX0) (ci := 0) (T0 := TX0) (N := 38) (rest := []) (ct_X0_worthOf σ set (by first | assumption | omega)) (lw_V q950 q952 qs36 q100 q953) hcV_X0_worthOf ⟨Nat.le_of_ble_eq_true rfl, Nat.le_of_ble_eq_true rfl⟩ rfl (fun h hs => hs.obj) rfl rfl (Nat.le_of_ble_eq_true rfl) dX0_isBetter_26 ⟨Nat.le_of_ble_eq_true rfl, Nat.le_of_ble_eq_true rfl⟩ (np := 29) rfl (k_RI ?_)
        refine g_aload_n F dX0_isBetter_29 rfl rfl (np := 30) rfl ?_
        refine g_iload_n F dX0_isBetter_30 rfl rfl (np := 31) rfl ?_
        refine g_runV F (C := RX0) (ci := 0) (T0 := TX0) (N := 38) (rest := [.int (sWorth (mP σ) set (σ.1 2))]) (ct_X0_worthOf σ f (by first | assumption | omega)) (lw_V q950 q952 qs36 q100 q953) hcV_X0_worthOf ⟨Nat.le_of_ble_eq_true rfl, Nat.le_of_ble_eq_true rfl⟩ rfl (fun h hs => hs.obj) rfl rfl (Nat.le_of_ble_eq_true rfl) dX0_isBetter_31 ⟨Nat.le_of_ble_eq_true rfl, Nat.le_of_ble_eq_true rfl⟩ (np := 34) rfl (k_RI ?_)
        refine g_icmp_ge F dX0_isBetter_34 (tp := 41) (by decide) (np := 37) rfl (fun c34 => ?_) (fun c34 => ?_)
        · refine g_iconst F (v := (nI 0)) dX0_isBetter_41 (by decide) (np := 42) rfl ?_
          have hv : (nI (0) : Int32) = bI (betterP (fun z => sWorth (mP σ) z (σ.1 2)) set f) := (show (0 : Int32) = _ from (bI_f (by first | exact Or.inl (Int32.not_le.mp c1) | exact Or.inr (Or.inl c17) | exact Or.inr (Or.inr ⟨c21, Int32.not_le.mp c34⟩) | (intro z; rcases z with z | z | z <;> first | exact absurd z (Int32.not_lt.mpr c1) | exact c17 z | exact c21 z.1 | exact Int32.not_lt.mpr c34 z.2))).symm)
          exact g_iret F hr rfl (Nat.le_of_ble_eq_true rfl) (Nat.le_of_ble_eq_true rfl) dX0_isBetter_42 (fun h hs => by rw [← hT]; exact ⟨congrArg (fun z => some (Value.int z)) hv, hs⟩)
        · refine g_iconst F (v := (nI 1)) dX0_isBetter_37 (by decide) (np := 38) rfl ?_
          refine g_goto F dX0_isBetter_38 (np := 42) (by decide) ?_
          have hv : (nI (1) : Int32) = bI (betterP (fun z => sWorth (mP σ) z (σ.1 2)) set f) := (show (1 : Int32) = _ from (bI_t (by first | exact Or.inl (Int32.not_le.mp c1) | exact Or.inr (Or.inl c17) | exact Or.inr (Or.inr ⟨c21, Int32.not_le.mp c34⟩) | (intro z; rcases z with z | z | z <;> first | exact absurd z (Int32.not_lt.mpr c1) | exact c17 z | exact c21 z.1 | exact Int32.not_lt.mpr c34 z.2))).symm)
          exact g_iret F hr rfl (Nat.le_of_ble_eq_true rfl) (Nat.le_of_ble_eq_true rfl) dX0_isBetter_42 (fun h hs => by rw [← hT]; exact ⟨congrArg (fun z => some (Value.int z)) hv, hs⟩)
  · refine g_iconst F (v := (nI 1)) dX0_isBetter_4 (by decide) (np := 5) rfl ?_
    have hv : (nI (1) : Int32) = bI (betterP (fun z => sWorth (mP σ) z (σ.1 2)) set f) := (show (1 : Int32) = _ from (bI_t (by first | exact Or.inl (Int32.not_le.mp c1) | exact Or.inr (Or.inl c17) | exact Or.inr (Or.inr ⟨c21, Int32.not_le.mp c34⟩) | (intro z; rcases z with z | z | z <;> first | exact absurd z (Int32.not_lt.mpr c1) | exact c17 z | exact c21 z.1 | exact Int32.not_lt.mpr c34 z.2))).symm)
    exact g_iret F hr rfl (Nat.le_of_ble_eq_true rfl) (Nat.le_of_ble_eq_true rfl) dX0_isBetter_5 (fun h hs => by rw [← hT]; exact ⟨congrArg (fun z => some (Value.int z)) hv, hs⟩)

set_option maxRecDepth 100000 in
theorem ct_X0_bestLower {l : Launch} {D : va_G} {B : Nat} {Λ : LT} {I : AH} {L : LawT} (σ : MSt)  (o : Int32) (x : Int32) (hok : mOK σ L) (hm14 : σ.1 2 ≤ 14) (hbO : byOK σ) (hwt : wtOK σ) : Ct l D ZE B yX0_bestLower cX0_bestLower 6 (some .int) 205 4717 0 0 [.ref (Λ.1 0 38), .int o, .int x] (XH D Λ I L σ) (RI ((lowR (mV σ L) (σ.1 6) o x).1) (XH D Λ I L (sA σ 50 0 (lowR (mV σ L) (σ.1 6) o x).2))) := by
  refine Ct.of (nL := 6) (lv := [some (.ref (Λ.1 0 38)), some (.int o), some (.int x), none, none, none]) (by decide) (Nat.le_of_ble_eq_true rfl) stZE 3 rfl ?_
  generalize hT : RI ((lowR (mV σ L) (σ.1 6) o x).1) (XH D Λ I L (sA σ 50 0 (lowR (mV σ L) (σ.1 6) o x).2)) = T
  intro zp ze zs zm zb zt zc F hr hnm
  generalize ([.ref (Λ.1 0 38), .int o, .int x] : List Value).toArray = za at F ⊢
  have hok2 := hok
  obtain ⟨ho8, hm15, ht99, hby, hlaw⟩ := hok2
  have hWn : ∀ z, ∃ k, k < 2 ^ 30 ∧ sWorth (mP σ) z (σ.1 2) = nI k := fun z => by obtain ⟨k, hk, e⟩ := sWorth_in hwt z (σ.1 2) (Nat.le_refl _); exact ⟨k, by omega, e⟩
  refine g_aload_n F dX0_bestLower_0 rfl rfl (np := 1) rfl ?_
  refine g_iload_n F dX0_bestLower_1 rfl rfl (np := 2) rfl ?_
  refine g_runV F (C := RX0) (ci := 0) (T0 := TX0) (N := 38) (rest := []) (ct_X0_mayDo σ o (by first | assumption | omega)) (lw_V q929 q931 qs33 q100 q932) hcV_X0_mayDo ⟨Nat.le_of_ble_eq_true rfl, Nat.le_of_ble_eq_true rfl⟩ rfl (fun h hs => hs.obj) rfl rfl (Nat.le_of_ble_eq_true rfl) dX0_bestLower_2 ⟨Nat.le_of_ble_eq_true rfl, Nat.le_of_ble_eq_true rfl⟩ (np := 5) rfl (k_RI ?_)
  refine g_istore_n F (lv' := [some (.ref (Λ.1 0 38)), some (.int o), some (.int x), some (.int (sMay (mP σ) (σ.1 6) o (σ.1 2))), none, none]) dX0_bestLower_5 rfl (by decide) rfl rfl (np := 6) rfl ?_
  refine g_bipush F (v := (-2)) dX0_bestLower_6 (by decide) (np := 8) rfl ?_
  refine g_istore F (lv' := [some (.ref (Λ.1 0 38)), some (.int o), some (.int x), some (.int (sMay (mP σ) (σ.1 6) o (σ.1 2))), some (.int (-2)), none]) dX0_bestLower_8 (by decide) rfl rfl (np := 10) rfl ?_
  refine g_aload_n F dX0_bestLower_10 rfl rfl (np := 11) rfl ?_
  refine g_bipush F (v := (-2)) dX0_bestLower_11 (by decide) (np := 13) rfl ?_
  refine x_put F (k := 13) (ty := .int) (by decide) (PutXH.ofA (n := 50) (i := 0) (x := -2) (fun _ _ _ => rfl) rfl) rfl rfl rfl rfl (Or.inl q192) dX0_bestLower_13 (np := 16) rfl ?_
  refine g_iconst F (v := (nI 0)) dX0_bestLower_16 (by decide) (np := 17) rfl ?_
  refine g_istore F (lv' := [some (.ref (Λ.1 0 38)), some (.int o), some (.int x), some (.int (sMay (mP σ) (σ.1 6) o (σ.1 2))), some (.int (-2)), some (.int (nI 0))]) dX0_bestLower_17 (by decide) rfl rfl (np := 19) rfl ?_
  have L19 : ∀ (zn : Nat) (f : Int32) (q : Nat) (c : Int32), (f = (lowP (fun z => sWorth (mP σ) z (σ.1 2)) (lowK (mV σ L) (σ.1 6) o x) q).1) → (c = (lowP (fun z => sWorth (mP σ) z (σ.1 2)) (lowK (mV σ L) (σ.1 6) o x) q).2) → (q ≤ 2 ^ σ.1 2) → 2 ^ σ.1 2 - q < zn → WG zp l ze ({ frames := 205, cells := 0, slots := 0, locals := 4717 } : Room) zs zm za zb zt zc D B 6 (MQ zb (QT D B T) za zs 0 0 (zA B)) (XH D Λ I L (sA σ 50 0 c)) 0 0 19 [some (.ref (Λ.1 0 38)), some (.int o), some (.int x), some (.int (sMay (mP σ) (σ.1 6) o (σ.1 2))), some (.int f), some (.int (nI q))] [] := by
    intro zn
    induction zn with
    | zero => intro f q c g1 g2 g3 hm; exact absurd hm (Nat.not_lt_zero _)
    | succ zn ih19 =>
      intro f q c g1 g2 g3 hm
      refine g_iload F dX0_bestLower_19 rfl (np := 21) rfl ?_
      refine g_iconst F (v := (nI 1)) dX0_bestLower_21 (by decide) (np := 22) rfl ?_
      refine g_aload_n F dX0_bestLower_22 rfl rfl (np := 23) rfl ?_
      refine x_get F (k := 3) (v := .int (nI (σ.1 2))) (by decide) rfl (Or.inl q180) dX0_bestLower_23 (np := 26) rfl ?_
      refine g_ishl F dX0_bestLower_26 (np := 27) rfl ?_
      refine WG.eqv (st' := [.int (nI (2 ^ σ.1 2)), .int (nI q)]) (congrArg (fun z => ([.int z, .int (nI q)] : List Value)) (show ((nI (1)) <<< ((nI (σ.1 2)) &&& 31)) = (nI (2 ^ σ.1 2)) from by exact shl_nI (by omega))) rfl ?_
      refine g_icmp_geN F (by have := Nat.pow_le_pow_right (n := 2) (by decide) hm14; omega) (by have := Nat.pow_le_pow_right (n := 2) (by decide) hm14; omega) dX0_bestLower_27 (tp := 104) (by decide) (np := 30) rfl (fun c27 => ?_) (fun c27 => ?_)
      · have hq : q = 2 ^ σ.1 2 := by have := Nat.pow_le_pow_right (n := 2) (by decide) hm14; omega
        refine g_iload F dX0_bestLower_104 rfl (np := 106) rfl ?_
        have hσ : (sA σ 50 0 c) = (sA σ 50 0 (lowR (mV σ L) (σ.1 6) o x).2) := by rw [g2, hq]; rfl
        have hv : f = (lowR (mV σ L) (σ.1 6) o x).1 := by rw [g1, hq]; rfl
        exact g_iret F hr rfl (Nat.le_of_ble_eq_true rfl) (Nat.le_of_ble_eq_true rfl) dX0_bestLower_106 (fun h hs => by rw [← hT]; exact ⟨congrArg (fun z => some (Value.int z)) hv, (hσ ▸ hs)⟩)
      · have hT14 : 2 ^ σ.1 2 ≤ 2 ^ 14 := Nat.pow_le_pow_right (by decide) hm14
        have hfn : f < 0 ↔ f = -2 := by rw [g1]; exact lowP_neg (by omega)
        have hcn : c < 0 ↔ c = -2 := by rw [g2]; exact lowP_neg2 hWn
        refine g_iload F dX0_bestLower_30 rfl (np := 32) rfl ?_
        refine g_iload_n F dX0_bestLower_32 rfl rfl (np := 33) rfl ?_
        refine g_iconst F (v := (-1)) dX0_bestLower_33 (by decide) (np := 34) rfl ?_
        refine g_ixor F dX0_bestLower_34 (np := 35) rfl ?_
        refine g_iand F dX0_bestLower_35 (np := 36) rfl ?_
        refine g_if_ne F dX0_bestLower_36 (tp := 98) (by decide) (np := 39) rfl (fun c36 => ?_) (fun c36 => ?_)
        · refine g_iinc F (v := (nI (q + 1))) (lv' := [some (.ref (Λ.1 0 38)), some (.int o), some (.int x), some (.int (sMay (mP σ) (σ.1 6) o (σ.1 2))), some (.int f), some (.int (nI (q + 1)))]) dX0_bestLower_98 rfl (nI_add _ _) (by decide) rfl rfl (np := 101) rfl ?_
          refine g_goto F dX0_bestLower_101 (np := 19) (by decide) ?_
          exact ih19 f (q + 1) c (by first | (rw [lowP_f (fun z => c36 z.1)]; exact g1) | (rw [lowP_f (fun z => c47 z.2)]; exact g1) | (rw [lowP_t hK, ← g1]; exact hf1)) (by first | (rw [lowP_f (fun z => c36 z.1)]; exact g2) | (rw [lowP_f (fun z => c47 z.2)]; exact g2) | (rw [lowP_t hK]; show _ = lowC (fun z => sWorth (mP σ) z (σ.1 2)) _ _; rw [← g2, lowC_b hcn]; first | exact (pif_t (Or.inl c72)).symm | exact (pif_t (Or.inr (Int32.not_le.mp c85))).symm | exact (pif_f (fun z => z.elim c72 (fun z => Int32.not_lt.mpr c85 z))).symm)) (by omega) (by omega)
        · have hz : ∀ p, p < σ.1 2 → jbit (nI q) p → mP σ p 6 = 0 := fun p hp hj => ((sMay_bit (σ.1 2) (by omega) p (by omega)).mp (sub_bit c36 (by omega) hj)).2.2.1.1
          refine g_aload_n F dX0_bestLower_39 rfl rfl (np := 40) rfl ?_
          refine g_iload F dX0_bestLower_40 rfl (np := 42) rfl ?_
          refine g_iload_n F dX0_bestLower_42 rfl rfl (np := 43) rfl ?_
          refine g_iload_n F dX0_bestLower_43 rfl rfl (np := 44) rfl ?_
          refine g_runV F (C := RX0) (ci := 0) (T0 := TX0) (N := 38) (rest := []) (ct_X0_lowers (sA σ 50 0 c) (nI (q)) o x (by exact hok.sA50 _ _) (by exact hm14) (by exact hbO) (by exact hz)) (lw_V q933 q935 qs34 q100 q936) hcV_X0_lowers ⟨Nat.le_of_ble_eq_true rfl, Nat.le_of_ble_eq_true rfl⟩ rfl (fun h hs => hs.obj) rfl rfl (Nat.le_of_ble_eq_true rfl) dX0_bestLower_44 ⟨Nat.le_of_ble_eq_true rfl, Nat.le_of_ble_eq_true rfl⟩ (np := 47) rfl (k_RI ?_)
          refine g_if_neB F dX0_bestLower_47 (tp := 53) (by decide) (np := 50) rfl (fun c47 => ?_) (fun c47 => ?_)
          · have hK : (lowK (mV σ L) (σ.1 6) o x) (nI q) := ⟨c36, c47⟩
            refine g_aload_n F dX0_bestLower_53 rfl rfl (np := 54) rfl ?_
            have J68 : ∀ (f1 : Int32), (f1 = lowF (fun z => sWorth (mP σ) z (σ.1 2)) f (nI q)) → WG zp l ze ({ frames := 205, cells := 0, slots := 0, locals := 4717 } : Room) zs zm za zb zt zc D B 6 (MQ zb (QT D B T) za zs 0 0 (zA B)) (XH D Λ I L ((sA σ 50 0 c))) 0 0 68 [some (.ref (Λ.1 0 38)), some (.int o), some (.int x), some (.int (sMay (mP σ) (σ.1 6) o (σ.1 2))), some (.int f1), some (.int (nI q))] [] := by
              intro f1 hf1
              refine g_aload_n F dX0_bestLower_68 rfl rfl (np := 69) rfl ?_
              refine x_get F (k := 13) (v := .int c) (by decide) rfl (Or.inl q192) dX0_bestLower_69 (np := 72) rfl ?_
              refine g_if_lt F dX0_bestLower_72 (tp := 88) (by decide) (np := 75) rfl (fun c72 => ?_) (fun c72 => ?_)
              · refine g_aload_n F dX0_bestLower_88 rfl rfl (np := 89) rfl ?_
                refine g_aload_n F dX0_bestLower_89 rfl rfl (np := 90) rfl ?_
                refine g_iload F dX0_bestLower_90 rfl (np := 92) rfl ?_
                refine g_runV F (C := RX0) (ci := 0) (T0 := TX0) (N := 38) (rest := [.ref (Λ.1 0 38)]) (ct_X0_worthOf ((sA σ 50 0 c)) (nI (q)) (by first | assumption | omega)) (lw_V q950 q952 qs36 q100 q953) hcV_X0_worthOf ⟨Nat.le_of_ble_eq_true rfl, Nat.le_of_ble_eq_true rfl⟩ rfl (fun h hs => hs.obj) rfl rfl (Nat.le_of_ble_eq_true rfl) dX0_bestLower_92 ⟨Nat.le_of_ble_eq_true rfl, Nat.le_of_ble_eq_true rfl⟩ (np := 95) rfl (k_RI ?_)
                refine x_put F (k := 13) (ty := .int) (by decide) (PutXH.ofA (n := 50) (i := 0) (x := sWorth (mP ((sA σ 50 0 c))) (nI (q)) (((sA σ 50 0 c)).1 2)) (fun _ _ _ => rfl) rfl) rfl rfl rfl rfl (Or.inl q192) dX0_bestLower_95 (np := 98) rfl ?_
                refine WG.weak (S' := XH D Λ I L (sA σ 50 0 (sWorth (mP ((sA σ 50 0 c))) (nI (q)) (((sA σ 50 0 c)).1 2)))) (fun h hs => by rw [sA_sA] at hs; exact hs) ?_
                refine g_iinc F (v := (nI (q + 1))) (lv' := [some (.ref (Λ.1 0 38)), some (.int o), some (.int x), some (.int (sMay (mP σ) (σ.1 6) o (σ.1 2))), some (.int f1), some (.int (nI (q + 1)))]) dX0_bestLower_98 rfl (nI_add _ _) (by decide) rfl rfl (np := 101) rfl ?_
                refine g_goto F dX0_bestLower_101 (np := 19) (by decide) ?_
                exact ih19 f1 (q + 1) ((sWorth (mP ((sA σ 50 0 c))) (nI (q)) (((sA σ 50 0 c)).1 2))) (by first | (rw [lowP_f (fun z => c36 z.1)]; exact g1) | (rw [lowP_f (fun z => c47 z.2)]; exact g1) | (rw [lowP_t hK, ← g1]; exact hf1)) (by first | (rw [lowP_f (fun z => c36 z.1)]; exact g2) | (rw [lowP_f (fun z => c47 z.2)]; exact g2) | (rw [lowP_t hK]; show _ = lowC (fun z => sWorth (mP σ) z (σ.1 2)) _ _; rw [← g2, lowC_b hcn]; first | exact (pif_t (Or.inl c72)).symm | exact (pif_t (Or.inr (Int32.not_le.mp c85))).symm | exact (pif_f (fun z => z.elim c72 (fun z => Int32.not_lt.mpr c85 z))).symm)) (by omega) (by omega)
              · refine g_aload_n F dX0_bestLower_75 rfl rfl (np := 76) rfl ?_
                refine g_iload F dX0_bestLower_76 rfl (np := 78) rfl ?_
                refine g_runV F (C := RX0) (ci := 0) (T0 := TX0) (N := 38) (rest := []) (ct_X0_worthOf ((sA σ 50 0 c)) (nI (q)) (by first | assumption | omega)) (lw_V q950 q952 qs36 q100 q953) hcV_X0_worthOf ⟨Nat.le_of_ble_eq_true rfl, Nat.le_of_ble_eq_true rfl⟩ rfl (fun h hs => hs.obj) rfl rfl (Nat.le_of_ble_eq_true rfl) dX0_bestLower_78 ⟨Nat.le_of_ble_eq_true rfl, Nat.le_of_ble_eq_true rfl⟩ (np := 81) rfl (k_RI ?_)
                refine g_aload_n F dX0_bestLower_81 rfl rfl (np := 82) rfl ?_
                refine x_get F (k := 13) (v := .int c) (by decide) rfl (Or.inl q192) dX0_bestLower_82 (np := 85) rfl ?_
                refine g_icmp_ge F dX0_bestLower_85 (tp := 98) (by decide) (np := 88) rfl (fun c85 => ?_) (fun c85 => ?_)
                · refine g_iinc F (v := (nI (q + 1))) (lv' := [some (.ref (Λ.1 0 38)), some (.int o), some (.int x), some (.int (sMay (mP σ) (σ.1 6) o (σ.1 2))), some (.int f1), some (.int (nI (q + 1)))]) dX0_bestLower_98 rfl (nI_add _ _) (by decide) rfl rfl (np := 101) rfl ?_
                  refine g_goto F dX0_bestLower_101 (np := 19) (by decide) ?_
                  exact ih19 f1 (q + 1) c (by first | (rw [lowP_f (fun z => c36 z.1)]; exact g1) | (rw [lowP_f (fun z => c47 z.2)]; exact g1) | (rw [lowP_t hK, ← g1]; exact hf1)) (by first | (rw [lowP_f (fun z => c36 z.1)]; exact g2) | (rw [lowP_f (fun z => c47 z.2)]; exact g2) | (rw [lowP_t hK]; show _ = lowC (fun z => sWorth (mP σ) z (σ.1 2)) _ _; rw [← g2, lowC_b hcn]; first | exact (pif_t (Or.inl c72)).symm | exact (pif_t (Or.inr (Int32.not_le.mp c85))).symm | exact (pif_f (fun z => z.elim c72 (fun z => Int32.not_lt.mpr c85 z))).symm)) (by omega) (by omega)
                · refine g_aload_n F dX0_bestLower_88 rfl rfl (np := 89) rfl ?_
                  refine g_aload_n F dX0_bestLower_89 rfl rfl (np := 90) rfl ?_
                  refine g_iload F dX0_bestLower_90 rfl (np := 92) rfl ?_
                  refine g_runV F (C := RX0) (ci := 0) (T0 := TX0) (N := 38) (rest := [.ref (Λ.1 0 38)]) (ct_X0_worthOf (((sA σ 50 0 c))) (nI (q)) (by first | assumption | omega)) (lw_V q950 q952 qs36 q100 q953) hcV_X0_worthOf ⟨Nat.le_of_ble_eq_true rfl, Nat.le_of_ble_eq_true rfl⟩ rfl (fun h hs => hs.obj) rfl rfl (Nat.le_of_ble_eq_true rfl) dX0_bestLower_92 ⟨Nat.le_of_ble_eq_true rfl, Nat.le_of_ble_eq_true rfl⟩ (np := 95) rfl (k_RI ?_)
                  refine x_put F (k := 13) (ty := .int) (by decide) (PutXH.ofA (n := 50) (i := 0) (x := sWorth (mP (((sA σ 50 0 c)))) (nI (q)) ((((sA σ 50 0 c))).1 2)) (fun _ _ _ => rfl) rfl) rfl rfl rfl rfl (Or.inl q192) dX0_bestLower_95 (np := 98) rfl ?_
                  refine WG.weak (S' := XH D Λ I L (sA σ 50 0 (sWorth (mP (((sA σ 50 0 c)))) (nI (q)) ((((sA σ 50 0 c))).1 2)))) (fun h hs => by rw [sA_sA] at hs; exact hs) ?_
                  refine g_iinc F (v := (nI (q + 1))) (lv' := [some (.ref (Λ.1 0 38)), some (.int o), some (.int x), some (.int (sMay (mP σ) (σ.1 6) o (σ.1 2))), some (.int f1), some (.int (nI (q + 1)))]) dX0_bestLower_98 rfl (nI_add _ _) (by decide) rfl rfl (np := 101) rfl ?_
                  refine g_goto F dX0_bestLower_101 (np := 19) (by decide) ?_
                  exact ih19 f1 (q + 1) ((sWorth (mP (((sA σ 50 0 c)))) (nI (q)) ((((sA σ 50 0 c))).1 2))) (by first | (rw [lowP_f (fun z => c36 z.1)]; exact g1) | (rw [lowP_f (fun z => c47 z.2)]; exact g1) | (rw [lowP_t hK, ← g1]; exact hf1)) (by first | (rw [lowP_f (fun z => c36 z.1)]; exact g2) | (rw [lowP_f (fun z => c47 z.2)]; exact g2) | (rw [lowP_t hK]; show _ = lowC (fun z => sWorth (mP σ) z (σ.1 2)) _ _; rw [← g2, lowC_b hcn]; first | exact (pif_t (Or.inl c72)).symm | exact (pif_t (Or.inr (Int32.not_le.mp c85))).symm | exact (pif_f (fun z => z.elim c72 (fun z => Int32.not_lt.mpr c85 z))).symm)) (by omega) (by omega)
            refine g_iload F dX0_bestLower_54 rfl (np := 56) rfl ?_
            refine g_iload F dX0_bestLower_56 rfl (np := 58) rfl ?_
            refine g_runV F (C := RX0) (ci := 0) (T0 := TX0) (N := 38) (rest := []) (ct_X0_isBetter ((sA σ 50 0 c)) (nI (q)) f (by first | assumption | omega)) (lw_V q940 q942 qs35 q100 q943) hcV_X0_isBetter ⟨Nat.le_of_ble_eq_true rfl, Nat.le_of_ble_eq_true rfl⟩ rfl (fun h hs => hs.obj) rfl rfl (Nat.le_of_ble_eq_true rfl) dX0_bestLower_58 ⟨Nat.le_of_ble_eq_true rfl, Nat.le_of_ble_eq_true rfl⟩ (np := 61) rfl (k_RI ?_)
            refine g_if_eqB F dX0_bestLower_61 (tp := 68) (by decide) (np := 64) rfl (fun c61 => ?_) (fun c61 => ?_)
            · exact J68 f (by rw [lowF_b hfn]; first | exact (pif_t c61).symm | exact (pif_f c61).symm)
            · refine g_iload F dX0_bestLower_64 rfl (np := 66) rfl ?_
              refine g_istore F (lv' := [some (.ref (Λ.1 0 38)), some (.int o), some (.int x), some (.int (sMay (mP σ) (σ.1 6) o (σ.1 2))), some (.int (nI q)), some (.int (nI q))]) dX0_bestLower_66 (by decide) rfl rfl (np := 68) rfl ?_
              exact J68 (nI (q)) (by rw [lowF_b hfn]; first | exact (pif_t c61).symm | exact (pif_f c61).symm)
          · refine g_goto F dX0_bestLower_50 (np := 98) (by decide) ?_
            refine g_iinc F (v := (nI (q + 1))) (lv' := [some (.ref (Λ.1 0 38)), some (.int o), some (.int x), some (.int (sMay (mP σ) (σ.1 6) o (σ.1 2))), some (.int f), some (.int (nI (q + 1)))]) dX0_bestLower_98 rfl (nI_add _ _) (by decide) rfl rfl (np := 101) rfl ?_
            refine g_goto F dX0_bestLower_101 (np := 19) (by decide) ?_
            exact ih19 f (q + 1) c (by first | (rw [lowP_f (fun z => c36 z.1)]; exact g1) | (rw [lowP_f (fun z => c47 z.2)]; exact g1) | (rw [lowP_t hK, ← g1]; exact hf1)) (by first | (rw [lowP_f (fun z => c36 z.1)]; exact g2) | (rw [lowP_f (fun z => c47 z.2)]; exact g2) | (rw [lowP_t hK]; show _ = lowC (fun z => sWorth (mP σ) z (σ.1 2)) _ _; rw [← g2, lowC_b hcn]; first | exact (pif_t (Or.inl c72)).symm | exact (pif_t (Or.inr (Int32.not_le.mp c85))).symm | exact (pif_f (fun z => z.elim c72 (fun z => Int32.not_lt.mpr c85 z))).symm)) (by omega) (by omega)
  exact L19 _ (-2) 0 ((-2)) (by rfl) (by rfl) (by exact Nat.zero_le _) (Nat.lt_succ_self _)

set_option maxRecDepth 100000 in
theorem ct_X0_lower {l : Launch} {D : va_G} {B : Nat} {Λ : LT} {I : AH} {L : LawT} (σ : MSt)  (o : Int32) (x : Int32) (w : Int32) (hok : mOK σ L) (hm14 : σ.1 2 ≤ 14) (hbO : byOK σ) (hwt : wtOK σ) : Ct l D ZE B yX0_lower cX0_lower 5 (some .int) 206 4742 0 0 [.ref (Λ.1 0 38), .int o, .int x, .int w] (XH D Λ I L σ) (RI (rLower (mV σ L) (σ.1 6) (σ.1 0) o x w) (XH D Λ I L (gLow L σ o x w))) := by
  refine Ct.of (nL := 5) (lv := [some (.ref (Λ.1 0 38)), some (.int o), some (.int x), some (.int w), none]) (by decide) (Nat.le_of_ble_eq_true rfl) stZE 1 rfl ?_
  generalize hT : RI (rLower (mV σ L) (σ.1 6) (σ.1 0) o x w) (XH D Λ I L (gLow L σ o x w)) = T
  intro zp ze zs zm zb zt zc F hr hnm
  generalize ([.ref (Λ.1 0 38), .int o, .int x, .int w] : List Value).toArray = za at F ⊢
  have hok2 := hok
  obtain ⟨ho8, hm15, ht99, hby, hlaw⟩ := hok2
  have hT14 : 2 ^ σ.1 2 ≤ 2 ^ 14 := Nat.pow_le_pow_right (by decide) hm14
  refine g_aload_n F dX0_lower_0 rfl rfl (np := 1) rfl ?_
  refine g_iload_n F dX0_lower_1 rfl rfl (np := 2) rfl ?_
  refine g_runV F (C := RX0) (ci := 0) (T0 := TX0) (N := 38) (rest := []) (ct_X0_isOwner σ o (by first | assumption | omega)) (lw_V q319 q321 qs1 q100 q322) hcV_X0_isOwner ⟨Nat.le_of_ble_eq_true rfl, Nat.le_of_ble_eq_true rfl⟩ rfl (fun h hs => hs.obj) rfl rfl (Nat.le_of_ble_eq_true rfl) dX0_lower_2 ⟨Nat.le_of_ble_eq_true rfl, Nat.le_of_ble_eq_true rfl⟩ (np := 5) rfl (k_RI ?_)
  refine g_if_eqB F dX0_lower_5 (tp := 27) (by decide) (np := 8) rfl (fun c5 => ?_) (fun c5 => ?_)
  · refine g_iconst F (v := (-1)) dX0_lower_27 (by decide) (np := 28) rfl ?_
    have hσ : σ = (gLow L σ o x w) := by unfold gLow; rw [pif_f (fun z => by obtain ⟨z1, z2, z3⟩ := z; first | exact c5 z1 | exact c15 (bt9.mpr z2) | exact c24 (bt2.mpr z3))]
    have hv : -1 = rLower (mV σ L) (σ.1 6) (σ.1 0) o x w := by unfold rLower; rw [pif_f (fun z => by obtain ⟨z1, z2, z3⟩ := z; first | exact c5 z1 | exact c15 (bt9.mpr z2) | exact c24 (bt2.mpr z3))]
    exact g_iret F hr rfl (Nat.le_of_ble_eq_true rfl) (Nat.le_of_ble_eq_true rfl) dX0_lower_28 (fun h hs => by rw [← hT]; exact ⟨congrArg (fun z => some (Value.int z)) hv, (hσ ▸ hs)⟩)
  · refine g_iload_n F dX0_lower_8 rfl rfl (np := 9) rfl ?_
    refine g_iconst F (v := (nI 0)) dX0_lower_9 (by decide) (np := 10) rfl ?_
    refine g_bipush F (v := (nI 9)) dX0_lower_10 (by decide) (np := 12) rfl ?_
    refine g_runS F (rest := []) (ct_X0_in x (nI (0)) (nI (9)) ) (lw_S q298 q299 q100 q300) hcS_X0_in ⟨Nat.le_of_ble_eq_true rfl, Nat.le_of_ble_eq_true rfl⟩ rfl rfl (Nat.le_of_ble_eq_true rfl) dX0_lower_12 ⟨Nat.le_of_ble_eq_true rfl, Nat.le_of_ble_eq_true rfl⟩ (np := 15) rfl (k_RI ?_)
    refine g_if_eqB F dX0_lower_15 (tp := 27) (by decide) (np := 18) rfl (fun c15 => ?_) (fun c15 => ?_)
    · refine g_iconst F (v := (-1)) dX0_lower_27 (by decide) (np := 28) rfl ?_
      have hσ : σ = (gLow L σ o x w) := by unfold gLow; rw [pif_f (fun z => by obtain ⟨z1, z2, z3⟩ := z; first | exact c5 z1 | exact c15 (bt9.mpr z2) | exact c24 (bt2.mpr z3))]
      have hv : -1 = rLower (mV σ L) (σ.1 6) (σ.1 0) o x w := by unfold rLower; rw [pif_f (fun z => by obtain ⟨z1, z2, z3⟩ := z; first | exact c5 z1 | exact c15 (bt9.mpr z2) | exact c24 (bt2.mpr z3))]
      exact g_iret F hr rfl (Nat.le_of_ble_eq_true rfl) (Nat.le_of_ble_eq_true rfl) dX0_lower_28 (fun h hs => by rw [← hT]; exact ⟨congrArg (fun z => some (Value.int z)) hv, (hσ ▸ hs)⟩)
    · refine g_iload_n F dX0_lower_18 rfl rfl (np := 19) rfl ?_
      refine g_iconst F (v := (nI 0)) dX0_lower_19 (by decide) (np := 20) rfl ?_
      refine g_iconst F (v := (nI 2)) dX0_lower_20 (by decide) (np := 21) rfl ?_
      refine g_runS F (rest := []) (ct_X0_in w (nI (0)) (nI (2)) ) (lw_S q298 q299 q100 q300) hcS_X0_in ⟨Nat.le_of_ble_eq_true rfl, Nat.le_of_ble_eq_true rfl⟩ rfl rfl (Nat.le_of_ble_eq_true rfl) dX0_lower_21 ⟨Nat.le_of_ble_eq_true rfl, Nat.le_of_ble_eq_true rfl⟩ (np := 24) rfl (k_RI ?_)
      refine g_if_neB F dX0_lower_24 (tp := 29) (by decide) (np := 27) rfl (fun c24 => ?_) (fun c24 => ?_)
      · refine g_aload_n F dX0_lower_29 rfl rfl (np := 30) rfl ?_
        refine g_iload_n F dX0_lower_30 rfl rfl (np := 31) rfl ?_
        refine g_iload_n F dX0_lower_31 rfl rfl (np := 32) rfl ?_
        refine g_runV F (C := RX0) (ci := 0) (T0 := TX0) (N := 38) (rest := []) (ct_X0_bestLower σ o x (by first | assumption | omega) (by first | assumption | omega) (by first | assumption | omega) (by exact hwt)) (lw_V q925 q927 qs32 q100 q928) hcV_X0_bestLower ⟨Nat.le_of_ble_eq_true rfl, Nat.le_of_ble_eq_true rfl⟩ rfl (fun h hs => hs.obj) rfl rfl (Nat.le_of_ble_eq_true rfl) dX0_lower_32 ⟨Nat.le_of_ble_eq_true rfl, Nat.le_of_ble_eq_true rfl⟩ (np := 35) rfl (k_RI ?_)
        refine g_istore F (lv' := [some (.ref (Λ.1 0 38)), some (.int o), some (.int x), some (.int w), some (.int ((lowR (mV σ L) (σ.1 6) o x).1))]) dX0_lower_35 (by decide) rfl rfl (np := 37) rfl ?_
        have hP : inN o (σ.1 0) ∧ inN x 10 ∧ inN w 3 := ⟨c5, bt9.mp c15, bt2.mp c24⟩
        have hfn : (lowR (mV σ L) (σ.1 6) o x).1 < 0 ↔ (lowR (mV σ L) (σ.1 6) o x).1 = -2 := lowP_neg (by show 2 ^ σ.1 2 ≤ _; omega)
        refine g_iload F dX0_lower_37 rfl (np := 39) rfl ?_
        refine g_if_ge F dX0_lower_39 (tp := 45) (by decide) (np := 42) rfl (fun c39 => ?_) (fun c39 => ?_)
        · refine g_iload_n F dX0_lower_45 rfl rfl (np := 46) rfl ?_
          refine g_if_ne F dX0_lower_46 (tp := 57) (by decide) (np := 49) rfl (fun c46 => ?_) (fun c46 => ?_)
          · refine g_iload_n F dX0_lower_57 rfl rfl (np := 58) rfl ?_
            refine g_iconst F (v := (nI 1)) dX0_lower_58 (by decide) (np := 59) rfl ?_
            refine g_icmp_ne F dX0_lower_59 (tp := 67) (by decide) (np := 62) rfl (fun c59 => ?_) (fun c59 => ?_)
            · refine g_aload_n F dX0_lower_67 rfl rfl (np := 68) rfl ?_
              refine x_get F (k := 13) (v := .int ((lowR (mV σ L) (σ.1 6) o x).2)) (by decide) rfl (Or.inl q192) dX0_lower_68 (np := 71) rfl ?_
              have hσ : (sA σ 50 0 (lowR (mV σ L) (σ.1 6) o x).2) = (gLow L σ o x w) := by unfold gLow; rw [pif_t hP]
              have hv : (lowR (mV σ L) (σ.1 6) o x).2 = rLower (mV σ L) (σ.1 6) (σ.1 0) o x w := by unfold rLower; rw [pif_t hP]; have n1 : ¬ (lowR (mV σ L) (σ.1 6) o x).1 = -2 := fun z => Int32.not_lt.mpr c39 (hfn.mpr z); first | (rw [if_neg (by rw [c46]; decide), if_neg (fun z => z.elim (by rw [c46]; decide) n1)]; done) | (rw [if_neg (by rw [c59]; decide), if_pos (Or.inl c59)]; done) | (rw [if_pos (by obtain ⟨j, hj, e⟩ := hP.2.2; rcases (show j = 0 ∨ j = 1 ∨ j = 2 by omega) with rfl | rfl | rfl; exact absurd e c46; exact absurd e c59; exact e)])
              exact g_iret F hr rfl (Nat.le_of_ble_eq_true rfl) (Nat.le_of_ble_eq_true rfl) dX0_lower_71 (fun h hs => by rw [← hT]; exact ⟨congrArg (fun z => some (Value.int z)) hv, (hσ ▸ hs)⟩)
            · refine g_iload F dX0_lower_62 rfl (np := 64) rfl ?_
              refine g_goto F dX0_lower_64 (np := 71) (by decide) ?_
              have hσ : (sA σ 50 0 (lowR (mV σ L) (σ.1 6) o x).2) = (gLow L σ o x w) := by unfold gLow; rw [pif_t hP]
              have hv : (lowR (mV σ L) (σ.1 6) o x).1 = rLower (mV σ L) (σ.1 6) (σ.1 0) o x w := by unfold rLower; rw [pif_t hP]; have n1 : ¬ (lowR (mV σ L) (σ.1 6) o x).1 = -2 := fun z => Int32.not_lt.mpr c39 (hfn.mpr z); first | (rw [if_neg (by rw [c46]; decide), if_neg (fun z => z.elim (by rw [c46]; decide) n1)]; done) | (rw [if_neg (by rw [c59]; decide), if_pos (Or.inl c59)]; done) | (rw [if_pos (by obtain ⟨j, hj, e⟩ := hP.2.2; rcases (show j = 0 ∨ j = 1 ∨ j = 2 by omega) with rfl | rfl | rfl; exact absurd e c46; exact absurd e c59; exact e)])
              exact g_iret F hr rfl (Nat.le_of_ble_eq_true rfl) (Nat.le_of_ble_eq_true rfl) dX0_lower_71 (fun h hs => by rw [← hT]; exact ⟨congrArg (fun z => some (Value.int z)) hv, (hσ ▸ hs)⟩)
          · refine g_iload F dX0_lower_49 rfl (np := 51) rfl ?_
            refine g_runS F (rest := []) (ct_J13_bitCount stZE ((lowR (mV σ L) (σ.1 6) o x).1) ) (lw_S q944 q945 q127 q946) hcS_J13_bitCount ⟨Nat.le_of_ble_eq_true rfl, Nat.le_of_ble_eq_true rfl⟩ rfl rfl (Nat.le_of_ble_eq_true rfl) dX0_lower_51 ⟨Nat.le_of_ble_eq_true rfl, Nat.le_of_ble_eq_true rfl⟩ (np := 54) rfl (k_RI ?_)
            refine g_goto F dX0_lower_54 (np := 71) (by decide) ?_
            have hσ : (sA σ 50 0 (lowR (mV σ L) (σ.1 6) o x).2) = (gLow L σ o x w) := by unfold gLow; rw [pif_t hP]
            have hv : jbc ((lowR (mV σ L) (σ.1 6) o x).1) = rLower (mV σ L) (σ.1 6) (σ.1 0) o x w := by unfold rLower; rw [pif_t hP]; have n1 : ¬ (lowR (mV σ L) (σ.1 6) o x).1 = -2 := fun z => Int32.not_lt.mpr c39 (hfn.mpr z); first | (rw [if_neg (by rw [c46]; decide), if_neg (fun z => z.elim (by rw [c46]; decide) n1)]; done) | (rw [if_neg (by rw [c59]; decide), if_pos (Or.inl c59)]; done) | (rw [if_pos (by obtain ⟨j, hj, e⟩ := hP.2.2; rcases (show j = 0 ∨ j = 1 ∨ j = 2 by omega) with rfl | rfl | rfl; exact absurd e c46; exact absurd e c59; exact e)])
            exact g_iret F hr rfl (Nat.le_of_ble_eq_true rfl) (Nat.le_of_ble_eq_true rfl) dX0_lower_71 (fun h hs => by rw [← hT]; exact ⟨congrArg (fun z => some (Value.int z)) hv, (hσ ▸ hs)⟩)
        · refine g_bipush F (v := (-2)) dX0_lower_42 (by decide) (np := 44) rfl ?_
          have hσ : (sA σ 50 0 (lowR (mV σ L) (σ.1 6) o x).2) = (gLow L σ o x w) := by unfold gLow; rw [pif_t hP]
          have hv : -2 = rLower (mV σ L) (σ.1 6) (σ.1 0) o x w := by unfold rLower; rw [pif_t hP]; have e1 := hfn.mp (Int32.not_le.mp c39); have e2 : (lowR (mV σ L) (σ.1 6) o x).2 = -2 := lowP_both (by show 2 ^ σ.1 2 ≤ _; omega) e1; by_cases q : w = nI 2; rw [if_pos q, e2]; rw [if_neg q, if_pos (Or.inr e1), e1]
          exact g_iret F hr rfl (Nat.le_of_ble_eq_true rfl) (Nat.le_of_ble_eq_true rfl) dX0_lower_44 (fun h hs => by rw [← hT]; exact ⟨congrArg (fun z => some (Value.int z)) hv, (hσ ▸ hs)⟩)
      · refine g_iconst F (v := (-1)) dX0_lower_27 (by decide) (np := 28) rfl ?_
        have hσ : σ = (gLow L σ o x w) := by unfold gLow; rw [pif_f (fun z => by obtain ⟨z1, z2, z3⟩ := z; first | exact c5 z1 | exact c15 (bt9.mpr z2) | exact c24 (bt2.mpr z3))]
        have hv : -1 = rLower (mV σ L) (σ.1 6) (σ.1 0) o x w := by unfold rLower; rw [pif_f (fun z => by obtain ⟨z1, z2, z3⟩ := z; first | exact c5 z1 | exact c15 (bt9.mpr z2) | exact c24 (bt2.mpr z3))]
        exact g_iret F hr rfl (Nat.le_of_ble_eq_true rfl) (Nat.le_of_ble_eq_true rfl) dX0_lower_28 (fun h hs => by rw [← hT]; exact ⟨congrArg (fun z => some (Value.int z)) hv, (hσ ▸ hs)⟩)
