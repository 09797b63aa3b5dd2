/-! WALKS (printed by walk.py): doneBits, layDone, goDraw, drawn, does, release, days, led, count, trace, isOf, mayBe, valueOf, of, feed, wrongDay, byWorths, byLasts -/
set_option maxRecDepth 100000
set_option maxRecDepth 100000 in
theorem ct_X0_doneBits {l : Launch} {D : va_G} {B : Nat} {Λ : LT} {I : AH} {L : LawT} (σ : MSt)   (hm14 : σ.1 2 ≤ 14) : Ct l D ZE B yX0_doneBits cX0_doneBits 3 (some .int) 0 0 0 0 [.ref (Λ.1 0 38)] (XH D Λ I L σ) (RI (dBits (mP σ) (σ.1 2)) (XH D Λ I L σ)) := by
  refine Ct.of (nL := 3) (lv := [some (.ref (Λ.1 0 38)), none, none]) (by decide) (Nat.le_of_ble_eq_true rfl) stZE 2 rfl ?_
  generalize hT : RI (dBits (mP σ) (σ.1 2)) (XH D Λ I L σ) = T
  intro zp ze zs zm zb zt zc F hr hnm
  generalize ([.ref (Λ.1 0 38)] : List Value).toArray = za at F ⊢
  refine g_iconst F (v := (nI 0)) dX0_doneBits_0 (by decide) (np := 1) rfl ?_
  refine g_istore_n F (lv' := [some (.ref (Λ.1 0 38)), some (.int (nI 0)), none]) dX0_doneBits_1 rfl (by decide) rfl rfl (np := 2) rfl ?_
  refine g_iconst F (v := (nI 0)) dX0_doneBits_2 (by decide) (np := 3) rfl ?_
  refine g_istore_n F (lv' := [some (.ref (Λ.1 0 38)), some (.int (nI 0)), some (.int (nI 0))]) dX0_doneBits_3 rfl (by decide) rfl rfl (np := 4) rfl ?_
  have L4 : ∀ (zn : Nat) (a : Int32) (p : Nat), (a = dBits (mP σ) p) → (p ≤ σ.1 2) → σ.1 2 - p < zn → WG zp l ze ({ frames := 0, cells := 0, slots := 0, locals := 0 } : Room) zs zm za zb zt zc D B 3 (MQ zb (QT D B T) za zs 0 0 (zA B)) (XH D Λ I L σ) 0 0 4 [some (.ref (Λ.1 0 38)), some (.int a), some (.int (nI p))] [] := by
    intro zn
    induction zn with
    | zero => intro a p h1 h2 hm; exact absurd hm (Nat.not_lt_zero _)
    | succ zn ih4 =>
      intro a p h1 h2 hm
      refine g_iload_n F dX0_doneBits_4 rfl rfl (np := 5) rfl ?_
      refine g_aload_n F dX0_doneBits_5 rfl rfl (np := 6) rfl ?_
      refine x_get F (k := 3) (v := .int (nI (σ.1 2))) (by decide) rfl (Or.inl q180) dX0_doneBits_6 (np := 9) rfl ?_
      refine g_icmp_geN F (by omega) (by omega) dX0_doneBits_9 (tp := 37) (by decide) (np := 12) rfl (fun c9 => ?_) (fun c9 => ?_)
      · refine g_iload_n F dX0_doneBits_37 rfl rfl (np := 38) rfl ?_
        have hv : a = dBits (mP σ) (σ.1 2) := by rw [h1, show p = σ.1 2 by omega]
        exact g_iret F hr rfl (Nat.le_of_ble_eq_true rfl) (Nat.le_of_ble_eq_true rfl) dX0_doneBits_38 (fun h hs => by rw [← hT]; exact ⟨congrArg (fun z => some (Value.int z)) hv, hs⟩)
      · refine g_aload_n F dX0_doneBits_12 rfl rfl (np := 13) rfl ?_
        refine x_get F (k := 1) (v := .ref (Λ.1 0 1)) (by decide) rfl (Or.inl q178) dX0_doneBits_13 (np := 16) rfl ?_
        refine g_iload_n F dX0_doneBits_16 rfl rfl (np := 17) rfl ?_
        refine x_aldP F (i := p) rfl (show p < σ.1 2 by omega) (show σ.1 2 ≤ 14 by omega) dX0_doneBits_17 (np := 18) rfl ?_
        refine x_getP F (k := 6) (i := p) (v := .int (σ.2.1 3 (60 + p))) (by decide) (show p < σ.1 2 by omega) rfl (Or.inr ⟨_, ze345⟩) dX0_doneBits_18 (np := 21) rfl ?_
        refine g_iconst F (v := (nI 1)) dX0_doneBits_21 (by decide) (np := 22) rfl ?_
        refine g_icmp_ne F dX0_doneBits_22 (tp := 31) (by decide) (np := 25) rfl (fun c22 => ?_) (fun c22 => ?_)
        · refine g_iinc F (v := (nI (p + 1))) (lv' := [some (.ref (Λ.1 0 38)), some (.int a), some (.int (nI (p + 1)))]) dX0_doneBits_31 rfl (nI_add _ _) (by decide) rfl rfl (np := 34) rfl ?_
          refine g_goto F dX0_doneBits_34 (np := 4) (by decide) ?_
          exact ih4 a (p + 1) (by unfold dBits; first | (rw [pif_t (show mP σ p 6 = nI 1 by rw [mP_6]; exact c22), h1]; done) | (rw [pif_f (show ¬ mP σ p 6 = nI 1 by rw [mP_6]; exact c22), h1])) (by first | assumption | omega) (by omega)
        · refine g_iload_n F dX0_doneBits_25 rfl rfl (np := 26) rfl ?_
          refine g_iconst F (v := (nI 1)) dX0_doneBits_26 (by decide) (np := 27) rfl ?_
          refine g_iload_n F dX0_doneBits_27 rfl rfl (np := 28) rfl ?_
          refine g_ishl F dX0_doneBits_28 (np := 29) rfl ?_
          refine g_ior F dX0_doneBits_29 (np := 30) rfl ?_
          refine g_istore_n F (lv' := [some (.ref (Λ.1 0 38)), some (.int (a ||| ((nI (1)) <<< ((nI (p)) &&& 31)))), some (.int (nI p))]) dX0_doneBits_30 rfl (by decide) rfl rfl (np := 31) rfl ?_
          refine g_iinc F (v := (nI (p + 1))) (lv' := [some (.ref (Λ.1 0 38)), some (.int (a ||| ((nI (1)) <<< ((nI (p)) &&& 31)))), some (.int (nI (p + 1)))]) dX0_doneBits_31 rfl (nI_add _ _) (by decide) rfl rfl (np := 34) rfl ?_
          refine g_goto F dX0_doneBits_34 (np := 4) (by decide) ?_
          exact ih4 (a ||| ((nI (1)) <<< ((nI (p)) &&& 31))) (p + 1) (by unfold dBits; first | (rw [pif_t (show mP σ p 6 = nI 1 by rw [mP_6]; exact c22), h1]; done) | (rw [pif_f (show ¬ mP σ p 6 = nI 1 by rw [mP_6]; exact c22), h1])) (by first | assumption | omega) (by omega)
  exact L4 _ (nI (0)) 0 (by rfl) (by omega) (Nat.lt_succ_self _)

set_option maxRecDepth 100000 in
theorem ct_X0_layDone {l : Launch} {D : va_G} {B : Nat} {Λ : LT} {I : AH} {L : LawT} (σ : MSt)  (set : Int32) (hm14 : σ.1 2 ≤ 14) : Ct l D ZE B yX0_layDone cX0_layDone 3 none 1 21 0 0 [.ref (Λ.1 0 38), .int set] (XH D Λ I L σ) (RV (XH D Λ I L (cpS σ 3 (layF σ set (σ.1 2))))) := by
  refine Ct.of (nL := 3) (lv := [some (.ref (Λ.1 0 38)), some (.int set), none]) (by decide) (Nat.le_of_ble_eq_true rfl) stZE 1 rfl ?_
  generalize hT : RV (XH D Λ I L (cpS σ 3 (layF σ set (σ.1 2)))) = T
  intro zp ze zs zm zb zt zc F hr hnm
  generalize ([.ref (Λ.1 0 38), .int set] : List Value).toArray = za at F ⊢
  refine g_iconst F (v := (nI 0)) dX0_layDone_0 (by decide) (np := 1) rfl ?_
  refine g_istore_n F (lv' := [some (.ref (Λ.1 0 38)), some (.int set), some (.int (nI 0))]) dX0_layDone_1 rfl (by decide) rfl rfl (np := 2) rfl ?_
  have L2 : ∀ (zn : Nat) (p : Nat) (f : Nat → Int32), (∀ j, f j = if 60 ≤ j ∧ j < 60 + p then bI (jbit set (j - 60)) else σ.2.1 3 j) → (p ≤ σ.1 2) → σ.1 2 - p < zn → WG zp l ze ({ frames := 1, cells := 0, slots := 0, locals := 21 } : Room) zs zm za zb zt zc D B 3 (MQ zb (QT D B T) za zs 0 0 (zA B)) (XH D Λ I L (cpS σ 3 f)) 0 0 2 [some (.ref (Λ.1 0 38)), some (.int set), some (.int (nI p))] [] := by
    intro zn
    induction zn with
    | zero => intro p f h1 h2 hm; exact absurd hm (Nat.not_lt_zero _)
    | succ zn ih2 =>
      intro p f h1 h2 hm
      refine g_iload_n F dX0_layDone_2 rfl rfl (np := 3) rfl ?_
      refine g_aload_n F dX0_layDone_3 rfl rfl (np := 4) rfl ?_
      refine x_get F (k := 3) (v := .int (nI (σ.1 2))) (by decide) rfl (Or.inl q180) dX0_layDone_4 (np := 7) rfl ?_
      refine g_icmp_geN F (by omega) (by omega) dX0_layDone_7 (tp := 38) (by decide) (np := 10) rfl (fun c7 => ?_) (fun c7 => ?_)
      · have hσ : (cpS σ 3 f) = (cpS σ 3 (layF σ set (σ.1 2))) := by have hf : f = layF σ set (σ.1 2) := by { funext j; rw [h1, show p = σ.1 2 by omega]; rfl }; rw [hf]
        exact g_vret F hr (Nat.le_of_ble_eq_true rfl) (Nat.le_of_ble_eq_true rfl) dX0_layDone_38 (fun h hs => by rw [← hT]; exact ⟨rfl, (hσ ▸ hs)⟩)
      · refine g_aload_n F dX0_layDone_10 rfl rfl (np := 11) rfl ?_
        refine x_get F (k := 1) (v := .ref (Λ.1 0 1)) (by decide) rfl (Or.inl q178) dX0_layDone_11 (np := 14) rfl ?_
        refine g_iload_n F dX0_layDone_14 rfl rfl (np := 15) rfl ?_
        refine x_aldP F (i := p) rfl (show p < σ.1 2 by omega) (show σ.1 2 ≤ 14 by omega) dX0_layDone_15 (np := 16) rfl ?_
        refine g_iload_n F dX0_layDone_16 rfl rfl (np := 17) rfl ?_
        refine g_iload_n F dX0_layDone_17 rfl rfl (np := 18) rfl ?_
        refine g_runS F (rest := [.ref (Λ.1 2 p)]) (ct_X0_has set p ) (lw_S q937 q938 q100 q939) hcS_X0_has ⟨Nat.le_of_ble_eq_true rfl, Nat.le_of_ble_eq_true rfl⟩ rfl rfl (Nat.le_of_ble_eq_true rfl) dX0_layDone_18 ⟨Nat.le_of_ble_eq_true rfl, Nat.le_of_ble_eq_true rfl⟩ (np := 21) rfl (k_RI ?_)
        refine g_if_eqB F dX0_layDone_21 (tp := 28) (by decide) (np := 24) rfl (fun c21 => ?_) (fun c21 => ?_)
        · refine g_iconst F (v := (nI 0)) dX0_layDone_28 (by decide) (np := 29) rfl ?_
          refine x_putP F (j := 6) (q := p) (by decide) (by decide) (show σ.1 2 ≤ 15 by omega) (show p < σ.1 2 by omega) (Or.inr ⟨_, ze345⟩) rfl rfl dX0_layDone_29 (np := 32) rfl ?_
          refine WG.weak (S' := XH D Λ I L (cpS σ 3 (va_up f (60 + p) (nI (0))))) (fun h hs => by rw [cpS_sA]; exact hs) ?_
          refine g_iinc F (v := (nI (p + 1))) (lv' := [some (.ref (Λ.1 0 38)), some (.int set), some (.int (nI (p + 1)))]) dX0_layDone_32 rfl (nI_add _ _) (by decide) rfl rfl (np := 35) rfl ?_
          refine g_goto F dX0_layDone_35 (np := 2) (by decide) ?_
          exact ih2 (p + 1) ((va_up f (60 + p) (nI (0)))) (by exact cp_step2 (P := fun j => bI (jbit set (j - 60))) h1 (by show _ = bI (jbit set (60 + p - 60)); rw [Nat.add_sub_cancel_left]; first | exact (bI_t c21).symm | exact (bI_f c21).symm)) (by omega) (by omega)
        · refine g_iconst F (v := (nI 1)) dX0_layDone_24 (by decide) (np := 25) rfl ?_
          refine g_goto F dX0_layDone_25 (np := 29) (by decide) ?_
          refine x_putP F (j := 6) (q := p) (by decide) (by decide) (show σ.1 2 ≤ 15 by omega) (show p < σ.1 2 by omega) (Or.inr ⟨_, ze345⟩) rfl rfl dX0_layDone_29 (np := 32) rfl ?_
          refine WG.weak (S' := XH D Λ I L (cpS σ 3 (va_up f (60 + p) (nI (1))))) (fun h hs => by rw [cpS_sA]; exact hs) ?_
          refine g_iinc F (v := (nI (p + 1))) (lv' := [some (.ref (Λ.1 0 38)), some (.int set), some (.int (nI (p + 1)))]) dX0_layDone_32 rfl (nI_add _ _) (by decide) rfl rfl (np := 35) rfl ?_
          refine g_goto F dX0_layDone_35 (np := 2) (by decide) ?_
          exact ih2 (p + 1) ((va_up f (60 + p) (nI (1)))) (by exact cp_step2 (P := fun j => bI (jbit set (j - 60))) h1 (by show _ = bI (jbit set (60 + p - 60)); rw [Nat.add_sub_cancel_left]; first | exact (bI_t c21).symm | exact (bI_f c21).symm)) (by omega) (by omega)
  refine WG.weak (S' := XH D Λ I L (cpS σ 3 (σ.2.1 3))) (fun h hs => by rw [cpS_id]; exact hs) ?_
  exact L2 _ 0 ((σ.2.1 3)) (by intro j; rw [if_neg (by omega)]) (by omega) (Nat.lt_succ_self _)

set_option maxRecDepth 100000 in
theorem ct_X0_goDraw {l : Launch} {D : va_G} {B : Nat} {Λ : LT} {I : AH} {L : LawT} (σ : MSt)  (z : Int32) (od : Nat) (d : Nat) (hm14 : σ.1 2 ≤ 14) (hm0 : ¬ σ.1 2 = 0) (hod : od < 2 ^ 31) : Ct l D ZE B yX0_goDraw cX0_goDraw 5 none 1 21 0 0 [.ref (Λ.1 0 38), .int z, .int (nI od), .int (nI d)] (XH D Λ I L σ) (RV (XH D Λ I L (cpS σ 3 (drG σ (σ.2.1 3) d z od)))) := by
  refine Ct.of (nL := 5) (lv := [some (.ref (Λ.1 0 38)), some (.int z), some (.int (nI od)), some (.int (nI d)), none]) (by decide) (Nat.le_of_ble_eq_true rfl) stZE 1 rfl ?_
  generalize hT : RV (XH D Λ I L (cpS σ 3 (drG σ (σ.2.1 3) d z od))) = T
  intro zp ze zs zm zb zt zc F hr hnm
  generalize ([.ref (Λ.1 0 38), .int z, .int (nI od), .int (nI d)] : List Value).toArray = za at F ⊢
  refine g_aload_n F dX0_goDraw_0 rfl rfl (np := 1) rfl ?_
  refine x_get F (k := 1) (v := .ref (Λ.1 0 1)) (by decide) rfl (Or.inl q178) dX0_goDraw_1 (np := 4) rfl ?_
  refine g_iload_n F dX0_goDraw_4 rfl rfl (np := 5) rfl ?_
  refine g_bipush F (v := (nI 8)) dX0_goDraw_5 (by decide) (np := 7) rfl ?_
  refine g_iushr F dX0_goDraw_7 (np := 8) rfl ?_
  refine g_aload_n F dX0_goDraw_8 rfl rfl (np := 9) rfl ?_
  refine x_get F (k := 3) (v := .int (nI (σ.1 2))) (by decide) rfl (Or.inl q180) dX0_goDraw_9 (np := 12) rfl ?_
  refine g_irem F dX0_goDraw_12 (by exact fun y => hm0 ((nI_eq (by omega) (by decide)).mp (y.trans nI_0.symm))) (np := 13) rfl ?_
  have hdr := (inN_cl (n := σ.1 2) (by omega) (drR_in z (by omega) (by omega))).1
  refine WG.eqv (st' := [.int (nI ((drR (σ.1 2) z).toNatClampNeg)), .ref (Λ.1 0 1)]) (congrArg (fun z => ([.int z, .ref (Λ.1 0 1)] : List Value)) (show (((z.toUInt32 >>> ((nI (8)).toUInt32 &&& Int32.toUInt32 31)).toInt32) - ((z.toUInt32 >>> ((nI (8)).toUInt32 &&& Int32.toUInt32 31)).toInt32) / (nI (σ.1 2)) * (nI (σ.1 2))) = (nI ((drR (σ.1 2) z).toNatClampNeg)) from by exact (inN_cl (by omega) (drR_in z (by omega) (by omega))).2)) rfl ?_
  refine x_aldP F (i := (drR (σ.1 2) z).toNatClampNeg) rfl (show ((drR (σ.1 2) z).toNatClampNeg) < σ.1 2 by omega) (show σ.1 2 ≤ 14 by omega) dX0_goDraw_13 (np := 14) rfl ?_
  refine g_astore F (lv' := [some (.ref (Λ.1 0 38)), some (.int z), some (.int (nI od)), some (.int (nI d)), some (.ref (Λ.1 2 ((drR (σ.1 2) z).toNatClampNeg)))]) dX0_goDraw_14 (by decide) rfl rfl (np := 16) rfl ?_
  refine g_aload F dX0_goDraw_16 rfl (np := 18) rfl ?_
  refine g_iload_n F dX0_goDraw_18 rfl rfl (np := 19) rfl ?_
  refine g_runV F (C := RX4) (ci := 4) (T0 := TX4) (N := 7) (rest := []) (ct_X4_isOpen σ ((drR (σ.1 2) z).toNatClampNeg) d (by first | assumption | omega)) (lw_V q820 q821 q822 q104 q823) hcV_X4_isOpen ⟨Nat.le_of_ble_eq_true rfl, Nat.le_of_ble_eq_true rfl⟩ rfl (fun h hs => ⟨_, hs.prm (show ((drR (σ.1 2) z).toNatClampNeg) < σ.1 2 by omega)⟩) rfl rfl (Nat.le_of_ble_eq_true rfl) dX0_goDraw_19 ⟨Nat.le_of_ble_eq_true rfl, Nat.le_of_ble_eq_true rfl⟩ (np := 22) rfl (k_RI ?_)
  refine g_if_eqB F dX0_goDraw_22 (tp := 51) (by decide) (np := 25) rfl (fun c22 => ?_) (fun c22 => ?_)
  · have hσ : σ = (cpS σ 3 (drG σ (σ.2.1 3) d z od)) := by unfold drG drHit gS; rw [cpS_id]; first | (rw [pif_f (fun y => c22 y.2.1), cpS_id]; done) | (rw [pif_f (fun y => y.2.2.1 c31), cpS_id]; done) | (rw [pif_f (fun y => Int32.not_lt.mpr c42 y.2.2.2), cpS_id]; done) | (rw [pif_t ⟨hm0, c22, c31, Int32.not_le.mp c42⟩, cpS_sA, cpS_id])
    exact g_vret F hr (Nat.le_of_ble_eq_true rfl) (Nat.le_of_ble_eq_true rfl) dX0_goDraw_51 (fun h hs => by rw [← hT]; exact ⟨rfl, (hσ ▸ hs)⟩)
  · refine g_aload F dX0_goDraw_25 rfl (np := 27) rfl ?_
    refine x_getP F (k := 3) (i := (drR (σ.1 2) z).toNatClampNeg) (v := .int (σ.2.1 3 (15 + ((drR (σ.1 2) z).toNatClampNeg)))) (by decide) (show ((drR (σ.1 2) z).toNatClampNeg) < σ.1 2 by omega) rfl (Or.inr ⟨_, ze339⟩) dX0_goDraw_27 (np := 30) rfl ?_
    refine g_iconst F (v := (nI 2)) dX0_goDraw_30 (by decide) (np := 31) rfl ?_
    refine g_icmp_eq F dX0_goDraw_31 (tp := 51) (by decide) (np := 34) rfl (fun c31 => ?_) (fun c31 => ?_)
    · have hσ : σ = (cpS σ 3 (drG σ (σ.2.1 3) d z od)) := by unfold drG drHit gS; rw [cpS_id]; first | (rw [pif_f (fun y => c22 y.2.1), cpS_id]; done) | (rw [pif_f (fun y => y.2.2.1 c31), cpS_id]; done) | (rw [pif_f (fun y => Int32.not_lt.mpr c42 y.2.2.2), cpS_id]; done) | (rw [pif_t ⟨hm0, c22, c31, Int32.not_le.mp c42⟩, cpS_sA, cpS_id])
      exact g_vret F hr (Nat.le_of_ble_eq_true rfl) (Nat.le_of_ble_eq_true rfl) dX0_goDraw_51 (fun h hs => by rw [← hT]; exact ⟨rfl, (hσ ▸ hs)⟩)
    · refine g_iload_n F dX0_goDraw_34 rfl rfl (np := 35) rfl ?_
      refine g_bipush F (v := (nI 16)) dX0_goDraw_35 (by decide) (np := 37) rfl ?_
      refine g_iushr F dX0_goDraw_37 (np := 38) rfl ?_
      refine g_bipush F (v := (nI 12)) dX0_goDraw_38 (by decide) (np := 40) rfl ?_
      refine g_irem F dX0_goDraw_40 (by decide) (np := 41) rfl ?_
      refine g_iload_n F dX0_goDraw_41 rfl rfl (np := 42) rfl ?_
      refine g_icmp_ge F dX0_goDraw_42 (tp := 51) (by decide) (np := 45) rfl (fun c42 => ?_) (fun c42 => ?_)
      · have hσ : σ = (cpS σ 3 (drG σ (σ.2.1 3) d z od)) := by unfold drG drHit gS; rw [cpS_id]; first | (rw [pif_f (fun y => c22 y.2.1), cpS_id]; done) | (rw [pif_f (fun y => y.2.2.1 c31), cpS_id]; done) | (rw [pif_f (fun y => Int32.not_lt.mpr c42 y.2.2.2), cpS_id]; done) | (rw [pif_t ⟨hm0, c22, c31, Int32.not_le.mp c42⟩, cpS_sA, cpS_id])
        exact g_vret F hr (Nat.le_of_ble_eq_true rfl) (Nat.le_of_ble_eq_true rfl) dX0_goDraw_51 (fun h hs => by rw [← hT]; exact ⟨rfl, (hσ ▸ hs)⟩)
      · refine g_aload F dX0_goDraw_45 rfl (np := 47) rfl ?_
        refine g_iconst F (v := (nI 1)) dX0_goDraw_47 (by decide) (np := 48) rfl ?_
        refine x_putP F (j := 6) (q := (drR (σ.1 2) z).toNatClampNeg) (by decide) (by decide) (show σ.1 2 ≤ 15 by omega) (show ((drR (σ.1 2) z).toNatClampNeg) < σ.1 2 by omega) (Or.inr ⟨_, ze345⟩) rfl rfl dX0_goDraw_48 (np := 51) rfl ?_
        have hσ : (sA σ 3 (60 + ((drR (σ.1 2) z).toNatClampNeg)) (nI (1))) = (cpS σ 3 (drG σ (σ.2.1 3) d z od)) := by unfold drG drHit gS; rw [cpS_id]; first | (rw [pif_f (fun y => c22 y.2.1), cpS_id]; done) | (rw [pif_f (fun y => y.2.2.1 c31), cpS_id]; done) | (rw [pif_f (fun y => Int32.not_lt.mpr c42 y.2.2.2), cpS_id]; done) | (rw [pif_t ⟨hm0, c22, c31, Int32.not_le.mp c42⟩, cpS_sA, cpS_id])
        exact g_vret F hr (Nat.le_of_ble_eq_true rfl) (Nat.le_of_ble_eq_true rfl) dX0_goDraw_51 (fun h hs => by rw [← hT]; exact ⟨rfl, (hσ ▸ hs)⟩)

set_option maxRecDepth 100000 in
theorem ct_X0_drawn {l : Launch} {D : va_G} {B : Nat} {Λ : LT} {I : AH} {L : LawT} (σ : MSt)  (sd : Int32) (q : Int32) (o : Int32) (hok : mOK σ L) (hm14 : σ.1 2 ≤ 14) (hbO : byOK σ) (hdn : dnOK σ) : Ct l D ZE B yX0_drawn cX0_drawn 10 (some .int) 205 4715 0 0 [.ref (Λ.1 0 38), .int sd, .int q, .int o] (XH D Λ I L σ) (RI (rDrawn L σ sd q o) (XH D Λ I L σ)) := by
  refine Ct.of (nL := 10) (lv := [some (.ref (Λ.1 0 38)), some (.int sd), some (.int q), some (.int o), none, none, none, none, none, none]) (by decide) (Nat.le_of_ble_eq_true rfl) stZE 6 rfl ?_
  generalize hT : RI (rDrawn L σ sd q o) (XH D Λ I L σ) = T
  intro zp ze zs zm zb zt zc F hr hnm
  generalize ([.ref (Λ.1 0 38), .int sd, .int q, .int o] : List Value).toArray = za at F ⊢
  have hok2 := hok
  obtain ⟨ho8, hm15, ht99, hby, hlaw⟩ := hok2
  refine g_iload_n F dX0_drawn_0 rfl rfl (np := 1) rfl ?_
  refine g_bipush F (v := (nI 100)) dX0_drawn_1 (by decide) (np := 3) rfl ?_
  refine g_idiv F dX0_drawn_3 (by decide) (np := 4) rfl ?_
  refine g_bipush F (v := (nI 100)) dX0_drawn_4 (by decide) (np := 6) rfl ?_
  refine g_irem F dX0_drawn_6 (by decide) (np := 7) rfl ?_
  refine g_istore F (lv' := [some (.ref (Λ.1 0 38)), some (.int sd), some (.int q), some (.int o), some (.int ((q / (nI (100))) - (q / (nI (100))) / (nI (100)) * (nI (100)))), none, none, none, none, none]) dX0_drawn_7 (by decide) rfl rfl (np := 9) rfl ?_
  refine g_iload_n F dX0_drawn_9 rfl rfl (np := 10) rfl ?_
  refine g_if_lt F dX0_drawn_10 (tp := 60) (by decide) (np := 13) rfl (fun c10 => ?_) (fun c10 => ?_)
  · refine g_iconst F (v := (-1)) dX0_drawn_60 (by decide) (np := 61) rfl ?_
    have hv : -1 = rDrawn L σ sd q o := by unfold rDrawn; rw [pif_f (fun z => by obtain ⟨z1, z2, z3, z4, z5⟩ := z; first | exact z1 c10 | exact c24 z2 | exact c35 z3 | exact z4 c44 | exact z5.elim c49 c57)]
    exact g_iret F hr rfl (Nat.le_of_ble_eq_true rfl) (Nat.le_of_ble_eq_true rfl) dX0_drawn_61 (fun h hs => by rw [← hT]; exact ⟨congrArg (fun z => some (Value.int z)) hv, hs⟩)
  · obtain ⟨hqe, hql⟩ := nI_cl c10
    refine WG.eqv (lv' := [some (.ref (Λ.1 0 38)), some (.int sd), some (.int q), some (.int o), some (.int (nI ((q.toNatClampNeg / 100 % 100)))), none, none, none, none, none]) rfl (congrArg (fun z => ([some (.ref (Λ.1 0 38)), some (.int sd), some (.int q), some (.int o), some (.int z), none, none, none, none, none] : List (Option Value))) (show ((q / (nI (100))) - (q / (nI (100))) / (nI (100)) * (nI (100))) = (nI ((q.toNatClampNeg / 100 % 100))) from by exact qdm hqe hql)) ?_
    refine WG.eqv (lv' := [some (.ref (Λ.1 0 38)), some (.int sd), some (.int (nI (q.toNatClampNeg))), some (.int o), some (.int (nI ((q.toNatClampNeg / 100 % 100)))), none, none, none, none, none]) rfl (congrArg (fun z => ([some (.ref (Λ.1 0 38)), some (.int sd), some (.int z), some (.int o), some (.int (nI ((q.toNatClampNeg / 100 % 100)))), none, none, none, none, none] : List (Option Value))) (show q = (nI (q.toNatClampNeg)) from by exact hqe)) ?_
    refine g_iload_n F dX0_drawn_13 rfl rfl (np := 14) rfl ?_
    refine g_sipush F (v := (nI 10000)) dX0_drawn_14 (by decide) (np := 17) rfl ?_
    refine g_idivN F (by omega) (by decide) (by decide) dX0_drawn_17 (np := 18) rfl ?_
    refine g_iconst F (v := (nI 1)) dX0_drawn_18 (by decide) (np := 19) rfl ?_
    refine g_bipush F (v := (nI 30)) dX0_drawn_19 (by decide) (np := 21) rfl ?_
    refine g_runS F (rest := []) (ct_X0_in (nI (q.toNatClampNeg / 10000)) (nI (1)) (nI (30)) ) (lw_S q298 q299 q100 q300) hcS_X0_in ⟨Nat.le_of_ble_eq_true rfl, Nat.le_of_ble_eq_true rfl⟩ rfl rfl (Nat.le_of_ble_eq_true rfl) dX0_drawn_21 ⟨Nat.le_of_ble_eq_true rfl, Nat.le_of_ble_eq_true rfl⟩ (np := 24) rfl (k_RI ?_)
    refine g_if_eqB F dX0_drawn_24 (tp := 60) (by decide) (np := 27) rfl (fun c24 => ?_) (fun c24 => ?_)
    · refine g_iconst F (v := (-1)) dX0_drawn_60 (by decide) (np := 61) rfl ?_
      have hv : -1 = rDrawn L σ sd q o := by unfold rDrawn; rw [pif_f (fun z => by obtain ⟨z1, z2, z3, z4, z5⟩ := z; first | exact z1 c10 | exact c24 z2 | exact c35 z3 | exact z4 c44 | exact z5.elim c49 c57)]
      exact g_iret F hr rfl (Nat.le_of_ble_eq_true rfl) (Nat.le_of_ble_eq_true rfl) dX0_drawn_61 (fun h hs => by rw [← hT]; exact ⟨congrArg (fun z => some (Value.int z)) hv, hs⟩)
    · refine g_iload F dX0_drawn_27 rfl (np := 29) rfl ?_
      refine g_iconst F (v := (nI 1)) dX0_drawn_29 (by decide) (np := 30) rfl ?_
      refine g_bipush F (v := (nI 40)) dX0_drawn_30 (by decide) (np := 32) rfl ?_
      refine g_runS F (rest := []) (ct_X0_in (nI ((q.toNatClampNeg / 100 % 100))) (nI (1)) (nI (40)) ) (lw_S q298 q299 q100 q300) hcS_X0_in ⟨Nat.le_of_ble_eq_true rfl, Nat.le_of_ble_eq_true rfl⟩ rfl rfl (Nat.le_of_ble_eq_true rfl) dX0_drawn_32 ⟨Nat.le_of_ble_eq_true rfl, Nat.le_of_ble_eq_true rfl⟩ (np := 35) rfl (k_RI ?_)
      refine g_if_eqB F dX0_drawn_35 (tp := 60) (by decide) (np := 38) rfl (fun c35 => ?_) (fun c35 => ?_)
      · refine g_iconst F (v := (-1)) dX0_drawn_60 (by decide) (np := 61) rfl ?_
        have hv : -1 = rDrawn L σ sd q o := by unfold rDrawn; rw [pif_f (fun z => by obtain ⟨z1, z2, z3, z4, z5⟩ := z; first | exact z1 c10 | exact c24 z2 | exact c35 z3 | exact z4 c44 | exact z5.elim c49 c57)]
        exact g_iret F hr rfl (Nat.le_of_ble_eq_true rfl) (Nat.le_of_ble_eq_true rfl) dX0_drawn_61 (fun h hs => by rw [← hT]; exact ⟨congrArg (fun z => some (Value.int z)) hv, hs⟩)
      · refine g_iload_n F dX0_drawn_38 rfl rfl (np := 39) rfl ?_
        refine g_bipush F (v := (nI 100)) dX0_drawn_39 (by decide) (np := 41) rfl ?_
        refine g_iremN F (by omega) (by decide) (by decide) dX0_drawn_41 (np := 42) rfl ?_
        refine g_bipush F (v := (nI 12)) dX0_drawn_42 (by decide) (np := 44) rfl ?_
        refine g_icmp_gtN F (by omega) (by decide) dX0_drawn_44 (tp := 60) (by decide) (np := 47) rfl (fun c44 => ?_) (fun c44 => ?_)
        · refine g_iconst F (v := (-1)) dX0_drawn_60 (by decide) (np := 61) rfl ?_
          have hv : -1 = rDrawn L σ sd q o := by unfold rDrawn; rw [pif_f (fun z => by obtain ⟨z1, z2, z3, z4, z5⟩ := z; first | exact z1 c10 | exact c24 z2 | exact c35 z3 | exact z4 c44 | exact z5.elim c49 c57)]
          exact g_iret F hr rfl (Nat.le_of_ble_eq_true rfl) (Nat.le_of_ble_eq_true rfl) dX0_drawn_61 (fun h hs => by rw [← hT]; exact ⟨congrArg (fun z => some (Value.int z)) hv, hs⟩)
        · have J62 : (drawP (σ.1 0) q o) → WG zp l ze ({ frames := 205, cells := 0, slots := 0, locals := 4715 } : Room) zs zm za zb zt zc D B 10 (MQ zb (QT D B T) za zs 0 0 (zA B)) (XH D Λ I L σ) 0 0 62 [some (.ref (Λ.1 0 38)), some (.int sd), some (.int (nI (q.toNatClampNeg))), some (.int o), some (.int (nI ((q.toNatClampNeg / 100 % 100)))), none, none, none, none, none] [] := by
            intro  hP
            refine g_iload_n F dX0_drawn_62 rfl rfl (np := 63) rfl ?_
            refine g_istore F (lv' := [some (.ref (Λ.1 0 38)), some (.int sd), some (.int (nI (q.toNatClampNeg))), some (.int o), some (.int (nI ((q.toNatClampNeg / 100 % 100)))), some (.int sd), none, none, none, none]) dX0_drawn_63 (by decide) rfl rfl (np := 65) rfl ?_
            refine g_iconst F (v := (nI 0)) dX0_drawn_65 (by decide) (np := 66) rfl ?_
            refine g_istore F (lv' := [some (.ref (Λ.1 0 38)), some (.int sd), some (.int (nI (q.toNatClampNeg))), some (.int o), some (.int (nI ((q.toNatClampNeg / 100 % 100)))), some (.int sd), some (.int (nI 0)), none, none, none]) dX0_drawn_66 (by decide) rfl rfl (np := 68) rfl ?_
            refine g_aload_n F dX0_drawn_68 rfl rfl (np := 69) rfl ?_
            refine g_runV F (C := RX0) (ci := 0) (T0 := TX0) (N := 38) (rest := []) (ct_X0_doneBits σ (by first | assumption | omega)) (lw_V q1022 q1024 qs47 q100 q1025) hcV_X0_doneBits ⟨Nat.le_of_ble_eq_true rfl, Nat.le_of_ble_eq_true rfl⟩ rfl (fun h hs => hs.obj) rfl rfl (Nat.le_of_ble_eq_true rfl) dX0_drawn_69 ⟨Nat.le_of_ble_eq_true rfl, Nat.le_of_ble_eq_true rfl⟩ (np := 72) rfl (k_RI ?_)
            refine g_istore F (lv' := [some (.ref (Λ.1 0 38)), some (.int sd), some (.int (nI (q.toNatClampNeg))), some (.int o), some (.int (nI ((q.toNatClampNeg / 100 % 100)))), some (.int sd), some (.int (nI 0)), some (.int (dBits (mP σ) (σ.1 2))), none, none]) dX0_drawn_72 (by decide) rfl rfl (np := 74) rfl ?_
            refine g_iconst F (v := (nI 0)) dX0_drawn_74 (by decide) (np := 75) rfl ?_
            refine g_istore F (lv' := [some (.ref (Λ.1 0 38)), some (.int sd), some (.int (nI (q.toNatClampNeg))), some (.int o), some (.int (nI ((q.toNatClampNeg / 100 % 100)))), some (.int sd), some (.int (nI 0)), some (.int (dBits (mP σ) (σ.1 2))), some (.int (nI 0)), none]) dX0_drawn_75 (by decide) rfl rfl (np := 77) rfl ?_
            have L77 : ∀ (zn : Nat) (y : Int32) (sm : Int32) (nn : Nat), (y = (drN σ L (q.toNatClampNeg / 100 % 100) (q.toNatClampNeg % 100) o nn sd).1) → (sm = (drN σ L (q.toNatClampNeg / 100 % 100) (q.toNatClampNeg % 100) o nn sd).2) → (nn ≤ (q.toNatClampNeg / 10000)) → (q.toNatClampNeg / 10000) - nn < zn → WG zp l ze ({ frames := 205, cells := 0, slots := 0, locals := 4715 } : Room) zs zm za zb zt zc D B 10 (MQ zb (QT D B T) za zs 0 0 (zA B)) (XH D Λ I L σ) 0 0 77 [some (.ref (Λ.1 0 38)), some (.int sd), some (.int (nI (q.toNatClampNeg))), some (.int o), some (.int (nI ((q.toNatClampNeg / 100 % 100)))), some (.int y), some (.int sm), some (.int (dBits (mP σ) (σ.1 2))), some (.int (nI nn)), none] [] := by
              intro zn
              induction zn with
              | zero => intro y sm nn n1 n2 n3 hm; exact absurd hm (Nat.not_lt_zero _)
              | succ zn ih77 =>
                intro y sm nn n1 n2 n3 hm
                refine g_iload F dX0_drawn_77 rfl (np := 79) rfl ?_
                refine g_iload_n F dX0_drawn_79 rfl rfl (np := 80) rfl ?_
                refine g_sipush F (v := (nI 10000)) dX0_drawn_80 (by decide) (np := 83) rfl ?_
                refine g_idivN F (by omega) (by decide) (by decide) dX0_drawn_83 (np := 84) rfl ?_
                refine g_icmp_geN F (by omega) (by omega) dX0_drawn_84 (tp := 183) (by decide) (np := 87) rfl (fun c84 => ?_) (fun c84 => ?_)
                · refine g_iload F dX0_drawn_183 rfl (np := 185) rfl ?_
                  have hv : sm = rDrawn L σ sd q o := by unfold rDrawn; rw [pif_t hP, n2, show nn = (q.toNatClampNeg / 10000) by omega]
                  exact g_iret F hr rfl (Nat.le_of_ble_eq_true rfl) (Nat.le_of_ble_eq_true rfl) dX0_drawn_185 (fun h hs => by rw [← hT]; exact ⟨congrArg (fun z => some (Value.int z)) hv, hs⟩)
                · refine g_iconst F (v := (nI 0)) dX0_drawn_87 (by decide) (np := 88) rfl ?_
                  refine g_istore F (lv' := [some (.ref (Λ.1 0 38)), some (.int sd), some (.int (nI (q.toNatClampNeg))), some (.int o), some (.int (nI ((q.toNatClampNeg / 100 % 100)))), some (.int y), some (.int sm), some (.int (dBits (mP σ) (σ.1 2))), some (.int (nI nn)), some (.int (nI 0))]) dX0_drawn_88 (by decide) rfl rfl (np := 90) rfl ?_
                  have L90 : ∀ (zn : Nat) (y1 : Int32) (k : Nat) (g : Nat → Int32), (y1 = (drK σ (q.toNatClampNeg % 100) k y).1) → (g = (drK σ (q.toNatClampNeg % 100) k y).2) → (k ≤ (q.toNatClampNeg / 100 % 100)) → (q.toNatClampNeg / 100 % 100) - k < zn → WG zp l ze ({ frames := 205, cells := 0, slots := 0, locals := 4715 } : Room) zs zm za zb zt zc D B 10 (MQ zb (QT D B T) za zs 0 0 (zA B)) (XH D Λ I L (cpS σ 3 g)) 0 0 90 [some (.ref (Λ.1 0 38)), some (.int sd), some (.int (nI (q.toNatClampNeg))), some (.int o), some (.int (nI ((q.toNatClampNeg / 100 % 100)))), some (.int y1), some (.int sm), some (.int (dBits (mP σ) (σ.1 2))), some (.int (nI nn)), some (.int (nI k))] [] := by
                    intro zn
                    induction zn with
                    | zero => intro y1 k g k1 k2 k4 hm; exact absurd hm (Nat.not_lt_zero _)
                    | succ zn ih90 =>
                      intro y1 k g k1 k2 k4 hm
                      refine g_iload F dX0_drawn_90 rfl (np := 92) rfl ?_
                      refine g_iload F dX0_drawn_92 rfl (np := 94) rfl ?_
                      refine g_icmp_geN F (by omega) (by omega) dX0_drawn_94 (tp := 138) (by decide) (np := 97) rfl (fun c94 => ?_) (fun c94 => ?_)
                      · refine g_iload F dX0_drawn_138 rfl (np := 140) rfl ?_
                        refine g_iload_n F dX0_drawn_140 rfl rfl (np := 141) rfl ?_
                        refine g_if_ge F dX0_drawn_141 (tp := 157) (by decide) (np := 144) rfl (fun c141 => ?_) (fun c141 => ?_)
                        · have hom : ¬ o = -1 := by rintro rfl; exact absurd c141 (by decide)
                          refine g_aload_n F dX0_drawn_157 rfl rfl (np := 158) rfl ?_
                          refine g_iload_n F dX0_drawn_158 rfl rfl (np := 159) rfl ?_
                          refine g_aload_n F dX0_drawn_159 rfl rfl (np := 160) rfl ?_
                          refine g_iload F dX0_drawn_160 rfl (np := 162) rfl ?_
                          refine g_runV F (C := RX0) (ci := 0) (T0 := TX0) (N := 38) (rest := [.int o, .ref (Λ.1 0 38), .int sm]) (ct_X0_dayBehind (cpS σ 3 g) ((q.toNatClampNeg / 100 % 100)) (by omega) (by show σ.1 6 < 2 ^ 30; omega)) (lw_V q869 q871 qs25 q100 q872) hcV_X0_dayBehind ⟨Nat.le_of_ble_eq_true rfl, Nat.le_of_ble_eq_true rfl⟩ rfl (fun h hs => hs.obj) rfl rfl (Nat.le_of_ble_eq_true rfl) dX0_drawn_162 ⟨Nat.le_of_ble_eq_true rfl, Nat.le_of_ble_eq_true rfl⟩ (np := 165) rfl (k_RI ?_)
                          refine g_runV F (C := RX0) (ci := 0) (T0 := TX0) (N := 38) (rest := [.int sm]) (ct_X0_highOf ((cpS σ 3 g)) o (day ((cpS σ 3 g).1 6) ((q.toNatClampNeg / 100 % 100))) (by exact hok.cp3 _) (by exact hm14) (by exact hbO.cp3 _)) (lw_V q877 q879 qs27 q100 q880) hcV_X0_highOf ⟨Nat.le_of_ble_eq_true rfl, Nat.le_of_ble_eq_true rfl⟩ rfl (fun h hs => hs.obj) rfl rfl (Nat.le_of_ble_eq_true rfl) dX0_drawn_165 ⟨Nat.le_of_ble_eq_true rfl, Nat.le_of_ble_eq_true rfl⟩ (np := 168) rfl (k_RI ?_)
                          refine g_iadd F dX0_drawn_168 (np := 169) rfl ?_
                          refine g_istore F (lv' := [some (.ref (Λ.1 0 38)), some (.int sd), some (.int (nI (q.toNatClampNeg))), some (.int o), some (.int (nI ((q.toNatClampNeg / 100 % 100)))), some (.int y1), some (.int (sm + (sHigh (mV ((cpS σ 3 g)) L) (day ((cpS σ 3 g).1 6) ((q.toNatClampNeg / 100 % 100))) o))), some (.int (dBits (mP σ) (σ.1 2))), some (.int (nI nn)), some (.int (nI k))]) dX0_drawn_169 (by decide) rfl rfl (np := 171) rfl ?_
                          have hg : gOK σ g := k2 ▸ drK_ok (by omega) y k
                          refine g_aload_n F dX0_drawn_171 rfl rfl (np := 172) rfl ?_
                          refine g_iload F dX0_drawn_172 rfl (np := 174) rfl ?_
                          refine g_runV F (C := RX0) (ci := 0) (T0 := TX0) (N := 38) (rest := []) (ct_X0_layDone (((cpS σ 3 g))) (dBits (mP σ) (σ.1 2)) (by exact hm14)) (lw_V q1031 q1033 qs49 q100 q1034) hcV_X0_layDone ⟨Nat.le_of_ble_eq_true rfl, Nat.le_of_ble_eq_true rfl⟩ rfl (fun h hs => hs.obj) rfl rfl (Nat.le_of_ble_eq_true rfl) dX0_drawn_174 ⟨Nat.le_of_ble_eq_true rfl, Nat.le_of_ble_eq_true rfl⟩ (np := 177) rfl (k_RV ?_)
                          refine WG.weak (S' := XH D Λ I L σ) (fun h hs => by rw [show σ = (cpS (((cpS σ 3 g))) 3 (layF (((cpS σ 3 g))) (dBits (mP σ) (σ.1 2)) ((((cpS σ 3 g))).1 2))) from by exact (lay_back hm14 hdn hg).symm]; exact hs) ?_
                          refine g_iinc F (v := (nI (nn + 1))) (lv' := [some (.ref (Λ.1 0 38)), some (.int sd), some (.int (nI (q.toNatClampNeg))), some (.int o), some (.int (nI ((q.toNatClampNeg / 100 % 100)))), some (.int y1), some (.int (sm + (sHigh (mV ((cpS σ 3 g)) L) (day ((cpS σ 3 g).1 6) ((q.toNatClampNeg / 100 % 100))) o))), some (.int (dBits (mP σ) (σ.1 2))), some (.int (nI (nn + 1))), some (.int (nI k))]) dX0_drawn_177 rfl (nI_add _ _) (by decide) rfl rfl (np := 180) rfl ?_
                          refine g_goto F dX0_drawn_180 (np := 77) (by decide) ?_
                          refine WG.dropL (i := 9) (lv' := [some (.ref (Λ.1 0 38)), some (.int sd), some (.int (nI (q.toNatClampNeg))), some (.int o), some (.int (nI ((q.toNatClampNeg / 100 % 100)))), some (.int y1), some (.int (sm + (sHigh (mV ((cpS σ 3 g)) L) (day ((cpS σ 3 g).1 6) ((q.toNatClampNeg / 100 % 100))) o))), some (.int (dBits (mP σ) (σ.1 2))), some (.int (nI (nn + 1))), none]) rfl ?_
                          exact ih77 y1 (sm + (sHigh (mV ((cpS σ 3 g)) L) (day ((cpS σ 3 g).1 6) ((q.toNatClampNeg / 100 % 100))) o)) (nn + 1) (by unfold drN; rw [← n1]; rw [k1, show k = (q.toNatClampNeg / 100 % 100) by omega]) (by unfold drN; rw [← n1, ← n2, ← show k = (q.toNatClampNeg / 100 % 100) by omega, ← k2]; first | (rw [if_pos hom]; rfl) | (rw [if_neg hom]; rfl)) (by omega) (by omega)
                        · have hom : o = -1 := hP.2.2.2.2.resolve_right (fun z => by obtain ⟨j, hj, rfl⟩ := z; exact c141 (nI_pos' (by omega)))
                          refine g_aload_n F dX0_drawn_144 rfl rfl (np := 145) rfl ?_
                          refine g_aload_n F dX0_drawn_145 rfl rfl (np := 146) rfl ?_
                          refine g_iload F dX0_drawn_146 rfl (np := 148) rfl ?_
                          refine g_runV F (C := RX0) (ci := 0) (T0 := TX0) (N := 38) (rest := [.ref (Λ.1 0 38), .int sm]) (ct_X0_dayBehind (cpS σ 3 g) ((q.toNatClampNeg / 100 % 100)) (by omega) (by show σ.1 6 < 2 ^ 30; omega)) (lw_V q869 q871 qs25 q100 q872) hcV_X0_dayBehind ⟨Nat.le_of_ble_eq_true rfl, Nat.le_of_ble_eq_true rfl⟩ rfl (fun h hs => hs.obj) rfl rfl (Nat.le_of_ble_eq_true rfl) dX0_drawn_148 ⟨Nat.le_of_ble_eq_true rfl, Nat.le_of_ble_eq_true rfl⟩ (np := 151) rfl (k_RI ?_)
                          refine g_runV F (C := RX0) (ci := 0) (T0 := TX0) (N := 38) (rest := [.int sm]) (ct_X0_allHigh ((cpS σ 3 g)) (day ((cpS σ 3 g).1 6) ((q.toNatClampNeg / 100 % 100))) (by exact hok.cp3 _) (by exact hm14) (by exact hbO.cp3 _)) (lw_V q873 q875 qs26 q100 q876) hcV_X0_allHigh ⟨Nat.le_of_ble_eq_true rfl, Nat.le_of_ble_eq_true rfl⟩ rfl (fun h hs => hs.obj) rfl rfl (Nat.le_of_ble_eq_true rfl) dX0_drawn_151 ⟨Nat.le_of_ble_eq_true rfl, Nat.le_of_ble_eq_true rfl⟩ (np := 154) rfl (k_RI ?_)
                          refine g_goto F dX0_drawn_154 (np := 168) (by decide) ?_
                          refine g_iadd F dX0_drawn_168 (np := 169) rfl ?_
                          refine g_istore F (lv' := [some (.ref (Λ.1 0 38)), some (.int sd), some (.int (nI (q.toNatClampNeg))), some (.int o), some (.int (nI ((q.toNatClampNeg / 100 % 100)))), some (.int y1), some (.int (sm + (sAll (mV ((cpS σ 3 g)) L) (day ((cpS σ 3 g).1 6) ((q.toNatClampNeg / 100 % 100))) (((cpS σ 3 g)).1 0)))), some (.int (dBits (mP σ) (σ.1 2))), some (.int (nI nn)), some (.int (nI k))]) dX0_drawn_169 (by decide) rfl rfl (np := 171) rfl ?_
                          have hg : gOK σ g := k2 ▸ drK_ok (by omega) y k
                          refine g_aload_n F dX0_drawn_171 rfl rfl (np := 172) rfl ?_
                          refine g_iload F dX0_drawn_172 rfl (np := 174) rfl ?_
                          refine g_runV F (C := RX0) (ci := 0) (T0 := TX0) (N := 38) (rest := []) (ct_X0_layDone (((cpS σ 3 g))) (dBits (mP σ) (σ.1 2)) (by exact hm14)) (lw_V q1031 q1033 qs49 q100 q1034) hcV_X0_layDone ⟨Nat.le_of_ble_eq_true rfl, Nat.le_of_ble_eq_true rfl⟩ rfl (fun h hs => hs.obj) rfl rfl (Nat.le_of_ble_eq_true rfl) dX0_drawn_174 ⟨Nat.le_of_ble_eq_true rfl, Nat.le_of_ble_eq_true rfl⟩ (np := 177) rfl (k_RV ?_)
                          refine WG.weak (S' := XH D Λ I L σ) (fun h hs => by rw [show σ = (cpS (((cpS σ 3 g))) 3 (layF (((cpS σ 3 g))) (dBits (mP σ) (σ.1 2)) ((((cpS σ 3 g))).1 2))) from by exact (lay_back hm14 hdn hg).symm]; exact hs) ?_
                          refine g_iinc F (v := (nI (nn + 1))) (lv' := [some (.ref (Λ.1 0 38)), some (.int sd), some (.int (nI (q.toNatClampNeg))), some (.int o), some (.int (nI ((q.toNatClampNeg / 100 % 100)))), some (.int y1), some (.int (sm + (sAll (mV ((cpS σ 3 g)) L) (day ((cpS σ 3 g).1 6) ((q.toNatClampNeg / 100 % 100))) (((cpS σ 3 g)).1 0)))), some (.int (dBits (mP σ) (σ.1 2))), some (.int (nI (nn + 1))), some (.int (nI k))]) dX0_drawn_177 rfl (nI_add _ _) (by decide) rfl rfl (np := 180) rfl ?_
                          refine g_goto F dX0_drawn_180 (np := 77) (by decide) ?_
                          refine WG.dropL (i := 9) (lv' := [some (.ref (Λ.1 0 38)), some (.int sd), some (.int (nI (q.toNatClampNeg))), some (.int o), some (.int (nI ((q.toNatClampNeg / 100 % 100)))), some (.int y1), some (.int (sm + (sAll (mV ((cpS σ 3 g)) L) (day ((cpS σ 3 g).1 6) ((q.toNatClampNeg / 100 % 100))) (((cpS σ 3 g)).1 0)))), some (.int (dBits (mP σ) (σ.1 2))), some (.int (nI (nn + 1))), none]) rfl ?_
                          exact ih77 y1 (sm + (sAll (mV ((cpS σ 3 g)) L) (day ((cpS σ 3 g).1 6) ((q.toNatClampNeg / 100 % 100))) (((cpS σ 3 g)).1 0))) (nn + 1) (by unfold drN; rw [← n1]; rw [k1, show k = (q.toNatClampNeg / 100 % 100) by omega]) (by unfold drN; rw [← n1, ← n2, ← show k = (q.toNatClampNeg / 100 % 100) by omega, ← k2]; first | (rw [if_pos hom]; rfl) | (rw [if_neg hom]; rfl)) (by omega) (by omega)
                      · refine g_iload F dX0_drawn_97 rfl (np := 99) rfl ?_
                        refine g_ldcw F q1026 dX0_drawn_99 (np := 102) rfl ?_
                        refine g_imul F dX0_drawn_102 (np := 103) rfl ?_
                        refine g_sipush F (v := (nI 12345)) dX0_drawn_103 (by decide) (np := 106) rfl ?_
                        refine g_iadd F dX0_drawn_106 (np := 107) rfl ?_
                        refine g_istore F (lv' := [some (.ref (Λ.1 0 38)), some (.int sd), some (.int (nI (q.toNatClampNeg))), some (.int o), some (.int (nI ((q.toNatClampNeg / 100 % 100)))), some (.int ((y1 * 1103515245) + (nI (12345)))), some (.int sm), some (.int (dBits (mP σ) (σ.1 2))), some (.int (nI nn)), some (.int (nI k))]) dX0_drawn_107 (by decide) rfl rfl (np := 109) rfl ?_
                        refine g_aload_n F dX0_drawn_109 rfl rfl (np := 110) rfl ?_
                        refine x_get F (k := 3) (v := .int (nI (σ.1 2))) (by decide) rfl (Or.inl q180) dX0_drawn_110 (np := 113) rfl ?_
                        refine g_if_le F dX0_drawn_113 (tp := 132) (by decide) (np := 116) rfl (fun c113 => ?_) (fun c113 => ?_)
                        · refine g_iinc F (v := (nI (k + 1))) (lv' := [some (.ref (Λ.1 0 38)), some (.int sd), some (.int (nI (q.toNatClampNeg))), some (.int o), some (.int (nI ((q.toNatClampNeg / 100 % 100)))), some (.int ((y1 * 1103515245) + (nI (12345)))), some (.int sm), some (.int (dBits (mP σ) (σ.1 2))), some (.int (nI nn)), some (.int (nI (k + 1)))]) dX0_drawn_132 rfl (nI_add _ _) (by decide) rfl rfl (np := 135) rfl ?_
                          refine g_goto F dX0_drawn_135 (np := 90) (by decide) ?_
                          exact ih90 ((y1 * 1103515245) + (nI (12345))) (k + 1) g (by unfold drK; rw [← k1]; rfl) (by unfold drK; rw [← k1, ← k2]; first | rfl | (unfold drG; rw [pif_f (fun z => z.1 ((nI_le0 (by omega)).mp c113))])) (by omega) (by omega)
                        · have hm0 : ¬ σ.1 2 = 0 := fun z => c113 ((nI_le0 (by omega)).mpr z)
                          refine g_aload_n F dX0_drawn_116 rfl rfl (np := 117) rfl ?_
                          refine g_iload F dX0_drawn_117 rfl (np := 119) rfl ?_
                          refine g_iload_n F dX0_drawn_119 rfl rfl (np := 120) rfl ?_
                          refine g_bipush F (v := (nI 100)) dX0_drawn_120 (by decide) (np := 122) rfl ?_
                          refine g_iremN F (by omega) (by decide) (by decide) dX0_drawn_122 (np := 123) rfl ?_
                          refine g_aload_n F dX0_drawn_123 rfl rfl (np := 124) rfl ?_
                          refine g_iload F dX0_drawn_124 rfl (np := 126) rfl ?_
                          refine g_runV F (C := RX0) (ci := 0) (T0 := TX0) (N := 38) (rest := [.int (nI (q.toNatClampNeg % 100)), .int ((y1 * 1103515245) + (nI (12345))), .ref (Λ.1 0 38)]) (ct_X0_dayBehind (cpS σ 3 g) k (by omega) (by show σ.1 6 < 2 ^ 30; omega)) (lw_V q869 q871 qs25 q100 q872) hcV_X0_dayBehind ⟨Nat.le_of_ble_eq_true rfl, Nat.le_of_ble_eq_true rfl⟩ rfl (fun h hs => hs.obj) rfl rfl (Nat.le_of_ble_eq_true rfl) dX0_drawn_126 ⟨Nat.le_of_ble_eq_true rfl, Nat.le_of_ble_eq_true rfl⟩ (np := 129) rfl (k_RI ?_)
                          refine g_runV F (C := RX0) (ci := 0) (T0 := TX0) (N := 38) (rest := []) (ct_X0_goDraw ((cpS σ 3 g)) ((y1 * 1103515245) + (nI (12345))) (q.toNatClampNeg % 100) (day ((cpS σ 3 g).1 6) k) (by exact hm14) (by exact hm0) (by omega)) (lw_V q1027 q1029 qs48 q100 q1030) hcV_X0_goDraw ⟨Nat.le_of_ble_eq_true rfl, Nat.le_of_ble_eq_true rfl⟩ rfl (fun h hs => hs.obj) rfl rfl (Nat.le_of_ble_eq_true rfl) dX0_drawn_129 ⟨Nat.le_of_ble_eq_true rfl, Nat.le_of_ble_eq_true rfl⟩ (np := 132) rfl (k_RV ?_)
                          refine WG.weak (S' := XH D Λ I L (cpS σ 3 (drG σ g (day ((cpS σ 3 g).1 6) k) ((y1 * 1103515245) + (nI (12345))) (q.toNatClampNeg % 100)))) (fun h hs => by rw [show (cpS σ 3 (drG σ g (day ((cpS σ 3 g).1 6) k) ((y1 * 1103515245) + (nI (12345))) (q.toNatClampNeg % 100))) = (cpS ((cpS σ 3 g)) 3 (drG ((cpS σ 3 g)) (((cpS σ 3 g)).2.1 3) (day ((cpS σ 3 g).1 6) k) ((y1 * 1103515245) + (nI (12345))) (q.toNatClampNeg % 100))) from by rw [cp3, drG_cp, cp_cp]]; exact hs) ?_
                          refine g_iinc F (v := (nI (k + 1))) (lv' := [some (.ref (Λ.1 0 38)), some (.int sd), some (.int (nI (q.toNatClampNeg))), some (.int o), some (.int (nI ((q.toNatClampNeg / 100 % 100)))), some (.int ((y1 * 1103515245) + (nI (12345)))), some (.int sm), some (.int (dBits (mP σ) (σ.1 2))), some (.int (nI nn)), some (.int (nI (k + 1)))]) dX0_drawn_132 rfl (nI_add _ _) (by decide) rfl rfl (np := 135) rfl ?_
                          refine g_goto F dX0_drawn_135 (np := 90) (by decide) ?_
                          exact ih90 ((y1 * 1103515245) + (nI (12345))) (k + 1) ((drG σ g (day ((cpS σ 3 g).1 6) k) ((y1 * 1103515245) + (nI (12345))) (q.toNatClampNeg % 100))) (by unfold drK; rw [← k1]; rfl) (by unfold drK; rw [← k1, ← k2]; first | rfl | (unfold drG; rw [pif_f (fun z => z.1 ((nI_le0 (by omega)).mp c113))])) (by omega) (by omega)
                  refine WG.weak (S' := XH D Λ I L (cpS σ 3 (σ.2.1 3))) (fun h hs => by rw [cpS_id]; exact hs) ?_
                  exact L90 _ y 0 ((σ.2.1 3)) (by rfl) (by rfl) (by exact Nat.zero_le _) (Nat.lt_succ_self _)
            exact L77 _ sd (nI (0)) 0 (by rfl) (by rfl) (by exact Nat.zero_le _) (Nat.lt_succ_self _)
          refine g_iload_n F dX0_drawn_47 rfl rfl (np := 48) rfl ?_
          refine g_iconst F (v := (-1)) dX0_drawn_48 (by decide) (np := 49) rfl ?_
          refine g_icmp_eq F dX0_drawn_49 (tp := 62) (by decide) (np := 52) rfl (fun c49 => ?_) (fun c49 => ?_)
          · exact J62  (by exact ⟨c10, c24, c35, c44, by first | exact Or.inl c49 | exact Or.inr c57⟩)
          · refine g_aload_n F dX0_drawn_52 rfl rfl (np := 53) rfl ?_
            refine g_iload_n F dX0_drawn_53 rfl rfl (np := 54) rfl ?_
            refine g_runV F (C := RX0) (ci := 0) (T0 := TX0) (N := 38) (rest := []) (ct_X0_isOwner σ o (by first | assumption | omega)) (lw_V q319 q321 qs1 q100 q322) hcV_X0_isOwner ⟨Nat.le_of_ble_eq_true rfl, Nat.le_of_ble_eq_true rfl⟩ rfl (fun h hs => hs.obj) rfl rfl (Nat.le_of_ble_eq_true rfl) dX0_drawn_54 ⟨Nat.le_of_ble_eq_true rfl, Nat.le_of_ble_eq_true rfl⟩ (np := 57) rfl (k_RI ?_)
            refine g_if_neB F dX0_drawn_57 (tp := 62) (by decide) (np := 60) rfl (fun c57 => ?_) (fun c57 => ?_)
            · exact J62  (by exact ⟨c10, c24, c35, c44, by first | exact Or.inl c49 | exact Or.inr c57⟩)
            · refine g_iconst F (v := (-1)) dX0_drawn_60 (by decide) (np := 61) rfl ?_
              have hv : -1 = rDrawn L σ sd q o := by unfold rDrawn; rw [pif_f (fun z => by obtain ⟨z1, z2, z3, z4, z5⟩ := z; first | exact z1 c10 | exact c24 z2 | exact c35 z3 | exact z4 c44 | exact z5.elim c49 c57)]
              exact g_iret F hr rfl (Nat.le_of_ble_eq_true rfl) (Nat.le_of_ble_eq_true rfl) dX0_drawn_61 (fun h hs => by rw [← hT]; exact ⟨congrArg (fun z => some (Value.int z)) hv, hs⟩)

set_option maxRecDepth 100000 in
theorem ct_X0_does {l : Launch} {D : va_G} {B : Nat} {Λ : LT} {I : AH} {L : LawT} (σ : MSt)  (p : Int32) (o : Int32) (hok : mOK σ L) (hm14 : σ.1 2 ≤ 14) (hbO : byOK σ) : Ct l D ZE B yX0_does cX0_does 4 (some .int) 2 43 0 0 [.ref (Λ.1 0 38), .int p, .int o] (XH D Λ I L σ) (RI (rDoes (mV σ L) (σ.1 6) (σ.1 0) p o) (XH D Λ I L (gDoes σ L p o))) := by
  refine Ct.of (nL := 4) (lv := [some (.ref (Λ.1 0 38)), some (.int p), some (.int o), none]) (by decide) (Nat.le_of_ble_eq_true rfl) stZE 1 rfl ?_
  generalize hT : RI (rDoes (mV σ L) (σ.1 6) (σ.1 0) p o) (XH D Λ I L (gDoes σ L p o)) = T
  intro zp ze zs zm zb zt zc F hr hnm
  generalize ([.ref (Λ.1 0 38), .int p, .int o] : List Value).toArray = za at F ⊢
  have hok2 := hok
  obtain ⟨ho8, hm15, ht99, hby, hlaw⟩ := hok2
  refine g_aload_n F dX0_does_0 rfl rfl (np := 1) rfl ?_
  refine g_iload_n F dX0_does_1 rfl rfl (np := 2) rfl ?_
  refine g_runV F (C := RX0) (ci := 0) (T0 := TX0) (N := 38) (rest := []) (ct_X0_isPromise σ p (by first | assumption | omega)) (lw_V q521 q523 qs7 q100 q524) hcV_X0_isPromise ⟨Nat.le_of_ble_eq_true rfl, Nat.le_of_ble_eq_true rfl⟩ rfl (fun h hs => hs.obj) rfl rfl (Nat.le_of_ble_eq_true rfl) dX0_does_2 ⟨Nat.le_of_ble_eq_true rfl, Nat.le_of_ble_eq_true rfl⟩ (np := 5) rfl (k_RI ?_)
  refine g_if_eqB F dX0_does_5 (tp := 16) (by decide) (np := 8) rfl (fun c5 => ?_) (fun c5 => ?_)
  · refine g_iconst F (v := (-1)) dX0_does_16 (by decide) (np := 17) rfl ?_
    have hσ : σ = (gDoes σ L p o) := by first | (unfold gDoes; rw [pif_f (fun z => c5 z.1)]; done) | (unfold gDoes; rw [pif_f (fun z => c13 z.2.1)]; done)
    have hv : -1 = rDoes (mV σ L) (σ.1 6) (σ.1 0) p o := by first | (unfold rDoes; rw [pif_f (fun z => c5 z.1)]; done) | (unfold rDoes; rw [pif_f (fun z => c13 z.2)]; done)
    exact g_iret F hr rfl (Nat.le_of_ble_eq_true rfl) (Nat.le_of_ble_eq_true rfl) dX0_does_17 (fun h hs => by rw [← hT]; exact ⟨congrArg (fun z => some (Value.int z)) hv, (hσ ▸ hs)⟩)
  · refine g_aload_n F dX0_does_8 rfl rfl (np := 9) rfl ?_
    refine g_iload_n F dX0_does_9 rfl rfl (np := 10) rfl ?_
    refine g_runV F (C := RX0) (ci := 0) (T0 := TX0) (N := 38) (rest := []) (ct_X0_isOwner σ o (by first | assumption | omega)) (lw_V q319 q321 qs1 q100 q322) hcV_X0_isOwner ⟨Nat.le_of_ble_eq_true rfl, Nat.le_of_ble_eq_true rfl⟩ rfl (fun h hs => hs.obj) rfl rfl (Nat.le_of_ble_eq_true rfl) dX0_does_10 ⟨Nat.le_of_ble_eq_true rfl, Nat.le_of_ble_eq_true rfl⟩ (np := 13) rfl (k_RI ?_)
    refine g_if_neB F dX0_does_13 (tp := 18) (by decide) (np := 16) rfl (fun c13 => ?_) (fun c13 => ?_)
    · obtain ⟨hpl, hpe⟩ := inN_cl (by omega) c5
      obtain ⟨hol, hoe⟩ := inN_cl (by omega) c13
      refine WG.eqv (lv' := [some (.ref (Λ.1 0 38)), some (.int (nI (p.toNatClampNeg))), some (.int o), none]) rfl (congrArg (fun z => ([some (.ref (Λ.1 0 38)), some (.int z), some (.int o), none] : List (Option Value))) (show p = (nI (p.toNatClampNeg)) from by exact hpe)) ?_
      refine WG.eqv (lv' := [some (.ref (Λ.1 0 38)), some (.int (nI (p.toNatClampNeg))), some (.int (nI (o.toNatClampNeg))), none]) rfl (congrArg (fun z => ([some (.ref (Λ.1 0 38)), some (.int (nI (p.toNatClampNeg))), some (.int z), none] : List (Option Value))) (show o = (nI (o.toNatClampNeg)) from by exact hoe)) ?_
      refine g_aload_n F dX0_does_18 rfl rfl (np := 19) rfl ?_
      refine x_get F (k := 1) (v := .ref (Λ.1 0 1)) (by decide) rfl (Or.inl q178) dX0_does_19 (np := 22) rfl ?_
      refine g_iload_n F dX0_does_22 rfl rfl (np := 23) rfl ?_
      refine x_aldP F (i := p.toNatClampNeg) rfl (show p.toNatClampNeg < σ.1 2 by omega) (show σ.1 2 ≤ 14 by omega) dX0_does_23 (np := 24) rfl ?_
      refine g_astore_n F (lv' := [some (.ref (Λ.1 0 38)), some (.int (nI (p.toNatClampNeg))), some (.int (nI (o.toNatClampNeg))), some (.ref (Λ.1 2 p.toNatClampNeg))]) dX0_does_24 rfl (by decide) rfl rfl (np := 25) rfl ?_
      refine g_aload_n F dX0_does_25 rfl rfl (np := 26) rfl ?_
      refine g_aload_n F dX0_does_26 rfl rfl (np := 27) rfl ?_
      refine x_get F (k := 4) (v := .int (nI (σ.1 6))) (by decide) rfl (Or.inl q181) dX0_does_27 (np := 30) rfl ?_
      refine g_runV F (C := RX4) (ci := 4) (T0 := TX4) (N := 7) (rest := []) (ct_X4_isOpen σ p.toNatClampNeg (σ.1 6) (by first | assumption | omega)) (lw_V q820 q821 q822 q104 q823) hcV_X4_isOpen ⟨Nat.le_of_ble_eq_true rfl, Nat.le_of_ble_eq_true rfl⟩ rfl (fun h hs => ⟨_, hs.prm (show p.toNatClampNeg < σ.1 2 by omega)⟩) rfl rfl (Nat.le_of_ble_eq_true rfl) dX0_does_30 ⟨Nat.le_of_ble_eq_true rfl, Nat.le_of_ble_eq_true rfl⟩ (np := 33) rfl (k_RI ?_)
      refine g_if_eqB F dX0_does_33 (tp := 60) (by decide) (np := 36) rfl (fun c33 => ?_) (fun c33 => ?_)
      · have hd : ¬ dOK (mV σ L) (σ.1 6) (σ.1 0) p o := by
          rintro ⟨d1, d2, d3⟩
          have d2 : ¬ mP σ p.toNatClampNeg 3 = nI 2 := d2
          have d3 : mP σ p.toNatClampNeg 2 ≤ σ.2.1 1 o.toNatClampNeg := d3
          rw [mP_3] at d2
          rw [mP_2] at d3
          first | exact c33 d1 | exact d2 c41 | exact c57 d3
        refine g_bipush F (v := (-5)) dX0_does_60 (by decide) (np := 62) rfl ?_
        have hσ : σ = (gDoes σ L p o) := by unfold gDoes; rw [pif_f (fun z => hd z.2.2)]
        have hv : -5 = rDoes (mV σ L) (σ.1 6) (σ.1 0) p o := by unfold rDoes; rw [pif_t ⟨c5, c13⟩, pif_f hd]
        exact g_iret F hr rfl (Nat.le_of_ble_eq_true rfl) (Nat.le_of_ble_eq_true rfl) dX0_does_62 (fun h hs => by rw [← hT]; exact ⟨congrArg (fun z => some (Value.int z)) hv, (hσ ▸ hs)⟩)
      · refine g_aload_n F dX0_does_36 rfl rfl (np := 37) rfl ?_
        refine x_getP F (k := 3) (i := p.toNatClampNeg) (v := .int (σ.2.1 3 (15 + p.toNatClampNeg))) (by decide) (show p.toNatClampNeg < σ.1 2 by omega) rfl (Or.inr ⟨_, ze339⟩) dX0_does_37 (np := 40) rfl ?_
        refine g_iconst F (v := (nI 2)) dX0_does_40 (by decide) (np := 41) rfl ?_
        refine g_icmp_eq F dX0_does_41 (tp := 60) (by decide) (np := 44) rfl (fun c41 => ?_) (fun c41 => ?_)
        · have hd : ¬ dOK (mV σ L) (σ.1 6) (σ.1 0) p o := by
            rintro ⟨d1, d2, d3⟩
            have d2 : ¬ mP σ p.toNatClampNeg 3 = nI 2 := d2
            have d3 : mP σ p.toNatClampNeg 2 ≤ σ.2.1 1 o.toNatClampNeg := d3
            rw [mP_3] at d2
            rw [mP_2] at d3
            first | exact c33 d1 | exact d2 c41 | exact c57 d3
          refine g_bipush F (v := (-5)) dX0_does_60 (by decide) (np := 62) rfl ?_
          have hσ : σ = (gDoes σ L p o) := by unfold gDoes; rw [pif_f (fun z => hd z.2.2)]
          have hv : -5 = rDoes (mV σ L) (σ.1 6) (σ.1 0) p o := by unfold rDoes; rw [pif_t ⟨c5, c13⟩, pif_f hd]
          exact g_iret F hr rfl (Nat.le_of_ble_eq_true rfl) (Nat.le_of_ble_eq_true rfl) dX0_does_62 (fun h hs => by rw [← hT]; exact ⟨congrArg (fun z => some (Value.int z)) hv, (hσ ▸ hs)⟩)
        · refine g_aload_n F dX0_does_44 rfl rfl (np := 45) rfl ?_
          refine x_get F (k := 0) (v := .ref (Λ.1 0 0)) (by decide) rfl (Or.inl q177) dX0_does_45 (np := 48) rfl ?_
          refine g_iload_n F dX0_does_48 rfl rfl (np := 49) rfl ?_
          refine x_aldO F (i := o.toNatClampNeg) rfl (show o.toNatClampNeg < σ.1 0 by omega) (show σ.1 0 ≤ 8 by omega) dX0_does_49 (np := 50) rfl ?_
          refine x_getO F (i := o.toNatClampNeg) (v := σ.2.1 1 o.toNatClampNeg) (show o.toNatClampNeg < σ.1 0 by omega) rfl (Or.inr ⟨_, ze307⟩) dX0_does_50 (np := 53) rfl ?_
          refine g_aload_n F dX0_does_53 rfl rfl (np := 54) rfl ?_
          refine x_getP F (k := 2) (i := p.toNatClampNeg) (v := .int (σ.2.1 3 p.toNatClampNeg)) (by decide) (show p.toNatClampNeg < σ.1 2 by omega) rfl (Or.inr ⟨_, ze337⟩) dX0_does_54 (np := 57) rfl ?_
          refine g_icmp_ge F dX0_does_57 (tp := 63) (by decide) (np := 60) rfl (fun c57 => ?_) (fun c57 => ?_)
          · have hd : dOK (mV σ L) (σ.1 6) (σ.1 0) p o := ⟨c33, by show ¬ mP σ _ 3 = _; rw [mP_3]; exact c41, by show mP σ _ 2 ≤ _; rw [mP_2]; exact c57⟩
            refine g_aload_n F dX0_does_63 rfl rfl (np := 64) rfl ?_
            refine g_iconst F (v := (nI 1)) dX0_does_64 (by decide) (np := 65) rfl ?_
            refine x_putP F (j := 6) (q := p.toNatClampNeg) (by decide) (by decide) (show σ.1 2 ≤ 15 by omega) (show p.toNatClampNeg < σ.1 2 by omega) (Or.inr ⟨_, ze345⟩) rfl rfl dX0_does_65 (np := 68) rfl ?_
            refine g_aload_n F dX0_does_68 rfl rfl (np := 69) rfl ?_
            refine x_get F (k := 0) (v := .ref (Λ.1 0 0)) (by decide) rfl (Or.inl q177) dX0_does_69 (np := 72) rfl ?_
            refine g_iload_n F dX0_does_72 rfl rfl (np := 73) rfl ?_
            refine x_aldO F (i := o.toNatClampNeg) rfl (show o.toNatClampNeg < σ.1 0 by omega) (show σ.1 0 ≤ 8 by omega) dX0_does_73 (np := 74) rfl ?_
            refine g_dup F dX0_does_74 rfl (np := 75) rfl ?_
            refine x_getO F (i := o.toNatClampNeg) (v := σ.2.1 1 o.toNatClampNeg) (show o.toNatClampNeg < σ.1 0 by omega) rfl (Or.inr ⟨_, ze307⟩) dX0_does_75 (np := 78) rfl ?_
            refine g_aload_n F dX0_does_78 rfl rfl (np := 79) rfl ?_
            refine x_getP F (k := 2) (i := p.toNatClampNeg) (v := .int (σ.2.1 3 p.toNatClampNeg)) (by decide) (show p.toNatClampNeg < σ.1 2 by omega) (congrArg (fun z => some (Value.int z)) (by show (sA σ 3 (60 + p.toNatClampNeg) (nI (1))).2.1 3 p.toNatClampNeg = σ.2.1 3 p.toNatClampNeg; rw [sA_2, if_neg (by omega)])) (Or.inr ⟨_, ze337⟩) dX0_does_79 (np := 82) rfl ?_
            refine g_isub F dX0_does_82 (np := 83) rfl ?_
            refine x_putO F (i := o.toNatClampNeg) (show o.toNatClampNeg < σ.1 0 by omega) (Or.inr ⟨_, ze307⟩) dX0_does_83 (np := 86) rfl ?_
            refine g_aload_n F dX0_does_86 rfl rfl (np := 87) rfl ?_
            refine g_dup F dX0_does_87 rfl (np := 88) rfl ?_
            refine x_get F (k := 18) (v := .int (σ.2.1 25 1)) (by decide) rfl (Or.inl q197) dX0_does_88 (np := 91) rfl ?_
            refine g_iconst F (v := (nI 1)) dX0_does_91 (by decide) (np := 92) rfl ?_
            refine g_iadd F dX0_does_92 (np := 93) rfl ?_
            refine x_put F (k := 18) (ty := .int) (by decide) (PutXH.ofA (n := 25) (i := 1) (x := (σ.2.1 25 1) + (nI (1))) (fun _ _ _ => rfl) rfl) rfl rfl rfl rfl (Or.inl q197) dX0_does_93 (np := 96) rfl ?_
            refine g_aload_n F dX0_does_96 rfl rfl (np := 97) rfl ?_
            refine g_dup F dX0_does_97 rfl (np := 98) rfl ?_
            refine x_get F (k := 20) (v := .int (σ.2.1 25 3)) (by decide) rfl (Or.inl q199) dX0_does_98 (np := 101) rfl ?_
            refine g_aload_n F dX0_does_101 rfl rfl (np := 102) rfl ?_
            refine x_getP F (k := 2) (i := p.toNatClampNeg) (v := .int (σ.2.1 3 p.toNatClampNeg)) (by decide) (show p.toNatClampNeg < σ.1 2 by omega) (congrArg (fun z => some (Value.int z)) (by show (sA σ 3 (60 + p.toNatClampNeg) (nI (1))).2.1 3 p.toNatClampNeg = σ.2.1 3 p.toNatClampNeg; rw [sA_2, if_neg (by omega)])) (Or.inr ⟨_, ze337⟩) dX0_does_102 (np := 105) rfl ?_
            refine g_iadd F dX0_does_105 (np := 106) rfl ?_
            refine x_put F (k := 20) (ty := .int) (by decide) (PutXH.ofA (n := 25) (i := 3) (x := (σ.2.1 25 3) + (σ.2.1 3 p.toNatClampNeg)) (fun _ _ _ => rfl) rfl) rfl rfl rfl rfl (Or.inl q199) dX0_does_106 (np := 109) rfl ?_
            refine g_aload_n F dX0_does_109 rfl rfl (np := 110) rfl ?_
            refine x_get F (k := 0) (v := .ref (Λ.1 0 0)) (by decide) rfl (Or.inl q177) dX0_does_110 (np := 113) rfl ?_
            refine g_iload_n F dX0_does_113 rfl rfl (np := 114) rfl ?_
            refine x_aldO F (i := o.toNatClampNeg) rfl (show o.toNatClampNeg < σ.1 0 by omega) (show σ.1 0 ≤ 8 by omega) dX0_does_114 (np := 115) rfl ?_
            refine x_getO F (i := o.toNatClampNeg) (v := (σ.2.1 1 o.toNatClampNeg) - (σ.2.1 3 p.toNatClampNeg)) (show o.toNatClampNeg < σ.1 0 by omega) (by show (sA (sA σ 3 (60 + p.toNatClampNeg) (nI (1))) 1 o.toNatClampNeg ((σ.2.1 1 o.toNatClampNeg) - (σ.2.1 3 p.toNatClampNeg))).2.1 1 o.toNatClampNeg = (σ.2.1 1 o.toNatClampNeg) - (σ.2.1 3 p.toNatClampNeg); rw [sA_2, if_pos ⟨rfl, rfl⟩]) (Or.inr ⟨_, ze307⟩) dX0_does_115 (np := 118) rfl ?_
            have hσ : (sA (sA (sA (sA σ 3 (60 + p.toNatClampNeg) (nI (1))) 1 o.toNatClampNeg ((σ.2.1 1 o.toNatClampNeg) - (σ.2.1 3 p.toNatClampNeg))) 25 1 ((σ.2.1 25 1) + (nI (1)))) 25 3 ((σ.2.1 25 3) + (σ.2.1 3 p.toNatClampNeg))) = (gDoes σ L p o) := by unfold gDoes; rw [pif_t ⟨c5, c13, hd⟩]; rfl
            have hv : (σ.2.1 1 o.toNatClampNeg) - (σ.2.1 3 p.toNatClampNeg) = rDoes (mV σ L) (σ.1 6) (σ.1 0) p o := by unfold rDoes; rw [pif_t ⟨c5, c13⟩, pif_t hd]; show _ = σ.2.1 1 _ - mP σ _ 2; rw [mP_2]
            exact g_iret F hr rfl (Nat.le_of_ble_eq_true rfl) (Nat.le_of_ble_eq_true rfl) dX0_does_118 (fun h hs => by rw [← hT]; exact ⟨congrArg (fun z => some (Value.int z)) hv, (hσ ▸ hs)⟩)
          · have hd : ¬ dOK (mV σ L) (σ.1 6) (σ.1 0) p o := by
              rintro ⟨d1, d2, d3⟩
              have d2 : ¬ mP σ p.toNatClampNeg 3 = nI 2 := d2
              have d3 : mP σ p.toNatClampNeg 2 ≤ σ.2.1 1 o.toNatClampNeg := d3
              rw [mP_3] at d2
              rw [mP_2] at d3
              first | exact c33 d1 | exact d2 c41 | exact c57 d3
            refine g_bipush F (v := (-5)) dX0_does_60 (by decide) (np := 62) rfl ?_
            have hσ : σ = (gDoes σ L p o) := by unfold gDoes; rw [pif_f (fun z => hd z.2.2)]
            have hv : -5 = rDoes (mV σ L) (σ.1 6) (σ.1 0) p o := by unfold rDoes; rw [pif_t ⟨c5, c13⟩, pif_f hd]
            exact g_iret F hr rfl (Nat.le_of_ble_eq_true rfl) (Nat.le_of_ble_eq_true rfl) dX0_does_62 (fun h hs => by rw [← hT]; exact ⟨congrArg (fun z => some (Value.int z)) hv, (hσ ▸ hs)⟩)
    · refine g_iconst F (v := (-1)) dX0_does_16 (by decide) (np := 17) rfl ?_
      have hσ : σ = (gDoes σ L p o) := by first | (unfold gDoes; rw [pif_f (fun z => c5 z.1)]; done) | (unfold gDoes; rw [pif_f (fun z => c13 z.2.1)]; done)
      have hv : -1 = rDoes (mV σ L) (σ.1 6) (σ.1 0) p o := by first | (unfold rDoes; rw [pif_f (fun z => c5 z.1)]; done) | (unfold rDoes; rw [pif_f (fun z => c13 z.2)]; done)
      exact g_iret F hr rfl (Nat.le_of_ble_eq_true rfl) (Nat.le_of_ble_eq_true rfl) dX0_does_17 (fun h hs => by rw [← hT]; exact ⟨congrArg (fun z => some (Value.int z)) hv, (hσ ▸ hs)⟩)

set_option maxRecDepth 100000 in
theorem ct_X0_release {l : Launch} {D : va_G} {B : Nat} {Λ : LT} {I : AH} {L : LawT} (σ : MSt)  (p : Int32) (hok : mOK σ L) (hm14 : σ.1 2 ≤ 14) (hbO : byOK σ) : Ct l D ZE B yX0_release cX0_release 3 (some .int) 204 4692 0 0 [.ref (Λ.1 0 38), .int p] (XH D Λ I L σ) (RI (rRel (mV σ L) (σ.1 6) p) (XH D Λ I L (gRel σ p))) := by
  refine Ct.of (nL := 3) (lv := [some (.ref (Λ.1 0 38)), some (.int p), none]) (by decide) (Nat.le_of_ble_eq_true rfl) stZE 1 rfl ?_
  generalize hT : RI (rRel (mV σ L) (σ.1 6) p) (XH D Λ I L (gRel σ p)) = T
  intro zp ze zs zm zb zt zc F hr hnm
  generalize ([.ref (Λ.1 0 38), .int p] : List Value).toArray = za at F ⊢
  have hok2 := hok
  obtain ⟨ho8, hm15, ht99, hby, hlaw⟩ := hok2
  refine g_aload_n F dX0_release_0 rfl rfl (np := 1) rfl ?_
  refine g_iload_n F dX0_release_1 rfl rfl (np := 2) rfl ?_
  refine g_runV F (C := RX0) (ci := 0) (T0 := TX0) (N := 38) (rest := []) (ct_X0_isPromise σ p (by first | assumption | omega)) (lw_V q521 q523 qs7 q100 q524) hcV_X0_isPromise ⟨Nat.le_of_ble_eq_true rfl, Nat.le_of_ble_eq_true rfl⟩ rfl (fun h hs => hs.obj) rfl rfl (Nat.le_of_ble_eq_true rfl) dX0_release_2 ⟨Nat.le_of_ble_eq_true rfl, Nat.le_of_ble_eq_true rfl⟩ (np := 5) rfl (k_RI ?_)
  refine g_if_neB F dX0_release_5 (tp := 10) (by decide) (np := 8) rfl (fun c5 => ?_) (fun c5 => ?_)
  · obtain ⟨hpl, hpe⟩ := inN_cl (by omega) c5
    refine WG.eqv (lv' := [some (.ref (Λ.1 0 38)), some (.int (nI (p.toNatClampNeg))), none]) rfl (congrArg (fun z => ([some (.ref (Λ.1 0 38)), some (.int z), none] : List (Option Value))) (show p = (nI (p.toNatClampNeg)) from by exact hpe)) ?_
    refine g_aload_n F dX0_release_10 rfl rfl (np := 11) rfl ?_
    refine x_get F (k := 1) (v := .ref (Λ.1 0 1)) (by decide) rfl (Or.inl q178) dX0_release_11 (np := 14) rfl ?_
    refine g_iload_n F dX0_release_14 rfl rfl (np := 15) rfl ?_
    refine x_aldP F (i := p.toNatClampNeg) rfl (show p.toNatClampNeg < σ.1 2 by omega) (show σ.1 2 ≤ 14 by omega) dX0_release_15 (np := 16) rfl ?_
    refine g_astore_n F (lv' := [some (.ref (Λ.1 0 38)), some (.int (nI (p.toNatClampNeg))), some (.ref (Λ.1 2 p.toNatClampNeg))]) dX0_release_16 rfl (by decide) rfl rfl (np := 17) rfl ?_
    refine g_aload_n F dX0_release_17 rfl rfl (np := 18) rfl ?_
    refine g_aload_n F dX0_release_18 rfl rfl (np := 19) rfl ?_
    refine x_get F (k := 4) (v := .int (nI (σ.1 6))) (by decide) rfl (Or.inl q181) dX0_release_19 (np := 22) rfl ?_
    refine g_runV F (C := RX4) (ci := 4) (T0 := TX4) (N := 7) (rest := []) (ct_X4_isOpen σ p.toNatClampNeg (σ.1 6) (by first | assumption | omega)) (lw_V q820 q821 q822 q104 q823) hcV_X4_isOpen ⟨Nat.le_of_ble_eq_true rfl, Nat.le_of_ble_eq_true rfl⟩ rfl (fun h hs => ⟨_, hs.prm (show p.toNatClampNeg < σ.1 2 by omega)⟩) rfl rfl (Nat.le_of_ble_eq_true rfl) dX0_release_22 ⟨Nat.le_of_ble_eq_true rfl, Nat.le_of_ble_eq_true rfl⟩ (np := 25) rfl (k_RI ?_)
    refine g_if_eqB F dX0_release_25 (tp := 35) (by decide) (np := 28) rfl (fun c25 => ?_) (fun c25 => ?_)
    · refine g_bipush F (v := (-5)) dX0_release_35 (by decide) (np := 37) rfl ?_
      have hσ : σ = (gRel σ p) := by unfold gRel; first | (rw [pif_f (fun z => c25 z.2.1)]; done) | (rw [pif_f (fun z => z.2.2 (Int32.not_le.mp c32))]; done)
      have hv : -5 = rRel (mV σ L) (σ.1 6) p := by unfold rRel; rw [pif_t (P := inN p (mV σ L).2.2.1) c5]; first | (rw [pif_f (fun z => c25 z.1)]; done) | (rw [pif_f (fun z => z.2 (Int32.not_le.mp c32))]; done)
      exact g_iret F hr rfl (Nat.le_of_ble_eq_true rfl) (Nat.le_of_ble_eq_true rfl) dX0_release_37 (fun h hs => by rw [← hT]; exact ⟨congrArg (fun z => some (Value.int z)) hv, (hσ ▸ hs)⟩)
    · refine g_aload_n F dX0_release_28 rfl rfl (np := 29) rfl ?_
      refine x_getP F (k := 1) (i := p.toNatClampNeg) (v := .int (σ.2.1 5 p.toNatClampNeg)) (by decide) (show p.toNatClampNeg < σ.1 2 by omega) rfl (Or.inr ⟨_, ze335⟩) dX0_release_29 (np := 32) rfl ?_
      refine g_if_ge F dX0_release_32 (tp := 38) (by decide) (np := 35) rfl (fun c32 => ?_) (fun c32 => ?_)
      · refine g_aload_n F dX0_release_38 rfl rfl (np := 39) rfl ?_
        refine g_iconst F (v := (nI 1)) dX0_release_39 (by decide) (np := 40) rfl ?_
        refine x_putP F (j := 6) (q := p.toNatClampNeg) (by decide) (by decide) (show σ.1 2 ≤ 15 by omega) (show p.toNatClampNeg < σ.1 2 by omega) (Or.inr ⟨_, ze345⟩) rfl rfl dX0_release_40 (np := 43) rfl ?_
        refine g_aload_n F dX0_release_43 rfl rfl (np := 44) rfl ?_
        refine g_dup F dX0_release_44 rfl (np := 45) rfl ?_
        refine x_get F (k := 19) (v := .int (σ.2.1 25 2)) (by decide) rfl (Or.inl q198) dX0_release_45 (np := 48) rfl ?_
        refine g_iconst F (v := (nI 1)) dX0_release_48 (by decide) (np := 49) rfl ?_
        refine g_iadd F dX0_release_49 (np := 50) rfl ?_
        refine x_put F (k := 19) (ty := .int) (by decide) (PutXH.ofA (n := 25) (i := 2) (x := (σ.2.1 25 2) + (nI (1))) (fun _ _ _ => rfl) rfl) rfl rfl rfl rfl (Or.inl q198) dX0_release_50 (np := 53) rfl ?_
        refine g_aload_n F dX0_release_53 rfl rfl (np := 54) rfl ?_
        refine g_aload_n F dX0_release_54 rfl rfl (np := 55) rfl ?_
        refine x_getP F (k := 0) (i := p.toNatClampNeg) (v := .int (σ.2.1 4 p.toNatClampNeg)) (by decide) (show p.toNatClampNeg < σ.1 2 by omega) rfl (Or.inr ⟨_, ze333⟩) dX0_release_55 (np := 58) rfl ?_
        refine g_aload_n F dX0_release_58 rfl rfl (np := 59) rfl ?_
        refine x_get F (k := 4) (v := .int (nI (σ.1 6))) (by decide) rfl (Or.inl q181) dX0_release_59 (np := 62) rfl ?_
        refine g_runV F (C := RX0) (ci := 0) (T0 := TX0) (N := 38) (rest := []) (ct_X0_highOf (sA (sA σ 3 (60 + p.toNatClampNeg) (nI (1))) 25 2 ((σ.2.1 25 2) + (nI (1)))) (σ.2.1 4 p.toNatClampNeg) (σ.1 6) (by exact (hok.sA3 _ _).sA25 _ _) (by exact hm14) (by exact hbO.same rfl rfl rfl)) (lw_V q877 q879 qs27 q100 q880) hcV_X0_highOf ⟨Nat.le_of_ble_eq_true rfl, Nat.le_of_ble_eq_true rfl⟩ rfl (fun h hs => hs.obj) rfl rfl (Nat.le_of_ble_eq_true rfl) dX0_release_62 ⟨Nat.le_of_ble_eq_true rfl, Nat.le_of_ble_eq_true rfl⟩ (np := 65) rfl (k_RI ?_)
        have hσ : ((sA (sA σ 3 (60 + p.toNatClampNeg) (nI (1))) 25 2 ((σ.2.1 25 2) + (nI (1))))) = (gRel σ p) := by unfold gRel; rw [pif_t ⟨c5, c25, Int32.not_lt.mpr c32⟩]; rfl
        have hv : sHigh (mV (sA (sA σ 3 (60 + p.toNatClampNeg) (nI (1))) 25 2 ((σ.2.1 25 2) + (nI (1)))) L) (σ.1 6) (σ.2.1 4 p.toNatClampNeg) = rRel (mV σ L) (σ.1 6) p := by unfold rRel; rw [pif_t (P := inN p (mV σ L).2.2.1) c5, pif_t ⟨c25, Int32.not_lt.mpr c32⟩]; exact rel_high (by omega) (by omega) _ _
        exact g_iret F hr rfl (Nat.le_of_ble_eq_true rfl) (Nat.le_of_ble_eq_true rfl) dX0_release_65 (fun h hs => by rw [← hT]; exact ⟨congrArg (fun z => some (Value.int z)) hv, (hσ ▸ hs)⟩)
      · refine g_bipush F (v := (-5)) dX0_release_35 (by decide) (np := 37) rfl ?_
        have hσ : σ = (gRel σ p) := by unfold gRel; first | (rw [pif_f (fun z => c25 z.2.1)]; done) | (rw [pif_f (fun z => z.2.2 (Int32.not_le.mp c32))]; done)
        have hv : -5 = rRel (mV σ L) (σ.1 6) p := by unfold rRel; rw [pif_t (P := inN p (mV σ L).2.2.1) c5]; first | (rw [pif_f (fun z => c25 z.1)]; done) | (rw [pif_f (fun z => z.2 (Int32.not_le.mp c32))]; done)
        exact g_iret F hr rfl (Nat.le_of_ble_eq_true rfl) (Nat.le_of_ble_eq_true rfl) dX0_release_37 (fun h hs => by rw [← hT]; exact ⟨congrArg (fun z => some (Value.int z)) hv, (hσ ▸ hs)⟩)
  · refine g_iconst F (v := (-1)) dX0_release_8 (by decide) (np := 9) rfl ?_
    have hσ : σ = (gRel σ p) := by unfold gRel; rw [pif_f (fun z => c5 z.1)]
    have hv : -1 = rRel (mV σ L) (σ.1 6) p := by unfold rRel; rw [pif_f (P := inN p (mV σ L).2.2.1) c5]
    exact g_iret F hr rfl (Nat.le_of_ble_eq_true rfl) (Nat.le_of_ble_eq_true rfl) dX0_release_9 (fun h hs => by rw [← hT]; exact ⟨congrArg (fun z => some (Value.int z)) hv, (hσ ▸ hs)⟩)

set_option maxRecDepth 100000 in
theorem ct_X0_days {l : Launch} {D : va_G} {B : Nat} {Λ : LT} {I : AH} {L : LawT} (σ : MSt)  (n : Int32) (ht : σ.1 6 ≤ 99) : Ct l D ZE B yX0_days cX0_days 2 (some .int) 2 42 0 0 [.ref (Λ.1 0 38), .int n] (XH D Λ I L σ) (RI (rDays (σ.1 6) n) (XH D Λ I L (gDays σ n))) := by
  refine Ct.of (nL := 2) (lv := [some (.ref (Λ.1 0 38)), some (.int n)]) (by decide) (Nat.le_of_ble_eq_true rfl) stZE 0 rfl ?_
  generalize hT : RI (rDays (σ.1 6) n) (XH D Λ I L (gDays σ n)) = T
  intro zp ze zs zm zb zt zc F hr hnm
  generalize ([.ref (Λ.1 0 38), .int n] : List Value).toArray = za at F ⊢
  refine g_iload_n F dX0_days_0 rfl rfl (np := 1) rfl ?_
  refine g_iconst F (v := (nI 1)) dX0_days_1 (by decide) (np := 2) rfl ?_
  refine g_bipush F (v := (nI 99)) dX0_days_2 (by decide) (np := 4) rfl ?_
  refine g_runS F (rest := []) (ct_X0_in n (nI (1)) (nI (99)) ) (lw_S q298 q299 q100 q300) hcS_X0_in ⟨Nat.le_of_ble_eq_true rfl, Nat.le_of_ble_eq_true rfl⟩ rfl rfl (Nat.le_of_ble_eq_true rfl) dX0_days_4 ⟨Nat.le_of_ble_eq_true rfl, Nat.le_of_ble_eq_true rfl⟩ (np := 7) rfl (k_RI ?_)
  refine g_if_neB F dX0_days_7 (tp := 12) (by decide) (np := 10) rfl (fun c7 => ?_) (fun c7 => ?_)
  · obtain ⟨hne, hnl⟩ := bt199 c7
    refine WG.eqv (lv' := [some (.ref (Λ.1 0 38)), some (.int (nI (n.toNatClampNeg)))]) rfl (congrArg (fun z => ([some (.ref (Λ.1 0 38)), some (.int z)] : List (Option Value))) (show n = (nI (n.toNatClampNeg)) from by exact hne)) ?_
    refine g_aload_n F dX0_days_12 rfl rfl (np := 13) rfl ?_
    refine g_aload_n F dX0_days_13 rfl rfl (np := 14) rfl ?_
    refine g_iload_n F dX0_days_14 rfl rfl (np := 15) rfl ?_
    refine g_runV F (C := RX0) (ci := 0) (T0 := TX0) (N := 38) (rest := [.ref (Λ.1 0 38)]) (ct_X0_dayBehind σ n.toNatClampNeg (by first | assumption | omega) (by first | assumption | omega)) (lw_V q869 q871 qs25 q100 q872) hcV_X0_dayBehind ⟨Nat.le_of_ble_eq_true rfl, Nat.le_of_ble_eq_true rfl⟩ rfl (fun h hs => hs.obj) rfl rfl (Nat.le_of_ble_eq_true rfl) dX0_days_15 ⟨Nat.le_of_ble_eq_true rfl, Nat.le_of_ble_eq_true rfl⟩ (np := 18) rfl (k_RI ?_)
    refine x_put F (k := 4) (ty := .int) (by decide) (PutXH.ofN (n := 6) (x := day (σ.1 6) n.toNatClampNeg) (fun _ _ _ => rfl) rfl) rfl rfl rfl rfl (Or.inl q181) dX0_days_18 (np := 21) rfl ?_
    refine g_aload_n F dX0_days_21 rfl rfl (np := 22) rfl ?_
    refine g_dup F dX0_days_22 rfl (np := 23) rfl ?_
    refine x_get F (k := 21) (v := .int (σ.2.1 25 4)) (by decide) rfl (Or.inl q200) dX0_days_23 (np := 26) rfl ?_
    refine g_iload_n F dX0_days_26 rfl rfl (np := 27) rfl ?_
    refine g_iadd F dX0_days_27 (np := 28) rfl ?_
    refine WG.eqv (st' := [.int (σ.2.1 25 4 + n), .ref (Λ.1 0 38)]) (congrArg (fun z => ([.int z, .ref (Λ.1 0 38)] : List Value)) (show ((σ.2.1 25 4) + (nI (n.toNatClampNeg))) = (σ.2.1 25 4 + n) from by rw [← hne])) rfl ?_
    refine x_put F (k := 21) (ty := .int) (by decide) (PutXH.ofA (n := 25) (i := 4) (x := σ.2.1 25 4 + n) (fun _ _ _ => rfl) rfl) rfl rfl rfl rfl (Or.inl q200) dX0_days_28 (np := 31) rfl ?_
    refine g_aload_n F dX0_days_31 rfl rfl (np := 32) rfl ?_
    refine x_get F (k := 4) (v := .int (nI (day (σ.1 6) n.toNatClampNeg))) (by decide) rfl (Or.inl q181) dX0_days_32 (np := 35) rfl ?_
    have hσ : (sA (sN σ 6 (day (σ.1 6) n.toNatClampNeg)) 25 4 (σ.2.1 25 4 + n)) = (gDays σ n) := by unfold gDays; rw [pif_t c7]
    have hv : nI (day (σ.1 6) n.toNatClampNeg) = rDays (σ.1 6) n := by unfold rDays; rw [pif_t c7]
    exact g_iret F hr rfl (Nat.le_of_ble_eq_true rfl) (Nat.le_of_ble_eq_true rfl) dX0_days_35 (fun h hs => by rw [← hT]; exact ⟨congrArg (fun z => some (Value.int z)) hv, (hσ ▸ hs)⟩)
  · refine g_iconst F (v := (-1)) dX0_days_10 (by decide) (np := 11) rfl ?_
    have hσ : σ = (gDays σ n) := by unfold gDays; rw [pif_f c7]
    have hv : -1 = rDays (σ.1 6) n := by unfold rDays; rw [pif_f c7]
    exact g_iret F hr rfl (Nat.le_of_ble_eq_true rfl) (Nat.le_of_ble_eq_true rfl) dX0_days_11 (fun h hs => by rw [← hT]; exact ⟨congrArg (fun z => some (Value.int z)) hv, (hσ ▸ hs)⟩)

set_option maxRecDepth 100000 in
theorem ct_X0_led {l : Launch} {D : va_G} {B : Nat} {Λ : LT} {I : AH} {L : LawT} (σ : MSt)  (w : Int32) : Ct l D ZE B yX0_led cX0_led 2 (some .int) 0 0 0 0 [.ref (Λ.1 0 38), .int w] (XH D Λ I L σ) (RI (rLed σ w) (XH D Λ I L σ)) := by
  refine Ct.of (nL := 2) (lv := [some (.ref (Λ.1 0 38)), some (.int w)]) (by decide) (Nat.le_of_ble_eq_true rfl) stZE 0 rfl ?_
  generalize hT : RI (rLed σ w) (XH D Λ I L σ) = T
  intro zp ze zs zm zb zt zc F hr hnm
  generalize ([.ref (Λ.1 0 38), .int w] : List Value).toArray = za at F ⊢
  refine g_iload_n F dX0_led_0 rfl rfl (np := 1) rfl ?_
  by_cases k1_0 : w = 0
  · refine g_tabIn F (x := w) (v := 0) k1_0 (lo := 0) dX0_led_1 (j := 0) (by decide) (by decide) (by decide) rfl (np := 36) (by decide) ?_
    refine g_aload_n F dX0_led_36 rfl rfl (np := 37) rfl ?_
    refine x_get F (k := 5) (v := .int (σ.2.1 25 0)) (by decide) rfl (Or.inl q182) dX0_led_37 (np := 40) rfl ?_
    have hv : σ.2.1 25 0 = rLed σ w := by unfold rLed; rw [show w = nI 0 from k1_0, pif_t ⟨0, by decide, rfl⟩]; rfl
    exact g_iret F hr rfl (Nat.le_of_ble_eq_true rfl) (Nat.le_of_ble_eq_true rfl) dX0_led_40 (fun h hs => by rw [← hT]; exact ⟨congrArg (fun z => some (Value.int z)) hv, hs⟩)
  by_cases k1_1 : w = 1
  · refine g_tabIn F (x := w) (v := 1) k1_1 (lo := 0) dX0_led_1 (j := 1) (by decide) (by decide) (by decide) rfl (np := 41) (by decide) ?_
    refine g_aload_n F dX0_led_41 rfl rfl (np := 42) rfl ?_
    refine x_get F (k := 18) (v := .int (σ.2.1 25 1)) (by decide) rfl (Or.inl q197) dX0_led_42 (np := 45) rfl ?_
    have hv : σ.2.1 25 1 = rLed σ w := by unfold rLed; rw [show w = nI 1 from k1_1, pif_t ⟨1, by decide, rfl⟩]; rfl
    exact g_iret F hr rfl (Nat.le_of_ble_eq_true rfl) (Nat.le_of_ble_eq_true rfl) dX0_led_45 (fun h hs => by rw [← hT]; exact ⟨congrArg (fun z => some (Value.int z)) hv, hs⟩)
  by_cases k1_2 : w = 2
  · refine g_tabIn F (x := w) (v := 2) k1_2 (lo := 0) dX0_led_1 (j := 2) (by decide) (by decide) (by decide) rfl (np := 46) (by decide) ?_
    refine g_aload_n F dX0_led_46 rfl rfl (np := 47) rfl ?_
    refine x_get F (k := 19) (v := .int (σ.2.1 25 2)) (by decide) rfl (Or.inl q198) dX0_led_47 (np := 50) rfl ?_
    have hv : σ.2.1 25 2 = rLed σ w := by unfold rLed; rw [show w = nI 2 from k1_2, pif_t ⟨2, by decide, rfl⟩]; rfl
    exact g_iret F hr rfl (Nat.le_of_ble_eq_true rfl) (Nat.le_of_ble_eq_true rfl) dX0_led_50 (fun h hs => by rw [← hT]; exact ⟨congrArg (fun z => some (Value.int z)) hv, hs⟩)
  by_cases k1_3 : w = 3
  · refine g_tabIn F (x := w) (v := 3) k1_3 (lo := 0) dX0_led_1 (j := 3) (by decide) (by decide) (by decide) rfl (np := 51) (by decide) ?_
    refine g_aload_n F dX0_led_51 rfl rfl (np := 52) rfl ?_
    refine x_get F (k := 20) (v := .int (σ.2.1 25 3)) (by decide) rfl (Or.inl q199) dX0_led_52 (np := 55) rfl ?_
    have hv : σ.2.1 25 3 = rLed σ w := by unfold rLed; rw [show w = nI 3 from k1_3, pif_t ⟨3, by decide, rfl⟩]; rfl
    exact g_iret F hr rfl (Nat.le_of_ble_eq_true rfl) (Nat.le_of_ble_eq_true rfl) dX0_led_55 (fun h hs => by rw [← hT]; exact ⟨congrArg (fun z => some (Value.int z)) hv, hs⟩)
  by_cases k1_4 : w = 4
  · refine g_tabIn F (x := w) (v := 4) k1_4 (lo := 0) dX0_led_1 (j := 4) (by decide) (by decide) (by decide) rfl (np := 56) (by decide) ?_
    refine g_aload_n F dX0_led_56 rfl rfl (np := 57) rfl ?_
    refine x_get F (k := 21) (v := .int (σ.2.1 25 4)) (by decide) rfl (Or.inl q200) dX0_led_57 (np := 60) rfl ?_
    have hv : σ.2.1 25 4 = rLed σ w := by unfold rLed; rw [show w = nI 4 from k1_4, pif_t ⟨4, by decide, rfl⟩]; rfl
    exact g_iret F hr rfl (Nat.le_of_ble_eq_true rfl) (Nat.le_of_ble_eq_true rfl) dX0_led_60 (fun h hs => by rw [← hT]; exact ⟨congrArg (fun z => some (Value.int z)) hv, hs⟩)
  refine g_tabOut F (x := w) dX0_led_1 (by
    have e0 : ¬ (w).toInt = 0 := fun q => k1_0 (Int32.toInt_inj.mp (q.trans (by decide)))
    have e1 : ¬ (w).toInt = 1 := fun q => k1_1 (Int32.toInt_inj.mp (q.trans (by decide)))
    have e2 : ¬ (w).toInt = 2 := fun q => k1_2 (Int32.toInt_inj.mp (q.trans (by decide)))
    have e3 : ¬ (w).toInt = 3 := fun q => k1_3 (Int32.toInt_inj.mp (q.trans (by decide)))
    have e4 : ¬ (w).toInt = 4 := fun q => k1_4 (Int32.toInt_inj.mp (q.trans (by decide)))
    omega) (np := 61) (by decide) ?_
  refine g_iconst F (v := (-1)) dX0_led_61 (by decide) (np := 62) rfl ?_
  have hv : -1 = rLed σ w := by unfold rLed; rw [pif_f (fun z => by obtain ⟨j, hj, e⟩ := z; rcases (show j = 0 ∨ j = 1 ∨ j = 2 ∨ j = 3 ∨ j = 4 by omega) with rfl | rfl | rfl | rfl | rfl; exact k1_0 e; exact k1_1 e; exact k1_2 e; exact k1_3 e; exact k1_4 e)]
  exact g_iret F hr rfl (Nat.le_of_ble_eq_true rfl) (Nat.le_of_ble_eq_true rfl) dX0_led_62 (fun h hs => by rw [← hT]; exact ⟨congrArg (fun z => some (Value.int z)) hv, hs⟩)

set_option maxRecDepth 100000 in
theorem ct_X0_count {l : Launch} {D : va_G} {B : Nat} {Λ : LT} {I : AH} {L : LawT} (σ : MSt)  (k : Int32) : Ct l D ZE B yX0_count cX0_count 2 (some .int) 0 0 0 0 [.ref (Λ.1 0 38), .int k] (XH D Λ I L σ) (RI (rCount σ k) (XH D Λ I L σ)) := by
  refine Ct.of (nL := 2) (lv := [some (.ref (Λ.1 0 38)), some (.int k)]) (by decide) (Nat.le_of_ble_eq_true rfl) stZE 0 rfl ?_
  generalize hT : RI (rCount σ k) (XH D Λ I L σ) = T
  intro zp ze zs zm zb zt zc F hr hnm
  generalize ([.ref (Λ.1 0 38), .int k] : List Value).toArray = za at F ⊢
  refine g_iload_n F dX0_count_0 rfl rfl (np := 1) rfl ?_
  by_cases k1_0 : k = 0
  · refine g_tabIn F (x := k) (v := 0) k1_0 (lo := 0) dX0_count_1 (j := 0) (by decide) (by decide) (by decide) rfl (np := 40) (by decide) ?_
    refine g_aload_n F dX0_count_40 rfl rfl (np := 41) rfl ?_
    refine x_get F (k := 2) (v := .int (nI (σ.1 0))) (by decide) rfl (Or.inl q179) dX0_count_41 (np := 44) rfl ?_
    have hv : nI (σ.1 0) = rCount σ k := by unfold rCount; first | (rw [if_pos k1_0]; done) | (rw [k1_1]; rfl) | (rw [k1_2]; rfl) | (rw [k1_3]; rfl) | (rw [k1_4]; rfl) | (rw [k1_5]; rfl) | (rw [if_neg k1_0, if_neg (show ¬ k = nI 1 from k1_1), if_neg (show ¬ k = nI 2 from k1_2), if_neg (show ¬ k = nI 3 from k1_3), if_neg (show ¬ k = nI 4 from k1_4), if_neg (show ¬ k = nI 5 from k1_5)])
    exact g_iret F hr rfl (Nat.le_of_ble_eq_true rfl) (Nat.le_of_ble_eq_true rfl) dX0_count_44 (fun h hs => by rw [← hT]; exact ⟨congrArg (fun z => some (Value.int z)) hv, hs⟩)
  by_cases k1_1 : k = 1
  · refine g_tabIn F (x := k) (v := 1) k1_1 (lo := 0) dX0_count_1 (j := 1) (by decide) (by decide) (by decide) rfl (np := 45) (by decide) ?_
    refine g_aload_n F dX0_count_45 rfl rfl (np := 46) rfl ?_
    refine x_get F (k := 3) (v := .int (nI (σ.1 2))) (by decide) rfl (Or.inl q180) dX0_count_46 (np := 49) rfl ?_
    have hv : nI (σ.1 2) = rCount σ k := by unfold rCount; first | (rw [if_pos k1_0]; done) | (rw [k1_1]; rfl) | (rw [k1_2]; rfl) | (rw [k1_3]; rfl) | (rw [k1_4]; rfl) | (rw [k1_5]; rfl) | (rw [if_neg k1_0, if_neg (show ¬ k = nI 1 from k1_1), if_neg (show ¬ k = nI 2 from k1_2), if_neg (show ¬ k = nI 3 from k1_3), if_neg (show ¬ k = nI 4 from k1_4), if_neg (show ¬ k = nI 5 from k1_5)])
    exact g_iret F hr rfl (Nat.le_of_ble_eq_true rfl) (Nat.le_of_ble_eq_true rfl) dX0_count_49 (fun h hs => by rw [← hT]; exact ⟨congrArg (fun z => some (Value.int z)) hv, hs⟩)
  by_cases k1_2 : k = 2
  · refine g_tabIn F (x := k) (v := 2) k1_2 (lo := 0) dX0_count_1 (j := 2) (by decide) (by decide) (by decide) rfl (np := 50) (by decide) ?_
    refine g_aload_n F dX0_count_50 rfl rfl (np := 51) rfl ?_
    refine x_get F (k := 10) (v := .int (nI (σ.1 7))) (by decide) rfl (Or.inl q189) dX0_count_51 (np := 54) rfl ?_
    have hv : nI (σ.1 7) = rCount σ k := by unfold rCount; first | (rw [if_pos k1_0]; done) | (rw [k1_1]; rfl) | (rw [k1_2]; rfl) | (rw [k1_3]; rfl) | (rw [k1_4]; rfl) | (rw [k1_5]; rfl) | (rw [if_neg k1_0, if_neg (show ¬ k = nI 1 from k1_1), if_neg (show ¬ k = nI 2 from k1_2), if_neg (show ¬ k = nI 3 from k1_3), if_neg (show ¬ k = nI 4 from k1_4), if_neg (show ¬ k = nI 5 from k1_5)])
    exact g_iret F hr rfl (Nat.le_of_ble_eq_true rfl) (Nat.le_of_ble_eq_true rfl) dX0_count_54 (fun h hs => by rw [← hT]; exact ⟨congrArg (fun z => some (Value.int z)) hv, hs⟩)
  by_cases k1_3 : k = 3
  · refine g_tabIn F (x := k) (v := 3) k1_3 (lo := 0) dX0_count_1 (j := 3) (by decide) (by decide) (by decide) rfl (np := 55) (by decide) ?_
    refine g_aload_n F dX0_count_55 rfl rfl (np := 56) rfl ?_
    refine x_get F (k := 7) (v := .int (nI (σ.1 32))) (by decide) rfl (Or.inl q184) dX0_count_56 (np := 59) rfl ?_
    have hv : nI (σ.1 32) = rCount σ k := by unfold rCount; first | (rw [if_pos k1_0]; done) | (rw [k1_1]; rfl) | (rw [k1_2]; rfl) | (rw [k1_3]; rfl) | (rw [k1_4]; rfl) | (rw [k1_5]; rfl) | (rw [if_neg k1_0, if_neg (show ¬ k = nI 1 from k1_1), if_neg (show ¬ k = nI 2 from k1_2), if_neg (show ¬ k = nI 3 from k1_3), if_neg (show ¬ k = nI 4 from k1_4), if_neg (show ¬ k = nI 5 from k1_5)])
    exact g_iret F hr rfl (Nat.le_of_ble_eq_true rfl) (Nat.le_of_ble_eq_true rfl) dX0_count_59 (fun h hs => by rw [← hT]; exact ⟨congrArg (fun z => some (Value.int z)) hv, hs⟩)
  by_cases k1_4 : k = 4
  · refine g_tabIn F (x := k) (v := 4) k1_4 (lo := 0) dX0_count_1 (j := 4) (by decide) (by decide) (by decide) rfl (np := 60) (by decide) ?_
    refine g_aload_n F dX0_count_60 rfl rfl (np := 61) rfl ?_
    refine x_get F (k := 36) (v := .int (nI (σ.1 34))) (by decide) rfl (Or.inl q215) dX0_count_61 (np := 64) rfl ?_
    have hv : nI (σ.1 34) = rCount σ k := by unfold rCount; first | (rw [if_pos k1_0]; done) | (rw [k1_1]; rfl) | (rw [k1_2]; rfl) | (rw [k1_3]; rfl) | (rw [k1_4]; rfl) | (rw [k1_5]; rfl) | (rw [if_neg k1_0, if_neg (show ¬ k = nI 1 from k1_1), if_neg (show ¬ k = nI 2 from k1_2), if_neg (show ¬ k = nI 3 from k1_3), if_neg (show ¬ k = nI 4 from k1_4), if_neg (show ¬ k = nI 5 from k1_5)])
    exact g_iret F hr rfl (Nat.le_of_ble_eq_true rfl) (Nat.le_of_ble_eq_true rfl) dX0_count_64 (fun h hs => by rw [← hT]; exact ⟨congrArg (fun z => some (Value.int z)) hv, hs⟩)
  by_cases k1_5 : k = 5
  · refine g_tabIn F (x := k) (v := 5) k1_5 (lo := 0) dX0_count_1 (j := 5) (by decide) (by decide) (by decide) rfl (np := 65) (by decide) ?_
    refine g_aload_n F dX0_count_65 rfl rfl (np := 66) rfl ?_
    refine x_get F (k := 33) (v := .int (nI (σ.1 36))) (by decide) rfl (Or.inl q212) dX0_count_66 (np := 69) rfl ?_
    have hv : nI (σ.1 36) = rCount σ k := by unfold rCount; first | (rw [if_pos k1_0]; done) | (rw [k1_1]; rfl) | (rw [k1_2]; rfl) | (rw [k1_3]; rfl) | (rw [k1_4]; rfl) | (rw [k1_5]; rfl) | (rw [if_neg k1_0, if_neg (show ¬ k = nI 1 from k1_1), if_neg (show ¬ k = nI 2 from k1_2), if_neg (show ¬ k = nI 3 from k1_3), if_neg (show ¬ k = nI 4 from k1_4), if_neg (show ¬ k = nI 5 from k1_5)])
    exact g_iret F hr rfl (Nat.le_of_ble_eq_true rfl) (Nat.le_of_ble_eq_true rfl) dX0_count_69 (fun h hs => by rw [← hT]; exact ⟨congrArg (fun z => some (Value.int z)) hv, hs⟩)
  refine g_tabOut F (x := k) dX0_count_1 (by
    have e0 : ¬ (k).toInt = 0 := fun q => k1_0 (Int32.toInt_inj.mp (q.trans (by decide)))
    have e1 : ¬ (k).toInt = 1 := fun q => k1_1 (Int32.toInt_inj.mp (q.trans (by decide)))
    have e2 : ¬ (k).toInt = 2 := fun q => k1_2 (Int32.toInt_inj.mp (q.trans (by decide)))
    have e3 : ¬ (k).toInt = 3 := fun q => k1_3 (Int32.toInt_inj.mp (q.trans (by decide)))
    have e4 : ¬ (k).toInt = 4 := fun q => k1_4 (Int32.toInt_inj.mp (q.trans (by decide)))
    have e5 : ¬ (k).toInt = 5 := fun q => k1_5 (Int32.toInt_inj.mp (q.trans (by decide)))
    omega) (np := 70) (by decide) ?_
  refine g_iconst F (v := (-1)) dX0_count_70 (by decide) (np := 71) rfl ?_
  have hv : -1 = rCount σ k := by unfold rCount; first | (rw [if_pos k1_0]; done) | (rw [k1_1]; rfl) | (rw [k1_2]; rfl) | (rw [k1_3]; rfl) | (rw [k1_4]; rfl) | (rw [k1_5]; rfl) | (rw [if_neg k1_0, if_neg (show ¬ k = nI 1 from k1_1), if_neg (show ¬ k = nI 2 from k1_2), if_neg (show ¬ k = nI 3 from k1_3), if_neg (show ¬ k = nI 4 from k1_4), if_neg (show ¬ k = nI 5 from k1_5)])
  exact g_iret F hr rfl (Nat.le_of_ble_eq_true rfl) (Nat.le_of_ble_eq_true rfl) dX0_count_71 (fun h hs => by rw [← hT]; exact ⟨congrArg (fun z => some (Value.int z)) hv, hs⟩)

set_option maxRecDepth 100000 in
theorem ct_X0_trace {l : Launch} {D : va_G} {B : Nat} {Λ : LT} {I : AH} {L : LawT} (σ : MSt)  (i : Int32) (htr : σ.1 36 < 2 ^ 30) (hto : trOK σ) : Ct l D ZE B yX0_trace cX0_trace 2 (some .int) 0 0 0 0 [.ref (Λ.1 0 38), .int i] (XH D Λ I L σ) (RI (rTrace σ i) (XH D Λ I L σ)) := by
  refine Ct.of (nL := 2) (lv := [some (.ref (Λ.1 0 38)), some (.int i)]) (by decide) (Nat.le_of_ble_eq_true rfl) stZE 0 rfl ?_
  generalize hT : RI (rTrace σ i) (XH D Λ I L σ) = T
  intro zp ze zs zm zb zt zc F hr hnm
  generalize ([.ref (Λ.1 0 38), .int i] : List Value).toArray = za at F ⊢
  refine g_iload_n F dX0_trace_0 rfl rfl (np := 1) rfl ?_
  refine g_if_lt F dX0_trace_1 (tp := 27) (by decide) (np := 4) rfl (fun c1 => ?_) (fun c1 => ?_)
  · refine g_iconst F (v := (-1)) dX0_trace_27 (by decide) (np := 28) rfl ?_
    have hv : -1 = rTrace σ i := by unfold rTrace; first | (rw [pif_t (show inN i (min 24 (σ.1 36)) from ⟨i.toNatClampNeg, by omega, hie⟩), etk, n_i8 htk]; done) | (rw [pif_f (fun z => by obtain ⟨j, hj, rfl⟩ := z; exact nI_pos (by omega) c1)]; done) | (rw [pif_f (fun z => by obtain ⟨z1, z2⟩ := inN_cl (by omega) z; omega)])
    exact g_iret F hr rfl (Nat.le_of_ble_eq_true rfl) (Nat.le_of_ble_eq_true rfl) dX0_trace_28 (fun h hs => by rw [← hT]; exact ⟨congrArg (fun z => some (Value.int z)) hv, hs⟩)
  · obtain ⟨hie, hil⟩ := nI_cl c1
    refine WG.eqv (lv' := [some (.ref (Λ.1 0 38)), some (.int (nI (i.toNatClampNeg)))]) rfl (congrArg (fun z => ([some (.ref (Λ.1 0 38)), some (.int z)] : List (Option Value))) (show i = (nI (i.toNatClampNeg)) from by exact hie)) ?_
    refine g_iload_n F dX0_trace_4 rfl rfl (np := 5) rfl ?_
    refine g_aload_n F dX0_trace_5 rfl rfl (np := 6) rfl ?_
    refine x_get F (k := 33) (v := .int (nI (σ.1 36))) (by decide) rfl (Or.inl q212) dX0_trace_6 (np := 9) rfl ?_
    refine g_icmp_geN F (by omega) (by omega) dX0_trace_9 (tp := 27) (by decide) (np := 12) rfl (fun c9 => ?_) (fun c9 => ?_)
    · refine g_iconst F (v := (-1)) dX0_trace_27 (by decide) (np := 28) rfl ?_
      have hv : -1 = rTrace σ i := by unfold rTrace; first | (rw [pif_t (show inN i (min 24 (σ.1 36)) from ⟨i.toNatClampNeg, by omega, hie⟩), etk, n_i8 htk]; done) | (rw [pif_f (fun z => by obtain ⟨j, hj, rfl⟩ := z; exact nI_pos (by omega) c1)]; done) | (rw [pif_f (fun z => by obtain ⟨z1, z2⟩ := inN_cl (by omega) z; omega)])
      exact g_iret F hr rfl (Nat.le_of_ble_eq_true rfl) (Nat.le_of_ble_eq_true rfl) dX0_trace_28 (fun h hs => by rw [← hT]; exact ⟨congrArg (fun z => some (Value.int z)) hv, hs⟩)
    · refine g_iload_n F dX0_trace_12 rfl rfl (np := 13) rfl ?_
      refine g_bipush F (v := (nI 24)) dX0_trace_13 (by decide) (np := 15) rfl ?_
      refine g_icmp_geN F (by omega) (by decide) dX0_trace_15 (tp := 27) (by decide) (np := 18) rfl (fun c15 => ?_) (fun c15 => ?_)
      · refine g_iconst F (v := (-1)) dX0_trace_27 (by decide) (np := 28) rfl ?_
        have hv : -1 = rTrace σ i := by unfold rTrace; first | (rw [pif_t (show inN i (min 24 (σ.1 36)) from ⟨i.toNatClampNeg, by omega, hie⟩), etk, n_i8 htk]; done) | (rw [pif_f (fun z => by obtain ⟨j, hj, rfl⟩ := z; exact nI_pos (by omega) c1)]; done) | (rw [pif_f (fun z => by obtain ⟨z1, z2⟩ := inN_cl (by omega) z; omega)])
        exact g_iret F hr rfl (Nat.le_of_ble_eq_true rfl) (Nat.le_of_ble_eq_true rfl) dX0_trace_28 (fun h hs => by rw [← hT]; exact ⟨congrArg (fun z => some (Value.int z)) hv, hs⟩)
      · refine g_aload_n F dX0_trace_18 rfl rfl (np := 19) rfl ?_
        refine x_get F (k := 34) (v := .ref (Λ.1 0 34)) (by decide) rfl (Or.inl q213) dX0_trace_19 (np := 22) rfl ?_
        refine g_iload_n F dX0_trace_22 rfl rfl (np := 23) rfl ?_
        refine x_bald F (i := i.toNatClampNeg) (v := (σ.2.1 37 i.toNatClampNeg).toInt8.toInt32) (by omega) rfl rfl dX0_trace_23 (np := 24) rfl ?_
        obtain ⟨tk, htk, etk⟩ := hto i.toNatClampNeg (by omega)
        refine g_goto F dX0_trace_24 (np := 28) (by decide) ?_
        have hv : (σ.2.1 37 i.toNatClampNeg).toInt8.toInt32 = rTrace σ i := by unfold rTrace; first | (rw [pif_t (show inN i (min 24 (σ.1 36)) from ⟨i.toNatClampNeg, by omega, hie⟩), etk, n_i8 htk]; done) | (rw [pif_f (fun z => by obtain ⟨j, hj, rfl⟩ := z; exact nI_pos (by omega) c1)]; done) | (rw [pif_f (fun z => by obtain ⟨z1, z2⟩ := inN_cl (by omega) z; omega)])
        exact g_iret F hr rfl (Nat.le_of_ble_eq_true rfl) (Nat.le_of_ble_eq_true rfl) dX0_trace_28 (fun h hs => by rw [← hT]; exact ⟨congrArg (fun z => some (Value.int z)) hv, hs⟩)

set_option maxRecDepth 100000 in
theorem ct_X0_isOf {l : Launch} {D : va_G} {B : Nat} {Λ : LT} {I : AH} {L : LawT} (σ : MSt)  (n : Int32) (w : Int32) (hno : σ.1 0 ≤ 8) (hm : σ.1 2 ≤ 15) : Ct l D ZE B yX0_isOf cX0_isOf 3 (some .boolean) 2 43 0 0 [.ref (Λ.1 0 38), .int n, .int w] (XH D Λ I L σ) (RI (bI (ofP (σ.1 0) (σ.1 2) n w)) (XH D Λ I L σ)) := by
  refine Ct.of (nL := 3) (lv := [some (.ref (Λ.1 0 38)), some (.int n), some (.int w)]) (by decide) (Nat.le_of_ble_eq_true rfl) stZE 0 rfl ?_
  generalize hT : RI (bI (ofP (σ.1 0) (σ.1 2) n w)) (XH D Λ I L σ) = T
  intro zp ze zs zm zb zt zc F hr hnm
  generalize ([.ref (Λ.1 0 38), .int n, .int w] : List Value).toArray = za at F ⊢
  refine g_iload_n F dX0_isOf_0 rfl rfl (np := 1) rfl ?_
  refine g_if_ne F dX0_isOf_1 (tp := 12) (by decide) (np := 4) rfl (fun c1 => ?_) (fun c1 => ?_)
  · refine g_iload_n F dX0_isOf_12 rfl rfl (np := 13) rfl ?_
    refine g_iconst F (v := (nI 1)) dX0_isOf_13 (by decide) (np := 14) rfl ?_
    refine g_iconst F (v := (nI 5)) dX0_isOf_14 (by decide) (np := 15) rfl ?_
    refine g_runS F (rest := []) (ct_X0_in w (nI (1)) (nI (5)) ) (lw_S q298 q299 q100 q300) hcS_X0_in ⟨Nat.le_of_ble_eq_true rfl, Nat.le_of_ble_eq_true rfl⟩ rfl rfl (Nat.le_of_ble_eq_true rfl) dX0_isOf_15 ⟨Nat.le_of_ble_eq_true rfl, Nat.le_of_ble_eq_true rfl⟩ (np := 18) rfl (k_RI ?_)
    refine g_if_eqB F dX0_isOf_18 (tp := 29) (by decide) (np := 21) rfl (fun c18 => ?_) (fun c18 => ?_)
    · refine g_iload_n F dX0_isOf_29 rfl rfl (np := 30) rfl ?_
      refine g_bipush F (v := (nI 6)) dX0_isOf_30 (by decide) (np := 32) rfl ?_
      refine g_icmp_ne F dX0_isOf_32 (tp := 43) (by decide) (np := 35) rfl (fun c32 => ?_) (fun c32 => ?_)
      · refine g_iconst F (v := (nI 0)) dX0_isOf_43 (by decide) (np := 44) rfl ?_
        have hv : (nI (0) : Int32) = bI (ofP (σ.1 0) (σ.1 2) n w) := (show (0 : Int32) = _ from (bI_f (by first | exact ofP_0 c1 | exact ofP_b c18 | exact (ofP_6 c32).mp c36 | exact fun z => c36 ((ofP_6 c32).mpr z) | exact ofP_n c1 c18 c32)).symm)
        exact g_iret F hr rfl (Nat.le_of_ble_eq_true rfl) (Nat.le_of_ble_eq_true rfl) dX0_isOf_44 (fun h hs => by rw [← hT]; exact ⟨congrArg (fun z => some (Value.int z)) hv, hs⟩)
      · refine g_iload_n F dX0_isOf_35 rfl rfl (np := 36) rfl ?_
        refine g_if_ne F dX0_isOf_36 (tp := 43) (by decide) (np := 39) rfl (fun c36 => ?_) (fun c36 => ?_)
        · refine g_iconst F (v := (nI 0)) dX0_isOf_43 (by decide) (np := 44) rfl ?_
          have hv : (nI (0) : Int32) = bI (ofP (σ.1 0) (σ.1 2) n w) := (show (0 : Int32) = _ from (bI_f (by first | exact ofP_0 c1 | exact ofP_b c18 | exact (ofP_6 c32).mp c36 | exact fun z => c36 ((ofP_6 c32).mpr z) | exact ofP_n c1 c18 c32)).symm)
          exact g_iret F hr rfl (Nat.le_of_ble_eq_true rfl) (Nat.le_of_ble_eq_true rfl) dX0_isOf_44 (fun h hs => by rw [← hT]; exact ⟨congrArg (fun z => some (Value.int z)) hv, hs⟩)
        · refine g_iconst F (v := (nI 1)) dX0_isOf_39 (by decide) (np := 40) rfl ?_
          refine g_goto F dX0_isOf_40 (np := 44) (by decide) ?_
          have hv : (nI (1) : Int32) = bI (ofP (σ.1 0) (σ.1 2) n w) := (show (1 : Int32) = _ from (bI_t (by first | exact ofP_0 c1 | exact ofP_b c18 | exact (ofP_6 c32).mp c36 | exact fun z => c36 ((ofP_6 c32).mpr z) | exact ofP_n c1 c18 c32)).symm)
          exact g_iret F hr rfl (Nat.le_of_ble_eq_true rfl) (Nat.le_of_ble_eq_true rfl) dX0_isOf_44 (fun h hs => by rw [← hT]; exact ⟨congrArg (fun z => some (Value.int z)) hv, hs⟩)
    · refine g_aload_n F dX0_isOf_21 rfl rfl (np := 22) rfl ?_
      refine g_iload_n F dX0_isOf_22 rfl rfl (np := 23) rfl ?_
      refine g_runV F (C := RX0) (ci := 0) (T0 := TX0) (N := 38) (rest := []) (ct_X0_isPromise σ n (by first | assumption | omega)) (lw_V q521 q523 qs7 q100 q524) hcV_X0_isPromise ⟨Nat.le_of_ble_eq_true rfl, Nat.le_of_ble_eq_true rfl⟩ rfl (fun h hs => hs.obj) rfl rfl (Nat.le_of_ble_eq_true rfl) dX0_isOf_23 ⟨Nat.le_of_ble_eq_true rfl, Nat.le_of_ble_eq_true rfl⟩ (np := 26) rfl (k_RI ?_)
      refine g_goto F dX0_isOf_26 (np := 44) (by decide) ?_
      have hv : bI (inN n (σ.1 2)) = bI (ofP (σ.1 0) (σ.1 2) n w) := bI_c (by first | exact ofP_0 c1 | exact ofP_b c18 | exact (ofP_6 c32).mp c36 | exact fun z => c36 ((ofP_6 c32).mpr z) | exact ofP_n c1 c18 c32)
      exact g_iret F hr bI_nar (Nat.le_of_ble_eq_true rfl) (Nat.le_of_ble_eq_true rfl) dX0_isOf_44 (fun h hs => by rw [← hT]; exact ⟨congrArg (fun z => some (Value.int z)) hv, hs⟩)
  · refine g_aload_n F dX0_isOf_4 rfl rfl (np := 5) rfl ?_
    refine g_iload_n F dX0_isOf_5 rfl rfl (np := 6) rfl ?_
    refine g_runV F (C := RX0) (ci := 0) (T0 := TX0) (N := 38) (rest := []) (ct_X0_isOwner σ n (by first | assumption | omega)) (lw_V q319 q321 qs1 q100 q322) hcV_X0_isOwner ⟨Nat.le_of_ble_eq_true rfl, Nat.le_of_ble_eq_true rfl⟩ rfl (fun h hs => hs.obj) rfl rfl (Nat.le_of_ble_eq_true rfl) dX0_isOf_6 ⟨Nat.le_of_ble_eq_true rfl, Nat.le_of_ble_eq_true rfl⟩ (np := 9) rfl (k_RI ?_)
    refine g_goto F dX0_isOf_9 (np := 44) (by decide) ?_
    have hv : bI (inN n (σ.1 0)) = bI (ofP (σ.1 0) (σ.1 2) n w) := bI_c (by first | exact ofP_0 c1 | exact ofP_b c18 | exact (ofP_6 c32).mp c36 | exact fun z => c36 ((ofP_6 c32).mpr z) | exact ofP_n c1 c18 c32)
    exact g_iret F hr bI_nar (Nat.le_of_ble_eq_true rfl) (Nat.le_of_ble_eq_true rfl) dX0_isOf_44 (fun h hs => by rw [← hT]; exact ⟨congrArg (fun z => some (Value.int z)) hv, hs⟩)

set_option maxRecDepth 100000 in
theorem ct_X0_mayBe {l : Launch} {D : va_G} {B : Nat} {S : AH → Prop}  (w : Int32) (v : Int32) : Ct l D ZE B yX0_mayBe cX0_mayBe 2 (some .boolean) 1 22 0 0 [.int w, .int v] (S) (RI (bI (fitP w v)) (S)) := by
  refine Ct.of (nL := 2) (lv := [some (.int w), some (.int v)]) (by decide) (Nat.le_of_ble_eq_true rfl) stZE 0 rfl ?_
  generalize hT : RI (bI (fitP w v)) (S) = T
  intro zp ze zs zm zb zt zc F hr hnm
  generalize ([.int w, .int v] : List Value).toArray = za at F ⊢
  refine g_iload_n F dX0_mayBe_0 rfl rfl (np := 1) rfl ?_
  by_cases k1_0 : w = 0
  · refine g_tabIn F (x := w) (v := 0) k1_0 (lo := 0) dX0_mayBe_1 (j := 0) (by decide) (by decide) (by decide) rfl (np := 40) (by decide) ?_
    refine g_iload_n F dX0_mayBe_40 rfl rfl (np := 41) rfl ?_
    refine g_iconst F (v := (nI 0)) dX0_mayBe_41 (by decide) (np := 42) rfl ?_
    refine g_sipush F (v := (nI 999)) dX0_mayBe_42 (by decide) (np := 45) rfl ?_
    refine g_runS F (rest := []) (ct_X0_in v (nI (0)) (nI (999)) ) (lw_S q298 q299 q100 q300) hcS_X0_in ⟨Nat.le_of_ble_eq_true rfl, Nat.le_of_ble_eq_true rfl⟩ rfl rfl (Nat.le_of_ble_eq_true rfl) dX0_mayBe_45 ⟨Nat.le_of_ble_eq_true rfl, Nat.le_of_ble_eq_true rfl⟩ (np := 48) rfl (k_RI ?_)
    have hv : bI (btw v (nI (0)) (nI (999))) = bI (fitP w v) := bI_c (by unfold fitP; first | (simp_all [bt999, bt2, bt1, bt99]; done) | (simp_all [bt999, bt2, bt1, bt99, nI_0]; done))
    exact g_iret F hr bI_nar (Nat.le_of_ble_eq_true rfl) (Nat.le_of_ble_eq_true rfl) dX0_mayBe_48 (fun h hs => by rw [← hT]; exact ⟨congrArg (fun z => some (Value.int z)) hv, hs⟩)
  by_cases k1_1 : w = 1
  · refine g_tabIn F (x := w) (v := 1) k1_1 (lo := 0) dX0_mayBe_1 (j := 1) (by decide) (by decide) (by decide) rfl (np := 71) (by decide) ?_
    refine g_iload_n F dX0_mayBe_71 rfl rfl (np := 72) rfl ?_
    refine g_iconst F (v := (nI 0)) dX0_mayBe_72 (by decide) (np := 73) rfl ?_
    refine g_bipush F (v := (nI 99)) dX0_mayBe_73 (by decide) (np := 75) rfl ?_
    refine g_runS F (rest := []) (ct_X0_in v (nI (0)) (nI (99)) ) (lw_S q298 q299 q100 q300) hcS_X0_in ⟨Nat.le_of_ble_eq_true rfl, Nat.le_of_ble_eq_true rfl⟩ rfl rfl (Nat.le_of_ble_eq_true rfl) dX0_mayBe_75 ⟨Nat.le_of_ble_eq_true rfl, Nat.le_of_ble_eq_true rfl⟩ (np := 78) rfl (k_RI ?_)
    have hv : bI (btw v (nI (0)) (nI (99))) = bI (fitP w v) := bI_c (by unfold fitP; first | (simp_all [bt999, bt2, bt1, bt99]; done) | (simp_all [bt999, bt2, bt1, bt99, nI_0]; done))
    exact g_iret F hr bI_nar (Nat.le_of_ble_eq_true rfl) (Nat.le_of_ble_eq_true rfl) dX0_mayBe_78 (fun h hs => by rw [← hT]; exact ⟨congrArg (fun z => some (Value.int z)) hv, hs⟩)
  by_cases k1_2 : w = 2
  · refine g_tabIn F (x := w) (v := 2) k1_2 (lo := 0) dX0_mayBe_1 (j := 2) (by decide) (by decide) (by decide) rfl (np := 49) (by decide) ?_
    refine g_iload_n F dX0_mayBe_49 rfl rfl (np := 50) rfl ?_
    refine g_iconst F (v := (nI 0)) dX0_mayBe_50 (by decide) (np := 51) rfl ?_
    refine g_iconst F (v := (nI 2)) dX0_mayBe_51 (by decide) (np := 52) rfl ?_
    refine g_runS F (rest := []) (ct_X0_in v (nI (0)) (nI (2)) ) (lw_S q298 q299 q100 q300) hcS_X0_in ⟨Nat.le_of_ble_eq_true rfl, Nat.le_of_ble_eq_true rfl⟩ rfl rfl (Nat.le_of_ble_eq_true rfl) dX0_mayBe_52 ⟨Nat.le_of_ble_eq_true rfl, Nat.le_of_ble_eq_true rfl⟩ (np := 55) rfl (k_RI ?_)
    have hv : bI (btw v (nI (0)) (nI (2))) = bI (fitP w v) := bI_c (by unfold fitP; first | (simp_all [bt999, bt2, bt1, bt99]; done) | (simp_all [bt999, bt2, bt1, bt99, nI_0]; done))
    exact g_iret F hr bI_nar (Nat.le_of_ble_eq_true rfl) (Nat.le_of_ble_eq_true rfl) dX0_mayBe_55 (fun h hs => by rw [← hT]; exact ⟨congrArg (fun z => some (Value.int z)) hv, hs⟩)
  by_cases k1_3 : w = 3
  · refine g_tabIn F (x := w) (v := 3) k1_3 (lo := 0) dX0_mayBe_1 (j := 3) (by decide) (by decide) (by decide) rfl (np := 56) (by decide) ?_
    refine g_iload_n F dX0_mayBe_56 rfl rfl (np := 57) rfl ?_
    refine g_iconst F (v := (nI 1)) dX0_mayBe_57 (by decide) (np := 58) rfl ?_
    refine g_bipush F (v := (nI 99)) dX0_mayBe_58 (by decide) (np := 60) rfl ?_
    refine g_runS F (rest := []) (ct_X0_in v (nI (1)) (nI (99)) ) (lw_S q298 q299 q100 q300) hcS_X0_in ⟨Nat.le_of_ble_eq_true rfl, Nat.le_of_ble_eq_true rfl⟩ rfl rfl (Nat.le_of_ble_eq_true rfl) dX0_mayBe_60 ⟨Nat.le_of_ble_eq_true rfl, Nat.le_of_ble_eq_true rfl⟩ (np := 63) rfl (k_RI ?_)
    have hv : bI (btw v (nI (1)) (nI (99))) = bI (fitP w v) := bI_c (by unfold fitP; first | (simp_all [bt999, bt2, bt1, bt99]; done) | (simp_all [bt999, bt2, bt1, bt99, nI_0]; done))
    exact g_iret F hr bI_nar (Nat.le_of_ble_eq_true rfl) (Nat.le_of_ble_eq_true rfl) dX0_mayBe_63 (fun h hs => by rw [← hT]; exact ⟨congrArg (fun z => some (Value.int z)) hv, hs⟩)
  by_cases k1_4 : w = 4
  · refine g_tabIn F (x := w) (v := 4) k1_4 (lo := 0) dX0_mayBe_1 (j := 4) (by decide) (by decide) (by decide) rfl (np := 71) (by decide) ?_
    refine g_iload_n F dX0_mayBe_71 rfl rfl (np := 72) rfl ?_
    refine g_iconst F (v := (nI 0)) dX0_mayBe_72 (by decide) (np := 73) rfl ?_
    refine g_bipush F (v := (nI 99)) dX0_mayBe_73 (by decide) (np := 75) rfl ?_
    refine g_runS F (rest := []) (ct_X0_in v (nI (0)) (nI (99)) ) (lw_S q298 q299 q100 q300) hcS_X0_in ⟨Nat.le_of_ble_eq_true rfl, Nat.le_of_ble_eq_true rfl⟩ rfl rfl (Nat.le_of_ble_eq_true rfl) dX0_mayBe_75 ⟨Nat.le_of_ble_eq_true rfl, Nat.le_of_ble_eq_true rfl⟩ (np := 78) rfl (k_RI ?_)
    have hv : bI (btw v (nI (0)) (nI (99))) = bI (fitP w v) := bI_c (by unfold fitP; first | (simp_all [bt999, bt2, bt1, bt99]; done) | (simp_all [bt999, bt2, bt1, bt99, nI_0]; done))
    exact g_iret F hr bI_nar (Nat.le_of_ble_eq_true rfl) (Nat.le_of_ble_eq_true rfl) dX0_mayBe_78 (fun h hs => by rw [← hT]; exact ⟨congrArg (fun z => some (Value.int z)) hv, hs⟩)
  by_cases k1_5 : w = 5
  · refine g_tabIn F (x := w) (v := 5) k1_5 (lo := 0) dX0_mayBe_1 (j := 5) (by decide) (by decide) (by decide) rfl (np := 64) (by decide) ?_
    refine g_iload_n F dX0_mayBe_64 rfl rfl (np := 65) rfl ?_
    refine g_iconst F (v := (nI 0)) dX0_mayBe_65 (by decide) (np := 66) rfl ?_
    refine g_iconst F (v := (nI 1)) dX0_mayBe_66 (by decide) (np := 67) rfl ?_
    refine g_runS F (rest := []) (ct_X0_in v (nI (0)) (nI (1)) ) (lw_S q298 q299 q100 q300) hcS_X0_in ⟨Nat.le_of_ble_eq_true rfl, Nat.le_of_ble_eq_true rfl⟩ rfl rfl (Nat.le_of_ble_eq_true rfl) dX0_mayBe_67 ⟨Nat.le_of_ble_eq_true rfl, Nat.le_of_ble_eq_true rfl⟩ (np := 70) rfl (k_RI ?_)
    have hv : bI (btw v (nI (0)) (nI (1))) = bI (fitP w v) := bI_c (by unfold fitP; first | (simp_all [bt999, bt2, bt1, bt99]; done) | (simp_all [bt999, bt2, bt1, bt99, nI_0]; done))
    exact g_iret F hr bI_nar (Nat.le_of_ble_eq_true rfl) (Nat.le_of_ble_eq_true rfl) dX0_mayBe_70 (fun h hs => by rw [← hT]; exact ⟨congrArg (fun z => some (Value.int z)) hv, hs⟩)
  refine g_tabOut F (x := w) dX0_mayBe_1 (by
    have e0 : ¬ (w).toInt = 0 := fun q => k1_0 (Int32.toInt_inj.mp (q.trans (by decide)))
    have e1 : ¬ (w).toInt = 1 := fun q => k1_1 (Int32.toInt_inj.mp (q.trans (by decide)))
    have e2 : ¬ (w).toInt = 2 := fun q => k1_2 (Int32.toInt_inj.mp (q.trans (by decide)))
    have e3 : ¬ (w).toInt = 3 := fun q => k1_3 (Int32.toInt_inj.mp (q.trans (by decide)))
    have e4 : ¬ (w).toInt = 4 := fun q => k1_4 (Int32.toInt_inj.mp (q.trans (by decide)))
    have e5 : ¬ (w).toInt = 5 := fun q => k1_5 (Int32.toInt_inj.mp (q.trans (by decide)))
    omega) (np := 71) (by decide) ?_
  refine g_iload_n F dX0_mayBe_71 rfl rfl (np := 72) rfl ?_
  refine g_iconst F (v := (nI 0)) dX0_mayBe_72 (by decide) (np := 73) rfl ?_
  refine g_bipush F (v := (nI 99)) dX0_mayBe_73 (by decide) (np := 75) rfl ?_
  refine g_runS F (rest := []) (ct_X0_in v (nI (0)) (nI (99)) ) (lw_S q298 q299 q100 q300) hcS_X0_in ⟨Nat.le_of_ble_eq_true rfl, Nat.le_of_ble_eq_true rfl⟩ rfl rfl (Nat.le_of_ble_eq_true rfl) dX0_mayBe_75 ⟨Nat.le_of_ble_eq_true rfl, Nat.le_of_ble_eq_true rfl⟩ (np := 78) rfl (k_RI ?_)
  have hv : bI (btw v (nI (0)) (nI (99))) = bI (fitP w v) := bI_c (by unfold fitP; first | (simp_all [bt999, bt2, bt1, bt99]; done) | (simp_all [bt999, bt2, bt1, bt99, nI_0]; done))
  exact g_iret F hr bI_nar (Nat.le_of_ble_eq_true rfl) (Nat.le_of_ble_eq_true rfl) dX0_mayBe_78 (fun h hs => by rw [← hT]; exact ⟨congrArg (fun z => some (Value.int z)) hv, hs⟩)

set_option maxRecDepth 100000 in
theorem ct_X0_valueOf {l : Launch} {D : va_G} {B : Nat} {Λ : LT} {I : AH} {L : LawT} (σ : MSt)  (n : Nat) (w : Nat) (hno : σ.1 0 ≤ 8) (hm14 : σ.1 2 ≤ 14) (hw : w ≤ 6) (hw0 : w = 0 → n < σ.1 0) (hw1 : 1 ≤ w → w ≤ 5 → n < σ.1 2) : Ct l D ZE B yX0_valueOf cX0_valueOf 3 (some .int) 0 0 0 0 [.ref (Λ.1 0 38), .int (nI n), .int (nI w)] (XH D Λ I L σ) (RI (sGet σ n w) (XH D Λ I L σ)) := by
  refine Ct.of (nL := 3) (lv := [some (.ref (Λ.1 0 38)), some (.int (nI n)), some (.int (nI w))]) (by decide) (Nat.le_of_ble_eq_true rfl) stZE 0 rfl ?_
  generalize hT : RI (sGet σ n w) (XH D Λ I L σ) = T
  intro zp ze zs zm zb zt zc F hr hnm
  generalize ([.ref (Λ.1 0 38), .int (nI n), .int (nI w)] : List Value).toArray = za at F ⊢
  refine g_iload_n F dX0_valueOf_0 rfl rfl (np := 1) rfl ?_
  by_cases k1_0 : (nI (w)) = 0
  · refine g_tabIn F (x := (nI (w))) (v := 0) k1_0 (lo := 0) dX0_valueOf_1 (j := 0) (by decide) (by decide) (by decide) rfl (np := 40) (by decide) ?_
    have e1_0 : w = 0 := (nI_eq (a := w) (b := 0) (by omega) (by decide)).mp (k1_0.trans (by decide))
    refine g_aload_n F dX0_valueOf_40 rfl rfl (np := 41) rfl ?_
    refine x_get F (k := 0) (v := .ref (Λ.1 0 0)) (by decide) rfl (Or.inl q177) dX0_valueOf_41 (np := 44) rfl ?_
    refine g_iload_n F dX0_valueOf_44 rfl rfl (np := 45) rfl ?_
    refine x_aldO F (i := n) rfl (show n < σ.1 0 by exact hw0 e1_0) (show σ.1 0 ≤ 8 by omega) dX0_valueOf_45 (np := 46) rfl ?_
    refine x_getO F (i := n) (v := σ.2.1 1 n) (show n < σ.1 0 by exact hw0 e1_0) rfl (Or.inr ⟨_, ze307⟩) dX0_valueOf_46 (np := 49) rfl ?_
    have hv : σ.2.1 1 n = sGet σ n w := by unfold sGet; rw [if_pos e1_0]
    exact g_iret F hr rfl (Nat.le_of_ble_eq_true rfl) (Nat.le_of_ble_eq_true rfl) dX0_valueOf_49 (fun h hs => by rw [← hT]; exact ⟨congrArg (fun z => some (Value.int z)) hv, hs⟩)
  by_cases k1_1 : (nI (w)) = 1
  · refine g_tabIn F (x := (nI (w))) (v := 1) k1_1 (lo := 0) dX0_valueOf_1 (j := 1) (by decide) (by decide) (by decide) rfl (np := 50) (by decide) ?_
    have e1_1 : w = 1 := (nI_eq (a := w) (b := 1) (by omega) (by decide)).mp (k1_1.trans (by decide))
    refine g_aload_n F dX0_valueOf_50 rfl rfl (np := 51) rfl ?_
    refine x_get F (k := 1) (v := .ref (Λ.1 0 1)) (by decide) rfl (Or.inl q178) dX0_valueOf_51 (np := 54) rfl ?_
    refine g_iload_n F dX0_valueOf_54 rfl rfl (np := 55) rfl ?_
    refine x_aldP F (i := n) rfl (show n < σ.1 2 by exact hw1 (by omega) (by omega)) (show σ.1 2 ≤ 14 by omega) dX0_valueOf_55 (np := 56) rfl ?_
    refine x_getP F (k := 2) (i := n) (v := .int (σ.2.1 3 n)) (by decide) (show n < σ.1 2 by exact hw1 (by omega) (by omega)) rfl (Or.inr ⟨_, ze337⟩) dX0_valueOf_56 (np := 59) rfl ?_
    have hv : σ.2.1 3 n = sGet σ n w := by unfold sGet; subst e1_1; rw [if_neg (by decide), if_neg (by decide), show 15 * (1 - 1) + n = n from Nat.zero_add n]
    exact g_iret F hr rfl (Nat.le_of_ble_eq_true rfl) (Nat.le_of_ble_eq_true rfl) dX0_valueOf_59 (fun h hs => by rw [← hT]; exact ⟨congrArg (fun z => some (Value.int z)) hv, hs⟩)
  by_cases k1_2 : (nI (w)) = 2
  · refine g_tabIn F (x := (nI (w))) (v := 2) k1_2 (lo := 0) dX0_valueOf_1 (j := 2) (by decide) (by decide) (by decide) rfl (np := 60) (by decide) ?_
    have e1_2 : w = 2 := (nI_eq (a := w) (b := 2) (by omega) (by decide)).mp (k1_2.trans (by decide))
    refine g_aload_n F dX0_valueOf_60 rfl rfl (np := 61) rfl ?_
    refine x_get F (k := 1) (v := .ref (Λ.1 0 1)) (by decide) rfl (Or.inl q178) dX0_valueOf_61 (np := 64) rfl ?_
    refine g_iload_n F dX0_valueOf_64 rfl rfl (np := 65) rfl ?_
    refine x_aldP F (i := n) rfl (show n < σ.1 2 by exact hw1 (by omega) (by omega)) (show σ.1 2 ≤ 14 by omega) dX0_valueOf_65 (np := 66) rfl ?_
    refine x_getP F (k := 3) (i := n) (v := .int (σ.2.1 3 (15 + n))) (by decide) (show n < σ.1 2 by exact hw1 (by omega) (by omega)) rfl (Or.inr ⟨_, ze339⟩) dX0_valueOf_66 (np := 69) rfl ?_
    have hv : σ.2.1 3 (15 + n) = sGet σ n w := by unfold sGet; subst e1_2; rfl
    exact g_iret F hr rfl (Nat.le_of_ble_eq_true rfl) (Nat.le_of_ble_eq_true rfl) dX0_valueOf_69 (fun h hs => by rw [← hT]; exact ⟨congrArg (fun z => some (Value.int z)) hv, hs⟩)
  by_cases k1_3 : (nI (w)) = 3
  · refine g_tabIn F (x := (nI (w))) (v := 3) k1_3 (lo := 0) dX0_valueOf_1 (j := 3) (by decide) (by decide) (by decide) rfl (np := 70) (by decide) ?_
    have e1_3 : w = 3 := (nI_eq (a := w) (b := 3) (by omega) (by decide)).mp (k1_3.trans (by decide))
    refine g_aload_n F dX0_valueOf_70 rfl rfl (np := 71) rfl ?_
    refine x_get F (k := 1) (v := .ref (Λ.1 0 1)) (by decide) rfl (Or.inl q178) dX0_valueOf_71 (np := 74) rfl ?_
    refine g_iload_n F dX0_valueOf_74 rfl rfl (np := 75) rfl ?_
    refine x_aldP F (i := n) rfl (show n < σ.1 2 by exact hw1 (by omega) (by omega)) (show σ.1 2 ≤ 14 by omega) dX0_valueOf_75 (np := 76) rfl ?_
    refine x_getP F (k := 4) (i := n) (v := .int (σ.2.1 3 (30 + n))) (by decide) (show n < σ.1 2 by exact hw1 (by omega) (by omega)) rfl (Or.inr ⟨_, ze341⟩) dX0_valueOf_76 (np := 79) rfl ?_
    have hv : σ.2.1 3 (30 + n) = sGet σ n w := by unfold sGet; subst e1_3; rfl
    exact g_iret F hr rfl (Nat.le_of_ble_eq_true rfl) (Nat.le_of_ble_eq_true rfl) dX0_valueOf_79 (fun h hs => by rw [← hT]; exact ⟨congrArg (fun z => some (Value.int z)) hv, hs⟩)
  by_cases k1_4 : (nI (w)) = 4
  · refine g_tabIn F (x := (nI (w))) (v := 4) k1_4 (lo := 0) dX0_valueOf_1 (j := 4) (by decide) (by decide) (by decide) rfl (np := 80) (by decide) ?_
    have e1_4 : w = 4 := (nI_eq (a := w) (b := 4) (by omega) (by decide)).mp (k1_4.trans (by decide))
    refine g_aload_n F dX0_valueOf_80 rfl rfl (np := 81) rfl ?_
    refine x_get F (k := 1) (v := .ref (Λ.1 0 1)) (by decide) rfl (Or.inl q178) dX0_valueOf_81 (np := 84) rfl ?_
    refine g_iload_n F dX0_valueOf_84 rfl rfl (np := 85) rfl ?_
    refine x_aldP F (i := n) rfl (show n < σ.1 2 by exact hw1 (by omega) (by omega)) (show σ.1 2 ≤ 14 by omega) dX0_valueOf_85 (np := 86) rfl ?_
    refine x_getP F (k := 5) (i := n) (v := .int (σ.2.1 3 (45 + n))) (by decide) (show n < σ.1 2 by exact hw1 (by omega) (by omega)) rfl (Or.inr ⟨_, ze343⟩) dX0_valueOf_86 (np := 89) rfl ?_
    have hv : σ.2.1 3 (45 + n) = sGet σ n w := by unfold sGet; subst e1_4; rfl
    exact g_iret F hr rfl (Nat.le_of_ble_eq_true rfl) (Nat.le_of_ble_eq_true rfl) dX0_valueOf_89 (fun h hs => by rw [← hT]; exact ⟨congrArg (fun z => some (Value.int z)) hv, hs⟩)
  by_cases k1_5 : (nI (w)) = 5
  · refine g_tabIn F (x := (nI (w))) (v := 5) k1_5 (lo := 0) dX0_valueOf_1 (j := 5) (by decide) (by decide) (by decide) rfl (np := 90) (by decide) ?_
    have e1_5 : w = 5 := (nI_eq (a := w) (b := 5) (by omega) (by decide)).mp (k1_5.trans (by decide))
    refine g_aload_n F dX0_valueOf_90 rfl rfl (np := 91) rfl ?_
    refine x_get F (k := 1) (v := .ref (Λ.1 0 1)) (by decide) rfl (Or.inl q178) dX0_valueOf_91 (np := 94) rfl ?_
    refine g_iload_n F dX0_valueOf_94 rfl rfl (np := 95) rfl ?_
    refine x_aldP F (i := n) rfl (show n < σ.1 2 by exact hw1 (by omega) (by omega)) (show σ.1 2 ≤ 14 by omega) dX0_valueOf_95 (np := 96) rfl ?_
    refine x_getP F (k := 6) (i := n) (v := .int (σ.2.1 3 (60 + n))) (by decide) (show n < σ.1 2 by exact hw1 (by omega) (by omega)) rfl (Or.inr ⟨_, ze345⟩) dX0_valueOf_96 (np := 99) rfl ?_
    have hv : σ.2.1 3 (60 + n) = sGet σ n w := by unfold sGet; subst e1_5; rfl
    exact g_iret F hr rfl (Nat.le_of_ble_eq_true rfl) (Nat.le_of_ble_eq_true rfl) dX0_valueOf_99 (fun h hs => by rw [← hT]; exact ⟨congrArg (fun z => some (Value.int z)) hv, hs⟩)
  have n1_0 : ¬ w = 0 := fun q => k1_0 (by rw [q]; decide)
  have n1_1 : ¬ w = 1 := fun q => k1_1 (by rw [q]; decide)
  have n1_2 : ¬ w = 2 := fun q => k1_2 (by rw [q]; decide)
  have n1_3 : ¬ w = 3 := fun q => k1_3 (by rw [q]; decide)
  have n1_4 : ¬ w = 4 := fun q => k1_4 (by rw [q]; decide)
  have n1_5 : ¬ w = 5 := fun q => k1_5 (by rw [q]; decide)
  refine g_tabOut F (x := (nI (w))) dX0_valueOf_1 (by
    have e0 : ¬ ((nI (w))).toInt = 0 := fun q => k1_0 (Int32.toInt_inj.mp (q.trans (by decide)))
    have e1 : ¬ ((nI (w))).toInt = 1 := fun q => k1_1 (Int32.toInt_inj.mp (q.trans (by decide)))
    have e2 : ¬ ((nI (w))).toInt = 2 := fun q => k1_2 (Int32.toInt_inj.mp (q.trans (by decide)))
    have e3 : ¬ ((nI (w))).toInt = 3 := fun q => k1_3 (Int32.toInt_inj.mp (q.trans (by decide)))
    have e4 : ¬ ((nI (w))).toInt = 4 := fun q => k1_4 (Int32.toInt_inj.mp (q.trans (by decide)))
    have e5 : ¬ ((nI (w))).toInt = 5 := fun q => k1_5 (Int32.toInt_inj.mp (q.trans (by decide)))
    omega) (np := 100) (by decide) ?_
  refine g_aload_n F dX0_valueOf_100 rfl rfl (np := 101) rfl ?_
  refine x_get F (k := 4) (v := .int (nI (σ.1 6))) (by decide) rfl (Or.inl q181) dX0_valueOf_101 (np := 104) rfl ?_
  have hv : nI (σ.1 6) = sGet σ n w := by unfold sGet; rw [if_neg n1_0, if_pos (by omega)]
  exact g_iret F hr rfl (Nat.le_of_ble_eq_true rfl) (Nat.le_of_ble_eq_true rfl) dX0_valueOf_104 (fun h hs => by rw [← hT]; exact ⟨congrArg (fun z => some (Value.int z)) hv, hs⟩)

set_option maxRecDepth 100000 in
theorem ct_X0_of {l : Launch} {D : va_G} {B : Nat} {Λ : LT} {I : AH} {L : LawT} (σ : MSt)  (n : Int32) (w : Int32) (hno : σ.1 0 ≤ 8) (hm14 : σ.1 2 ≤ 14) : Ct l D ZE B yX0_of cX0_of 3 (some .int) 3 65 0 0 [.ref (Λ.1 0 38), .int n, .int w] (XH D Λ I L σ) (RI (rOf σ n w) (XH D Λ I L σ)) := by
  refine Ct.of (nL := 3) (lv := [some (.ref (Λ.1 0 38)), some (.int n), some (.int w)]) (by decide) (Nat.le_of_ble_eq_true rfl) stZE 0 rfl ?_
  generalize hT : RI (rOf σ n w) (XH D Λ I L σ) = T
  intro zp ze zs zm zb zt zc F hr hnm
  generalize ([.ref (Λ.1 0 38), .int n, .int w] : List Value).toArray = za at F ⊢
  refine g_iload_n F dX0_of_0 rfl rfl (np := 1) rfl ?_
  refine g_bipush F (v := (nI 7)) dX0_of_1 (by decide) (np := 3) rfl ?_
  refine g_bipush F (v := (nI 8)) dX0_of_3 (by decide) (np := 5) rfl ?_
  refine g_runS F (rest := []) (ct_X0_in w (nI (7)) (nI (8)) ) (lw_S q298 q299 q100 q300) hcS_X0_in ⟨Nat.le_of_ble_eq_true rfl, Nat.le_of_ble_eq_true rfl⟩ rfl rfl (Nat.le_of_ble_eq_true rfl) dX0_of_5 ⟨Nat.le_of_ble_eq_true rfl, Nat.le_of_ble_eq_true rfl⟩ (np := 8) rfl (k_RI ?_)
  refine g_if_eqB F dX0_of_8 (tp := 52) (by decide) (np := 11) rfl (fun c8 => ?_) (fun c8 => ?_)
  · refine g_aload_n F dX0_of_52 rfl rfl (np := 53) rfl ?_
    refine g_iload_n F dX0_of_53 rfl rfl (np := 54) rfl ?_
    refine g_iload_n F dX0_of_54 rfl rfl (np := 55) rfl ?_
    refine g_runV F (C := RX0) (ci := 0) (T0 := TX0) (N := 38) (rest := []) (ct_X0_isOf σ n w (by first | assumption | omega) (by first | assumption | omega)) (lw_V q517 q519 qs6 q100 q520) hcV_X0_isOf ⟨Nat.le_of_ble_eq_true rfl, Nat.le_of_ble_eq_true rfl⟩ rfl (fun h hs => hs.obj) rfl rfl (Nat.le_of_ble_eq_true rfl) dX0_of_55 ⟨Nat.le_of_ble_eq_true rfl, Nat.le_of_ble_eq_true rfl⟩ (np := 58) rfl (k_RI ?_)
    refine g_if_eqB F dX0_of_58 (tp := 70) (by decide) (np := 61) rfl (fun c58 => ?_) (fun c58 => ?_)
    · refine g_ldc F q558 dX0_of_70 (np := 72) rfl ?_
      have hv : -2000000000 = rOf σ n w := by unfold rOf; rw [pif_f c8]; first | (rw [pif_f c58]; done) | (rw [pif_t c58]; done)
      exact g_iret F hr rfl (Nat.le_of_ble_eq_true rfl) (Nat.le_of_ble_eq_true rfl) dX0_of_72 (fun h hs => by rw [← hT]; exact ⟨congrArg (fun z => some (Value.int z)) hv, hs⟩)
    · obtain ⟨z1, z2, z3, z4, z5, z6⟩ := ofP_cl hno (by omega) c58
      refine WG.eqv (lv' := [some (.ref (Λ.1 0 38)), some (.int (nI (n.toNatClampNeg))), some (.int w)]) rfl (congrArg (fun z => ([some (.ref (Λ.1 0 38)), some (.int z), some (.int w)] : List (Option Value))) (show n = (nI (n.toNatClampNeg)) from by exact z1)) ?_
      refine WG.eqv (lv' := [some (.ref (Λ.1 0 38)), some (.int (nI (n.toNatClampNeg))), some (.int (nI (w.toNatClampNeg)))]) rfl (congrArg (fun z => ([some (.ref (Λ.1 0 38)), some (.int (nI (n.toNatClampNeg))), some (.int z)] : List (Option Value))) (show w = (nI (w.toNatClampNeg)) from by exact z2)) ?_
      refine g_aload_n F dX0_of_61 rfl rfl (np := 62) rfl ?_
      refine g_iload_n F dX0_of_62 rfl rfl (np := 63) rfl ?_
      refine g_iload_n F dX0_of_63 rfl rfl (np := 64) rfl ?_
      refine g_runV F (C := RX0) (ci := 0) (T0 := TX0) (N := 38) (rest := []) (ct_X0_valueOf σ n.toNatClampNeg w.toNatClampNeg (by first | assumption | omega) (by first | assumption | omega) (by exact z3) (by exact z4) (by exact z5)) (lw_V q528 q530 qs8 q100 q531) hcV_X0_valueOf ⟨Nat.le_of_ble_eq_true rfl, Nat.le_of_ble_eq_true rfl⟩ rfl (fun h hs => hs.obj) rfl rfl (Nat.le_of_ble_eq_true rfl) dX0_of_64 ⟨Nat.le_of_ble_eq_true rfl, Nat.le_of_ble_eq_true rfl⟩ (np := 67) rfl (k_RI ?_)
      refine g_goto F dX0_of_67 (np := 72) (by decide) ?_
      have hv : sGet σ n.toNatClampNeg w.toNatClampNeg = rOf σ n w := by unfold rOf; rw [pif_f c8]; first | (rw [pif_f c58]; done) | (rw [pif_t c58]; done)
      exact g_iret F hr rfl (Nat.le_of_ble_eq_true rfl) (Nat.le_of_ble_eq_true rfl) dX0_of_72 (fun h hs => by rw [← hT]; exact ⟨congrArg (fun z => some (Value.int z)) hv, hs⟩)
  · refine g_aload_n F dX0_of_11 rfl rfl (np := 12) rfl ?_
    refine g_iload_n F dX0_of_12 rfl rfl (np := 13) rfl ?_
    refine g_runV F (C := RX0) (ci := 0) (T0 := TX0) (N := 38) (rest := []) (ct_X0_isPromise σ n (by first | assumption | omega)) (lw_V q521 q523 qs7 q100 q524) hcV_X0_isPromise ⟨Nat.le_of_ble_eq_true rfl, Nat.le_of_ble_eq_true rfl⟩ rfl (fun h hs => hs.obj) rfl rfl (Nat.le_of_ble_eq_true rfl) dX0_of_13 ⟨Nat.le_of_ble_eq_true rfl, Nat.le_of_ble_eq_true rfl⟩ (np := 16) rfl (k_RI ?_)
    refine g_if_neB F dX0_of_16 (tp := 24) (by decide) (np := 19) rfl (fun c16 => ?_) (fun c16 => ?_)
    · obtain ⟨hnl, hne⟩ := inN_cl (by omega) c16
      refine WG.eqv (lv' := [some (.ref (Λ.1 0 38)), some (.int (nI (n.toNatClampNeg))), some (.int w)]) rfl (congrArg (fun z => ([some (.ref (Λ.1 0 38)), some (.int z), some (.int w)] : List (Option Value))) (show n = (nI (n.toNatClampNeg)) from by exact hne)) ?_
      refine g_iload_n F dX0_of_24 rfl rfl (np := 25) rfl ?_
      refine g_bipush F (v := (nI 7)) dX0_of_25 (by decide) (np := 27) rfl ?_
      refine g_icmp_ne F dX0_of_27 (tp := 42) (by decide) (np := 30) rfl (fun c27 => ?_) (fun c27 => ?_)
      · refine g_aload_n F dX0_of_42 rfl rfl (np := 43) rfl ?_
        refine x_get F (k := 1) (v := .ref (Λ.1 0 1)) (by decide) rfl (Or.inl q178) dX0_of_43 (np := 46) rfl ?_
        refine g_iload_n F dX0_of_46 rfl rfl (np := 47) rfl ?_
        refine x_aldP F (i := n.toNatClampNeg) rfl (show n.toNatClampNeg < σ.1 2 by omega) (show σ.1 2 ≤ 14 by omega) dX0_of_47 (np := 48) rfl ?_
        refine x_getP F (k := 1) (i := n.toNatClampNeg) (v := .int (σ.2.1 5 n.toNatClampNeg)) (by decide) (show n.toNatClampNeg < σ.1 2 by omega) rfl (Or.inr ⟨_, ze335⟩) dX0_of_48 (np := 51) rfl ?_
        have hv : σ.2.1 5 n.toNatClampNeg = rOf σ n w := by unfold rOf; rw [pif_t c8]; first | (rw [pif_f c16]; done) | (rw [pif_t c16, if_pos c27]; done) | (rw [pif_t c16, if_neg c27]; done)
        exact g_iret F hr rfl (Nat.le_of_ble_eq_true rfl) (Nat.le_of_ble_eq_true rfl) dX0_of_51 (fun h hs => by rw [← hT]; exact ⟨congrArg (fun z => some (Value.int z)) hv, hs⟩)
      · refine g_aload_n F dX0_of_30 rfl rfl (np := 31) rfl ?_
        refine x_get F (k := 1) (v := .ref (Λ.1 0 1)) (by decide) rfl (Or.inl q178) dX0_of_31 (np := 34) rfl ?_
        refine g_iload_n F dX0_of_34 rfl rfl (np := 35) rfl ?_
        refine x_aldP F (i := n.toNatClampNeg) rfl (show n.toNatClampNeg < σ.1 2 by omega) (show σ.1 2 ≤ 14 by omega) dX0_of_35 (np := 36) rfl ?_
        refine x_getP F (k := 0) (i := n.toNatClampNeg) (v := .int (σ.2.1 4 n.toNatClampNeg)) (by decide) (show n.toNatClampNeg < σ.1 2 by omega) rfl (Or.inr ⟨_, ze333⟩) dX0_of_36 (np := 39) rfl ?_
        refine g_goto F dX0_of_39 (np := 51) (by decide) ?_
        have hv : σ.2.1 4 n.toNatClampNeg = rOf σ n w := by unfold rOf; rw [pif_t c8]; first | (rw [pif_f c16]; done) | (rw [pif_t c16, if_pos c27]; done) | (rw [pif_t c16, if_neg c27]; done)
        exact g_iret F hr rfl (Nat.le_of_ble_eq_true rfl) (Nat.le_of_ble_eq_true rfl) dX0_of_51 (fun h hs => by rw [← hT]; exact ⟨congrArg (fun z => some (Value.int z)) hv, hs⟩)
    · refine g_ldc F q558 dX0_of_19 (np := 21) rfl ?_
      refine g_goto F dX0_of_21 (np := 51) (by decide) ?_
      have hv : -2000000000 = rOf σ n w := by unfold rOf; rw [pif_t c8]; first | (rw [pif_f c16]; done) | (rw [pif_t c16, if_pos c27]; done) | (rw [pif_t c16, if_neg c27]; done)
      exact g_iret F hr rfl (Nat.le_of_ble_eq_true rfl) (Nat.le_of_ble_eq_true rfl) dX0_of_51 (fun h hs => by rw [← hT]; exact ⟨congrArg (fun z => some (Value.int z)) hv, hs⟩)

set_option maxRecDepth 100000 in
theorem ct_X0_feed {l : Launch} {D : va_G} {B : Nat} {Λ : LT} {I : AH} {L : LawT} (σ : MSt)  (x : Int32) (htp : σ.1 7 ≤ 120) : Ct l D ZE B yX0_feed cX0_feed 2 (some .int) 1 22 0 0 [.ref (Λ.1 0 38), .int x] (XH D Λ I L σ) (RI (rFeed σ x) (XH D Λ I L (gFeed σ x))) := by
  refine Ct.of (nL := 2) (lv := [some (.ref (Λ.1 0 38)), some (.int x)]) (by decide) (Nat.le_of_ble_eq_true rfl) stZE 0 rfl ?_
  generalize hT : RI (rFeed σ x) (XH D Λ I L (gFeed σ x)) = T
  intro zp ze zs zm zb zt zc F hr hnm
  generalize ([.ref (Λ.1 0 38), .int x] : List Value).toArray = za at F ⊢
  refine g_iload_n F dX0_feed_0 rfl rfl (np := 1) rfl ?_
  refine g_iconst F (v := (nI 0)) dX0_feed_1 (by decide) (np := 2) rfl ?_
  refine g_sipush F (v := (nI 255)) dX0_feed_2 (by decide) (np := 5) rfl ?_
  refine g_runS F (rest := []) (ct_X0_in x (nI (0)) (nI (255)) ) (lw_S q298 q299 q100 q300) hcS_X0_in ⟨Nat.le_of_ble_eq_true rfl, Nat.le_of_ble_eq_true rfl⟩ rfl rfl (Nat.le_of_ble_eq_true rfl) dX0_feed_5 ⟨Nat.le_of_ble_eq_true rfl, Nat.le_of_ble_eq_true rfl⟩ (np := 8) rfl (k_RI ?_)
  refine g_if_neB F dX0_feed_8 (tp := 13) (by decide) (np := 11) rfl (fun c8 => ?_) (fun c8 => ?_)
  · refine g_aload_n F dX0_feed_13 rfl rfl (np := 14) rfl ?_
    refine x_get F (k := 10) (v := .int (nI (σ.1 7))) (by decide) rfl (Or.inl q189) dX0_feed_14 (np := 17) rfl ?_
    refine g_bipush F (v := (nI 120)) dX0_feed_17 (by decide) (np := 19) rfl ?_
    refine g_icmp_neN F (by omega) (by decide) dX0_feed_19 (tp := 25) (by decide) (np := 22) rfl (fun c19 => ?_) (fun c19 => ?_)
    · refine g_aload_n F dX0_feed_25 rfl rfl (np := 26) rfl ?_
      refine x_get F (k := 9) (v := .ref (Λ.1 0 9)) (by decide) rfl (Or.inl q186) dX0_feed_26 (np := 29) rfl ?_
      refine g_aload_n F dX0_feed_29 rfl rfl (np := 30) rfl ?_
      refine x_get F (k := 10) (v := .int (nI (σ.1 7))) (by decide) rfl (Or.inl q189) dX0_feed_30 (np := 33) rfl ?_
      refine g_iload_n F dX0_feed_33 rfl rfl (np := 34) rfl ?_
      refine g_i2b F dX0_feed_34 (np := 35) rfl ?_
      refine x_bast F (J := 9) (a := 8) (i := σ.1 7) (n := 120) (v := x) (Or.inl ⟨rfl, rfl⟩) (fun _ => rfl) (by decide) (by omega) rfl dX0_feed_35 (np := 36) rfl ?_
      refine g_aload_n F dX0_feed_36 rfl rfl (np := 37) rfl ?_
      refine g_dup F dX0_feed_37 rfl (np := 38) rfl ?_
      refine x_get F (k := 10) (v := .int (nI (σ.1 7))) (by decide) rfl (Or.inl q189) dX0_feed_38 (np := 41) rfl ?_
      refine g_iconst F (v := (nI 1)) dX0_feed_41 (by decide) (np := 42) rfl ?_
      refine g_iaddN F dX0_feed_42 (np := 43) rfl ?_
      refine x_put F (k := 10) (ty := .int) (by decide) (PutXH.ofN (n := 7) (x := (σ.1 7) + 1) (fun _ _ _ => rfl) rfl) rfl rfl rfl rfl (Or.inl q189) dX0_feed_43 (np := 46) rfl ?_
      refine g_aload_n F dX0_feed_46 rfl rfl (np := 47) rfl ?_
      refine x_get F (k := 10) (v := .int (nI ((σ.1 7) + 1))) (by decide) rfl (Or.inl q189) dX0_feed_47 (np := 50) rfl ?_
      have hσ : (sN (sA σ 8 (σ.1 7) x) 7 ((σ.1 7) + 1)) = (gFeed σ x) := by unfold gFeed; rw [pif_t ⟨bt255.mp c8, c19⟩]; rfl
      have hv : nI ((σ.1 7) + 1) = rFeed σ x := by unfold rFeed; rw [pif_t (bt255.mp c8), if_neg c19]
      exact g_iret F hr rfl (Nat.le_of_ble_eq_true rfl) (Nat.le_of_ble_eq_true rfl) dX0_feed_50 (fun h hs => by rw [← hT]; exact ⟨congrArg (fun z => some (Value.int z)) hv, (hσ ▸ hs)⟩)
    · refine g_bipush F (v := (-3)) dX0_feed_22 (by decide) (np := 24) rfl ?_
      have hσ : σ = (gFeed σ x) := by unfold gFeed; rw [pif_f (fun z => z.2 c19)]
      have hv : -3 = rFeed σ x := by unfold rFeed; rw [pif_t (bt255.mp c8), if_pos c19]; try rfl
      exact g_iret F hr rfl (Nat.le_of_ble_eq_true rfl) (Nat.le_of_ble_eq_true rfl) dX0_feed_24 (fun h hs => by rw [← hT]; exact ⟨congrArg (fun z => some (Value.int z)) hv, (hσ ▸ hs)⟩)
  · refine g_iconst F (v := (-1)) dX0_feed_11 (by decide) (np := 12) rfl ?_
    have hσ : σ = (gFeed σ x) := by unfold gFeed; rw [pif_f (fun z => c8 (bt255.mpr z.1))]
    have hv : -1 = rFeed σ x := by unfold rFeed; rw [pif_f (fun z => c8 (bt255.mpr z))]
    exact g_iret F hr rfl (Nat.le_of_ble_eq_true rfl) (Nat.le_of_ble_eq_true rfl) dX0_feed_12 (fun h hs => by rw [← hT]; exact ⟨congrArg (fun z => some (Value.int z)) hv, (hσ ▸ hs)⟩)

set_option maxRecDepth 100000 in
theorem ct_X0_wrongDay {l : Launch} {D : va_G} {B : Nat} {Λ : LT} {I : AH} {L : LawT} (σ : MSt)  (o : Int32) (hok : mOK σ L) (hm14 : σ.1 2 ≤ 14) (hbO : byOK σ) (htm : σ.1 50 ≤ 60) : Ct l D ZE B yX0_wrongDay cX0_wrongDay 3 (some .int) 204 4692 0 0 [.ref (Λ.1 0 38), .int o] (XH D Λ I L σ) (RI (oI (sUnlike (mV σ L) (σ.1 6) (σ.2.1 51) (σ.1 50) o)) (XH D Λ I L σ)) := by
  refine Ct.of (nL := 3) (lv := [some (.ref (Λ.1 0 38)), some (.int o), none]) (by decide) (Nat.le_of_ble_eq_true rfl) stZE 1 rfl ?_
  generalize hT : RI (oI (sUnlike (mV σ L) (σ.1 6) (σ.2.1 51) (σ.1 50) o)) (XH D Λ I L σ) = T
  intro zp ze zs zm zb zt zc F hr hnm
  generalize ([.ref (Λ.1 0 38), .int o] : List Value).toArray = za at F ⊢
  have hok2 := hok
  obtain ⟨ho8, hm15, ht99, hby, hlaw⟩ := hok2
  refine g_iconst F (v := (nI 0)) dX0_wrongDay_0 (by decide) (np := 1) rfl ?_
  refine g_istore_n F (lv' := [some (.ref (Λ.1 0 38)), some (.int o), some (.int (nI 0))]) dX0_wrongDay_1 rfl (by decide) rfl rfl (np := 2) rfl ?_
  have L2 : ∀ (zn : Nat) (k : Nat), (sLeast (sUnK (mV σ L) (σ.1 6) (σ.2.1 51) o) k (σ.1 50 - k) = sUnlike (mV σ L) (σ.1 6) (σ.2.1 51) (σ.1 50) o) → (k ≤ σ.1 50) → σ.1 50 - k < zn → WG zp l ze ({ frames := 204, cells := 0, slots := 0, locals := 4692 } : Room) zs zm za zb zt zc D B 3 (MQ zb (QT D B T) za zs 0 0 (zA B)) (XH D Λ I L σ) 0 0 2 [some (.ref (Λ.1 0 38)), some (.int o), some (.int (nI k))] [] := by
    intro zn
    induction zn with
    | zero => intro k h1 h2 hm; exact absurd hm (Nat.not_lt_zero _)
    | succ zn ih2 =>
      intro k h1 h2 hm
      refine g_iload_n F dX0_wrongDay_2 rfl rfl (np := 3) rfl ?_
      refine g_aload_n F dX0_wrongDay_3 rfl rfl (np := 4) rfl ?_
      refine x_get F (k := 15) (v := .int (nI (σ.1 50))) (by decide) rfl (Or.inl q194) dX0_wrongDay_4 (np := 7) rfl ?_
      refine g_icmp_geN F (by omega) (by omega) dX0_wrongDay_7 (tp := 37) (by decide) (np := 10) rfl (fun c7 => ?_) (fun c7 => ?_)
      · refine g_bipush F (v := (-2)) dX0_wrongDay_37 (by decide) (np := 39) rfl ?_
        have hv : -2 = oI (sUnlike (mV σ L) (σ.1 6) (σ.2.1 51) (σ.1 50) o) := by rw [← h1, show σ.1 50 - k = 0 by omega]; rfl
        exact g_iret F hr rfl (Nat.le_of_ble_eq_true rfl) (Nat.le_of_ble_eq_true rfl) dX0_wrongDay_39 (fun h hs => by rw [← hT]; exact ⟨congrArg (fun z => some (Value.int z)) hv, hs⟩)
      · refine g_aload_n F dX0_wrongDay_10 rfl rfl (np := 11) rfl ?_
        refine g_iload_n F dX0_wrongDay_11 rfl rfl (np := 12) rfl ?_
        refine g_aload_n F dX0_wrongDay_12 rfl rfl (np := 13) rfl ?_
        refine g_iload_n F dX0_wrongDay_13 rfl rfl (np := 14) rfl ?_
        refine g_runV F (C := RX0) (ci := 0) (T0 := TX0) (N := 38) (rest := [.int o, .ref (Λ.1 0 38)]) (ct_X0_dayBehind σ k (by first | assumption | omega) (by first | assumption | omega)) (lw_V q869 q871 qs25 q100 q872) hcV_X0_dayBehind ⟨Nat.le_of_ble_eq_true rfl, Nat.le_of_ble_eq_true rfl⟩ rfl (fun h hs => hs.obj) rfl rfl (Nat.le_of_ble_eq_true rfl) dX0_wrongDay_14 ⟨Nat.le_of_ble_eq_true rfl, Nat.le_of_ble_eq_true rfl⟩ (np := 17) rfl (k_RI ?_)
        refine g_runV F (C := RX0) (ci := 0) (T0 := TX0) (N := 38) (rest := []) (ct_X0_highOf σ o (day (σ.1 6) k) (by first | assumption | omega) (by first | assumption | omega) (by first | assumption | omega)) (lw_V q877 q879 qs27 q100 q880) hcV_X0_highOf ⟨Nat.le_of_ble_eq_true rfl, Nat.le_of_ble_eq_true rfl⟩ rfl (fun h hs => hs.obj) rfl rfl (Nat.le_of_ble_eq_true rfl) dX0_wrongDay_17 ⟨Nat.le_of_ble_eq_true rfl, Nat.le_of_ble_eq_true rfl⟩ (np := 20) rfl (k_RI ?_)
        refine g_aload_n F dX0_wrongDay_20 rfl rfl (np := 21) rfl ?_
        refine x_get F (k := 14) (v := .ref (Λ.1 0 14)) (by decide) rfl (Or.inl q193) dX0_wrongDay_21 (np := 24) rfl ?_
        refine g_iload_n F dX0_wrongDay_24 rfl rfl (np := 25) rfl ?_
        refine x_iald F (J := 14) (a := 51) (i := k) (n := 60) (v := σ.2.1 51 k) (fun _ _ _ => rfl) (by decide) (by omega) rfl rfl dX0_wrongDay_25 (np := 26) rfl ?_
        refine g_icmp_eq F dX0_wrongDay_26 (tp := 31) (by decide) (np := 29) rfl (fun c26 => ?_) (fun c26 => ?_)
        · refine g_iinc F (v := (nI (k + 1))) (lv' := [some (.ref (Λ.1 0 38)), some (.int o), some (.int (nI (k + 1)))]) dX0_wrongDay_31 rfl (nI_add _ _) (by decide) rfl rfl (np := 34) rfl ?_
          refine g_goto F dX0_wrongDay_34 (np := 2) (by decide) ?_
          exact ih2 (k + 1) (by rw [← h1, show σ.1 50 - k = (σ.1 50 - (k + 1)) + 1 by omega, sLeast_f (K := (sUnK (mV σ L) (σ.1 6) (σ.2.1 51) o)) (fun z => z c26)]) (by first | assumption | omega) (by omega)
        · refine g_iload_n F dX0_wrongDay_29 rfl rfl (np := 30) rfl ?_
          have hv : nI (k) = oI (sUnlike (mV σ L) (σ.1 6) (σ.2.1 51) (σ.1 50) o) := by rw [← h1, show σ.1 50 - k = (σ.1 50 - (k + 1)) + 1 by omega, sLeast_t (K := (sUnK (mV σ L) (σ.1 6) (σ.2.1 51) o)) (show (sUnK (mV σ L) (σ.1 6) (σ.2.1 51) o) k from c26)]; rfl
          exact g_iret F hr rfl (Nat.le_of_ble_eq_true rfl) (Nat.le_of_ble_eq_true rfl) dX0_wrongDay_30 (fun h hs => by rw [← hT]; exact ⟨congrArg (fun z => some (Value.int z)) hv, hs⟩)
  exact L2 _ 0 (by rfl) (by omega) (Nat.lt_succ_self _)

set_option maxRecDepth 100000 in
theorem ct_X0_byWorths {l : Launch} {D : va_G} {B : Nat} {Λ : LT} {I : AH} {L : LawT} (σ : MSt)  (o : Int32) (p : Nat) (le : Nat) (hok : mOK σ L) (hm14 : σ.1 2 ≤ 14) (hbO : byOK σ) (htm : σ.1 50 ≤ 60) (hp : p < σ.1 2) (hle : le ≤ 1) : Ct l D ZE B yX0_byWorths cX0_byWorths 8 (some .int) 205 4714 0 0 [.ref (Λ.1 0 38), .int o, .ref (Λ.1 2 p), .int (nI le)] (XH D Λ I L σ) (RI (if le = 0 then nI (sNum (sFitOK (mV σ L) (σ.1 6) (σ.2.1 51) (σ.1 50) o p 2) 0 100) else oI (sLeast (sFitOK (mV σ L) (σ.1 6) (σ.2.1 51) (σ.1 50) o p 2) 0 100)) (XH D Λ I L σ)) := by
  refine Ct.of (nL := 8) (lv := [some (.ref (Λ.1 0 38)), some (.int o), some (.ref (Λ.1 2 p)), some (.int (nI le)), none, none, none, none]) (by decide) (Nat.le_of_ble_eq_true rfl) stZE 4 rfl ?_
  generalize hT : RI (if le = 0 then nI (sNum (sFitOK (mV σ L) (σ.1 6) (σ.2.1 51) (σ.1 50) o p 2) 0 100) else oI (sLeast (sFitOK (mV σ L) (σ.1 6) (σ.2.1 51) (σ.1 50) o p 2) 0 100)) (XH D Λ I L σ) = T
  intro zp ze zs zm zb zt zc F hr hnm
  generalize ([.ref (Λ.1 0 38), .int o, .ref (Λ.1 2 p), .int (nI le)] : List Value).toArray = za at F ⊢
  have hok2 := hok
  obtain ⟨ho8, hm15, ht99, hby, hlaw⟩ := hok2
  refine g_aload_n F dX0_byWorths_0 rfl rfl (np := 1) rfl ?_
  refine x_getP F (k := 2) (i := p) (v := .int (σ.2.1 3 p)) (by decide) (show p < σ.1 2 by omega) rfl (Or.inr ⟨_, ze337⟩) dX0_byWorths_1 (np := 4) rfl ?_
  refine g_istore F (lv' := [some (.ref (Λ.1 0 38)), some (.int o), some (.ref (Λ.1 2 p)), some (.int (nI le)), some (.int (σ.2.1 3 p)), none, none, none]) dX0_byWorths_4 (by decide) rfl rfl (np := 6) rfl ?_
  refine g_iconst F (v := (nI 0)) dX0_byWorths_6 (by decide) (np := 7) rfl ?_
  refine g_istore F (lv' := [some (.ref (Λ.1 0 38)), some (.int o), some (.ref (Λ.1 2 p)), some (.int (nI le)), some (.int (σ.2.1 3 p)), some (.int (nI 0)), none, none]) dX0_byWorths_7 (by decide) rfl rfl (np := 9) rfl ?_
  refine g_bipush F (v := (-2)) dX0_byWorths_9 (by decide) (np := 11) rfl ?_
  refine g_istore F (lv' := [some (.ref (Λ.1 0 38)), some (.int o), some (.ref (Λ.1 2 p)), some (.int (nI le)), some (.int (σ.2.1 3 p)), some (.int (nI 0)), some (.int (-2)), none]) dX0_byWorths_11 (by decide) rfl rfl (np := 13) rfl ?_
  refine g_iconst F (v := (nI 0)) dX0_byWorths_13 (by decide) (np := 14) rfl ?_
  refine g_istore F (lv' := [some (.ref (Λ.1 0 38)), some (.int o), some (.ref (Λ.1 2 p)), some (.int (nI le)), some (.int (σ.2.1 3 p)), some (.int (nI 0)), some (.int (-2)), some (.int (nI 0))]) dX0_byWorths_14 (by decide) rfl rfl (np := 16) rfl ?_
  have L16 : ∀ (zn : Nat) (n : Nat) (f : Int32) (v : Nat) (xx : Int32), (n + sNum (sFitOK (mV σ L) (σ.1 6) (σ.2.1 51) (σ.1 50) o p 2) v (100 - v) = sNum (sFitOK (mV σ L) (σ.1 6) (σ.2.1 51) (σ.1 50) o p 2) 0 100) → ((n = 0 ∧ f = -2 ∧ sLeast (sFitOK (mV σ L) (σ.1 6) (σ.2.1 51) (σ.1 50) o p 2) v (100 - v) = sLeast (sFitOK (mV σ L) (σ.1 6) (σ.2.1 51) (σ.1 50) o p 2) 0 100) ∨ (¬ n = 0 ∧ f = oI (sLeast (sFitOK (mV σ L) (σ.1 6) (σ.2.1 51) (σ.1 50) o p 2) 0 100))) → (0 ≤ v ∧ v ≤ 100) → 100 - v < zn → WG zp l ze ({ frames := 205, cells := 0, slots := 0, locals := 4714 } : Room) zs zm za zb zt zc D B 8 (MQ zb (QT D B T) za zs 0 0 (zA B)) (XH D Λ I L (sA σ 3 p xx)) 0 0 16 [some (.ref (Λ.1 0 38)), some (.int o), some (.ref (Λ.1 2 p)), some (.int (nI le)), some (.int (σ.2.1 3 p)), some (.int (nI n)), some (.int f), some (.int (nI v))] [] := by
    intro zn
    induction zn with
    | zero => intro n f v xx h1 h2 h3 hm; exact absurd hm (Nat.not_lt_zero _)
    | succ zn ih16 =>
      intro n f v xx h1 h2 h3 hm
      refine g_iload F dX0_byWorths_16 rfl (np := 18) rfl ?_
      refine g_bipush F (v := (nI 99)) dX0_byWorths_18 (by decide) (np := 20) rfl ?_
      refine g_icmp_gtN F (by omega) (by decide) dX0_byWorths_20 (tp := 60) (by decide) (np := 23) rfl (fun c20 => ?_) (fun c20 => ?_)
      · refine g_aload_n F dX0_byWorths_60 rfl rfl (np := 61) rfl ?_
        refine g_iload F dX0_byWorths_61 rfl (np := 63) rfl ?_
        refine x_putP F (j := 2) (q := p) (by decide) (by decide) (show σ.1 2 ≤ 15 by omega) (show p < σ.1 2 by omega) (Or.inr ⟨_, ze337⟩) rfl rfl dX0_byWorths_63 (np := 66) rfl ?_
        refine WG.weak (S' := XH D Λ I L (sA (sA σ 3 p xx) 3 p (σ.2.1 3 p))) (fun h hs => by rw [show 15 * (2 - 2) + p = p from Nat.zero_add _] at hs; exact hs) ?_
        refine WG.weak (S' := XH D Λ I L (sA σ 3 p (σ.2.1 3 p))) (fun h hs => by rw [sA_sA] at hs; exact hs) ?_
        refine g_iload_n F dX0_byWorths_66 rfl rfl (np := 67) rfl ?_
        refine g_if_eqN F (by omega) dX0_byWorths_67 (tp := 75) (by decide) (np := 70) rfl (fun c67 => ?_) (fun c67 => ?_)
        · refine g_iload F dX0_byWorths_75 rfl (np := 77) rfl ?_
          have hσ : (sA σ 3 p (σ.2.1 3 p)) = σ := by exact sA_same _ _ _
          have hv : nI (n) = if le = 0 then nI (sNum (sFitOK (mV σ L) (σ.1 6) (σ.2.1 51) (σ.1 50) o p 2) 0 100) else oI (sLeast (sFitOK (mV σ L) (σ.1 6) (σ.2.1 51) (σ.1 50) o p 2) 0 100) := by first | (rw [if_neg c67, ]; rcases h2 with z | z; rw [← z.2.2, show 100 - v = 0 by omega]; exact z.2.1; exact z.2) | (rw [if_pos c67, ← h1, show 100 - v = 0 by omega]; rfl)
          exact g_iret F hr rfl (Nat.le_of_ble_eq_true rfl) (Nat.le_of_ble_eq_true rfl) dX0_byWorths_77 (fun h hs => by rw [← hT]; exact ⟨congrArg (fun z => some (Value.int z)) hv, (hσ ▸ hs)⟩)
        · refine g_iload F dX0_byWorths_70 rfl (np := 72) rfl ?_
          refine g_goto F dX0_byWorths_72 (np := 77) (by decide) ?_
          have hσ : (sA σ 3 p (σ.2.1 3 p)) = σ := by exact sA_same _ _ _
          have hv : f = if le = 0 then nI (sNum (sFitOK (mV σ L) (σ.1 6) (σ.2.1 51) (σ.1 50) o p 2) 0 100) else oI (sLeast (sFitOK (mV σ L) (σ.1 6) (σ.2.1 51) (σ.1 50) o p 2) 0 100) := by first | (rw [if_neg c67, ]; rcases h2 with z | z; rw [← z.2.2, show 100 - v = 0 by omega]; exact z.2.1; exact z.2) | (rw [if_pos c67, ← h1, show 100 - v = 0 by omega]; rfl)
          exact g_iret F hr rfl (Nat.le_of_ble_eq_true rfl) (Nat.le_of_ble_eq_true rfl) dX0_byWorths_77 (fun h hs => by rw [← hT]; exact ⟨congrArg (fun z => some (Value.int z)) hv, (hσ ▸ hs)⟩)
      · refine g_aload_n F dX0_byWorths_23 rfl rfl (np := 24) rfl ?_
        refine g_iload F dX0_byWorths_24 rfl (np := 26) rfl ?_
        refine x_putP F (j := 2) (q := p) (by decide) (by decide) (show σ.1 2 ≤ 15 by omega) (show p < σ.1 2 by omega) (Or.inr ⟨_, ze337⟩) rfl rfl dX0_byWorths_26 (np := 29) rfl ?_
        refine WG.weak (S' := XH D Λ I L (sA (sA σ 3 p xx) 3 p (nI (v)))) (fun h hs => by rw [show 15 * (2 - 2) + p = p from Nat.zero_add _] at hs; exact hs) ?_
        refine WG.weak (S' := XH D Λ I L (sA σ 3 p (nI (v)))) (fun h hs => by rw [sA_sA] at hs; exact hs) ?_
        have hK : oI (sUnlike (mV (sA σ 3 (p) (nI v)) L) (σ.1 6) (σ.2.1 51) (σ.1 50) o) = -2 ↔ (sFitOK (mV σ L) (σ.1 6) (σ.2.1 51) (σ.1 50) o p 2) v := by
          rw [oI_iff (sUnlike_lt _ _ _ _ _) (by omega), show sA σ 3 (p) (nI v) = sA σ 3 (15 * (2 - 2) + p) (nI v) from by rw [show 15 * (2 - 2) + p = p from Nat.zero_add p], fitX hm15 (by omega) (by decide) (by decide)]
          rfl
        refine g_aload_n F dX0_byWorths_29 rfl rfl (np := 30) rfl ?_
        refine g_iload_n F dX0_byWorths_30 rfl rfl (np := 31) rfl ?_
        refine g_runV F (C := RX0) (ci := 0) (T0 := TX0) (N := 38) (rest := []) (ct_X0_wrongDay (sA σ 3 p (nI (v))) o (by exact hok.sA3 _ _) (by exact hm14) (by exact hbO.same rfl rfl rfl) (by exact htm)) (lw_V q986 q988 qs42 q100 q989) hcV_X0_wrongDay ⟨Nat.le_of_ble_eq_true rfl, Nat.le_of_ble_eq_true rfl⟩ rfl (fun h hs => hs.obj) rfl rfl (Nat.le_of_ble_eq_true rfl) dX0_byWorths_31 ⟨Nat.le_of_ble_eq_true rfl, Nat.le_of_ble_eq_true rfl⟩ (np := 34) rfl (k_RI ?_)
        refine g_bipush F (v := (-2)) dX0_byWorths_34 (by decide) (np := 36) rfl ?_
        refine g_icmp_eq F dX0_byWorths_36 (tp := 42) (by decide) (np := 39) rfl (fun c36 => ?_) (fun c36 => ?_)
        · refine g_iload F dX0_byWorths_42 rfl (np := 44) rfl ?_
          refine g_if_neN F (by have := sNum_le (sFitOK (mV σ L) (σ.1 6) (σ.2.1 51) (σ.1 50) o p 2) 100 0; omega) dX0_byWorths_44 (tp := 51) (by decide) (np := 47) rfl (fun c44 => ?_) (fun c44 => ?_)
          · refine g_iinc F (v := (nI (n + 1))) (lv' := [some (.ref (Λ.1 0 38)), some (.int o), some (.ref (Λ.1 2 p)), some (.int (nI le)), some (.int (σ.2.1 3 p)), some (.int (nI (n + 1))), some (.int f), some (.int (nI v))]) dX0_byWorths_51 rfl (nI_add _ _) (by decide) rfl rfl (np := 54) rfl ?_
            refine g_iinc F (v := (nI (v + 1))) (lv' := [some (.ref (Λ.1 0 38)), some (.int o), some (.ref (Λ.1 2 p)), some (.int (nI le)), some (.int (σ.2.1 3 p)), some (.int (nI (n + 1))), some (.int f), some (.int (nI (v + 1)))]) dX0_byWorths_54 rfl (nI_add _ _) (by decide) rfl rfl (np := 57) rfl ?_
            refine g_goto F dX0_byWorths_57 (np := 16) (by decide) ?_
            exact ih16 (n + 1) f (v + 1) ((nI (v))) (by rw [← h1, show 100 - v = (100 - (v + 1)) + 1 by omega, sNum_s]; first | (rw [pif_t (hK.mp c36)]; omega) | (rw [pif_f (fun z => c36 (hK.mpr z))]; omega)) (by rw [show 100 - v = (100 - (v + 1)) + 1 by omega] at h2; first | (rw [sLeast_f (fun z => c36 (hK.mpr z))] at h2; exact h2) | (rw [sLeast_t (hK.mp c36)] at h2; first | exact Or.inr ⟨by omega, (h2.resolve_left (fun z => c44 z.1)).2⟩ | exact Or.inr ⟨by omega, by rw [← (h2.resolve_right (fun z => z.1 c44)).2.2]; rfl⟩)) (by omega) (by omega)
          · refine g_iload F dX0_byWorths_47 rfl (np := 49) rfl ?_
            refine g_istore F (lv' := [some (.ref (Λ.1 0 38)), some (.int o), some (.ref (Λ.1 2 p)), some (.int (nI le)), some (.int (σ.2.1 3 p)), some (.int (nI n)), some (.int (nI v)), some (.int (nI v))]) dX0_byWorths_49 (by decide) rfl rfl (np := 51) rfl ?_
            refine g_iinc F (v := (nI (n + 1))) (lv' := [some (.ref (Λ.1 0 38)), some (.int o), some (.ref (Λ.1 2 p)), some (.int (nI le)), some (.int (σ.2.1 3 p)), some (.int (nI (n + 1))), some (.int (nI v)), some (.int (nI v))]) dX0_byWorths_51 rfl (nI_add _ _) (by decide) rfl rfl (np := 54) rfl ?_
            refine g_iinc F (v := (nI (v + 1))) (lv' := [some (.ref (Λ.1 0 38)), some (.int o), some (.ref (Λ.1 2 p)), some (.int (nI le)), some (.int (σ.2.1 3 p)), some (.int (nI (n + 1))), some (.int (nI v)), some (.int (nI (v + 1)))]) dX0_byWorths_54 rfl (nI_add _ _) (by decide) rfl rfl (np := 57) rfl ?_
            refine g_goto F dX0_byWorths_57 (np := 16) (by decide) ?_
            exact ih16 (n + 1) (nI (v)) (v + 1) ((nI (v))) (by rw [← h1, show 100 - v = (100 - (v + 1)) + 1 by omega, sNum_s]; first | (rw [pif_t (hK.mp c36)]; omega) | (rw [pif_f (fun z => c36 (hK.mpr z))]; omega)) (by rw [show 100 - v = (100 - (v + 1)) + 1 by omega] at h2; first | (rw [sLeast_f (fun z => c36 (hK.mpr z))] at h2; exact h2) | (rw [sLeast_t (hK.mp c36)] at h2; first | exact Or.inr ⟨by omega, (h2.resolve_left (fun z => c44 z.1)).2⟩ | exact Or.inr ⟨by omega, by rw [← (h2.resolve_right (fun z => z.1 c44)).2.2]; rfl⟩)) (by omega) (by omega)
        · refine g_goto F dX0_byWorths_39 (np := 54) (by decide) ?_
          refine g_iinc F (v := (nI (v + 1))) (lv' := [some (.ref (Λ.1 0 38)), some (.int o), some (.ref (Λ.1 2 p)), some (.int (nI le)), some (.int (σ.2.1 3 p)), some (.int (nI n)), some (.int f), some (.int (nI (v + 1)))]) dX0_byWorths_54 rfl (nI_add _ _) (by decide) rfl rfl (np := 57) rfl ?_
          refine g_goto F dX0_byWorths_57 (np := 16) (by decide) ?_
          exact ih16 n f (v + 1) ((nI (v))) (by rw [← h1, show 100 - v = (100 - (v + 1)) + 1 by omega, sNum_s]; first | (rw [pif_t (hK.mp c36)]; omega) | (rw [pif_f (fun z => c36 (hK.mpr z))]; omega)) (by rw [show 100 - v = (100 - (v + 1)) + 1 by omega] at h2; first | (rw [sLeast_f (fun z => c36 (hK.mpr z))] at h2; exact h2) | (rw [sLeast_t (hK.mp c36)] at h2; first | exact Or.inr ⟨by omega, (h2.resolve_left (fun z => c44 z.1)).2⟩ | exact Or.inr ⟨by omega, by rw [← (h2.resolve_right (fun z => z.1 c44)).2.2]; rfl⟩)) (by omega) (by omega)
  refine WG.weak (S' := XH D Λ I L (sA σ 3 p (σ.2.1 3 p))) (fun h hs => by rw [sA_same]; exact hs) ?_
  exact L16 _ 0 (-2) 0 ((σ.2.1 3 (p))) (by exact Nat.zero_add _) (by exact Or.inl ⟨rfl, rfl, rfl⟩) (by omega) (Nat.lt_succ_self _)

set_option maxRecDepth 100000 in
theorem ct_X0_byLasts {l : Launch} {D : va_G} {B : Nat} {Λ : LT} {I : AH} {L : LawT} (σ : MSt)  (o : Int32) (p : Nat) (le : Nat) (hok : mOK σ L) (hm14 : σ.1 2 ≤ 14) (hbO : byOK σ) (htm : σ.1 50 ≤ 60) (hp : p < σ.1 2) (hle : le ≤ 1) : Ct l D ZE B yX0_byLasts cX0_byLasts 8 (some .int) 205 4714 0 0 [.ref (Λ.1 0 38), .int o, .ref (Λ.1 2 p), .int (nI le)] (XH D Λ I L σ) (RI (if le = 0 then nI (sNum (sFitOK (mV σ L) (σ.1 6) (σ.2.1 51) (σ.1 50) o p 4) 1 99) else oI (sLeast (sFitOK (mV σ L) (σ.1 6) (σ.2.1 51) (σ.1 50) o p 4) 1 99)) (XH D Λ I L σ)) := by
  refine Ct.of (nL := 8) (lv := [some (.ref (Λ.1 0 38)), some (.int o), some (.ref (Λ.1 2 p)), some (.int (nI le)), none, none, none, none]) (by decide) (Nat.le_of_ble_eq_true rfl) stZE 4 rfl ?_
  generalize hT : RI (if le = 0 then nI (sNum (sFitOK (mV σ L) (σ.1 6) (σ.2.1 51) (σ.1 50) o p 4) 1 99) else oI (sLeast (sFitOK (mV σ L) (σ.1 6) (σ.2.1 51) (σ.1 50) o p 4) 1 99)) (XH D Λ I L σ) = T
  intro zp ze zs zm zb zt zc F hr hnm
  generalize ([.ref (Λ.1 0 38), .int o, .ref (Λ.1 2 p), .int (nI le)] : List Value).toArray = za at F ⊢
  have hok2 := hok
  obtain ⟨ho8, hm15, ht99, hby, hlaw⟩ := hok2
  refine g_aload_n F dX0_byLasts_0 rfl rfl (np := 1) rfl ?_
  refine x_getP F (k := 4) (i := p) (v := .int (σ.2.1 3 (30 + p))) (by decide) (show p < σ.1 2 by omega) rfl (Or.inr ⟨_, ze341⟩) dX0_byLasts_1 (np := 4) rfl ?_
  refine g_istore F (lv' := [some (.ref (Λ.1 0 38)), some (.int o), some (.ref (Λ.1 2 p)), some (.int (nI le)), some (.int (σ.2.1 3 (30 + p))), none, none, none]) dX0_byLasts_4 (by decide) rfl rfl (np := 6) rfl ?_
  refine g_iconst F (v := (nI 0)) dX0_byLasts_6 (by decide) (np := 7) rfl ?_
  refine g_istore F (lv' := [some (.ref (Λ.1 0 38)), some (.int o), some (.ref (Λ.1 2 p)), some (.int (nI le)), some (.int (σ.2.1 3 (30 + p))), some (.int (nI 0)), none, none]) dX0_byLasts_7 (by decide) rfl rfl (np := 9) rfl ?_
  refine g_bipush F (v := (-2)) dX0_byLasts_9 (by decide) (np := 11) rfl ?_
  refine g_istore F (lv' := [some (.ref (Λ.1 0 38)), some (.int o), some (.ref (Λ.1 2 p)), some (.int (nI le)), some (.int (σ.2.1 3 (30 + p))), some (.int (nI 0)), some (.int (-2)), none]) dX0_byLasts_11 (by decide) rfl rfl (np := 13) rfl ?_
  refine g_iconst F (v := (nI 1)) dX0_byLasts_13 (by decide) (np := 14) rfl ?_
  refine g_istore F (lv' := [some (.ref (Λ.1 0 38)), some (.int o), some (.ref (Λ.1 2 p)), some (.int (nI le)), some (.int (σ.2.1 3 (30 + p))), some (.int (nI 0)), some (.int (-2)), some (.int (nI 1))]) dX0_byLasts_14 (by decide) rfl rfl (np := 16) rfl ?_
  have L16 : ∀ (zn : Nat) (n : Nat) (f : Int32) (v : Nat) (xx : Int32), (n + sNum (sFitOK (mV σ L) (σ.1 6) (σ.2.1 51) (σ.1 50) o p 4) v (100 - v) = sNum (sFitOK (mV σ L) (σ.1 6) (σ.2.1 51) (σ.1 50) o p 4) 1 99) → ((n = 0 ∧ f = -2 ∧ sLeast (sFitOK (mV σ L) (σ.1 6) (σ.2.1 51) (σ.1 50) o p 4) v (100 - v) = sLeast (sFitOK (mV σ L) (σ.1 6) (σ.2.1 51) (σ.1 50) o p 4) 1 99) ∨ (¬ n = 0 ∧ f = oI (sLeast (sFitOK (mV σ L) (σ.1 6) (σ.2.1 51) (σ.1 50) o p 4) 1 99))) → (1 ≤ v ∧ v ≤ 100) → 100 - v < zn → WG zp l ze ({ frames := 205, cells := 0, slots := 0, locals := 4714 } : Room) zs zm za zb zt zc D B 8 (MQ zb (QT D B T) za zs 0 0 (zA B)) (XH D Λ I L (sA σ 3 (30 + p) xx)) 0 0 16 [some (.ref (Λ.1 0 38)), some (.int o), some (.ref (Λ.1 2 p)), some (.int (nI le)), some (.int (σ.2.1 3 (30 + p))), some (.int (nI n)), some (.int f), some (.int (nI v))] [] := by
    intro zn
    induction zn with
    | zero => intro n f v xx h1 h2 h3 hm; exact absurd hm (Nat.not_lt_zero _)
    | succ zn ih16 =>
      intro n f v xx h1 h2 h3 hm
      refine g_iload F dX0_byLasts_16 rfl (np := 18) rfl ?_
      refine g_bipush F (v := (nI 99)) dX0_byLasts_18 (by decide) (np := 20) rfl ?_
      refine g_icmp_gtN F (by omega) (by decide) dX0_byLasts_20 (tp := 60) (by decide) (np := 23) rfl (fun c20 => ?_) (fun c20 => ?_)
      · refine g_aload_n F dX0_byLasts_60 rfl rfl (np := 61) rfl ?_
        refine g_iload F dX0_byLasts_61 rfl (np := 63) rfl ?_
        refine x_putP F (j := 4) (q := p) (by decide) (by decide) (show σ.1 2 ≤ 15 by omega) (show p < σ.1 2 by omega) (Or.inr ⟨_, ze341⟩) rfl rfl dX0_byLasts_63 (np := 66) rfl ?_
        refine WG.weak (S' := XH D Λ I L (sA σ 3 (30 + p) (σ.2.1 3 (30 + p)))) (fun h hs => by rw [sA_sA] at hs; exact hs) ?_
        refine g_iload_n F dX0_byLasts_66 rfl rfl (np := 67) rfl ?_
        refine g_if_eqN F (by omega) dX0_byLasts_67 (tp := 75) (by decide) (np := 70) rfl (fun c67 => ?_) (fun c67 => ?_)
        · refine g_iload F dX0_byLasts_75 rfl (np := 77) rfl ?_
          have hσ : (sA σ 3 (30 + p) (σ.2.1 3 (30 + p))) = σ := by exact sA_same _ _ _
          have hv : nI (n) = if le = 0 then nI (sNum (sFitOK (mV σ L) (σ.1 6) (σ.2.1 51) (σ.1 50) o p 4) 1 99) else oI (sLeast (sFitOK (mV σ L) (σ.1 6) (σ.2.1 51) (σ.1 50) o p 4) 1 99) := by first | (rw [if_neg c67, ]; rcases h2 with z | z; rw [← z.2.2, show 100 - v = 0 by omega]; exact z.2.1; exact z.2) | (rw [if_pos c67, ← h1, show 100 - v = 0 by omega]; rfl)
          exact g_iret F hr rfl (Nat.le_of_ble_eq_true rfl) (Nat.le_of_ble_eq_true rfl) dX0_byLasts_77 (fun h hs => by rw [← hT]; exact ⟨congrArg (fun z => some (Value.int z)) hv, (hσ ▸ hs)⟩)
        · refine g_iload F dX0_byLasts_70 rfl (np := 72) rfl ?_
          refine g_goto F dX0_byLasts_72 (np := 77) (by decide) ?_
          have hσ : (sA σ 3 (30 + p) (σ.2.1 3 (30 + p))) = σ := by exact sA_same _ _ _
          have hv : f = if le = 0 then nI (sNum (sFitOK (mV σ L) (σ.1 6) (σ.2.1 51) (σ.1 50) o p 4) 1 99) else oI (sLeast (sFitOK (mV σ L) (σ.1 6) (σ.2.1 51) (σ.1 50) o p 4) 1 99) := by first | (rw [if_neg c67, ]; rcases h2 with z | z; rw [← z.2.2, show 100 - v = 0 by omega]; exact z.2.1; exact z.2) | (rw [if_pos c67, ← h1, show 100 - v = 0 by omega]; rfl)
          exact g_iret F hr rfl (Nat.le_of_ble_eq_true rfl) (Nat.le_of_ble_eq_true rfl) dX0_byLasts_77 (fun h hs => by rw [← hT]; exact ⟨congrArg (fun z => some (Value.int z)) hv, (hσ ▸ hs)⟩)
      · refine g_aload_n F dX0_byLasts_23 rfl rfl (np := 24) rfl ?_
        refine g_iload F dX0_byLasts_24 rfl (np := 26) rfl ?_
        refine x_putP F (j := 4) (q := p) (by decide) (by decide) (show σ.1 2 ≤ 15 by omega) (show p < σ.1 2 by omega) (Or.inr ⟨_, ze341⟩) rfl rfl dX0_byLasts_26 (np := 29) rfl ?_
        refine WG.weak (S' := XH D Λ I L (sA σ 3 (30 + p) (nI (v)))) (fun h hs => by rw [sA_sA] at hs; exact hs) ?_
        have hK : oI (sUnlike (mV (sA σ 3 (30 + p) (nI v)) L) (σ.1 6) (σ.2.1 51) (σ.1 50) o) = -2 ↔ (sFitOK (mV σ L) (σ.1 6) (σ.2.1 51) (σ.1 50) o p 4) v := by
          rw [oI_iff (sUnlike_lt _ _ _ _ _) (by omega), show sA σ 3 (30 + p) (nI v) = sA σ 3 (15 * (4 - 2) + p) (nI v) from rfl, fitX hm15 (by omega) (by decide) (by decide)]
          rfl
        refine g_aload_n F dX0_byLasts_29 rfl rfl (np := 30) rfl ?_
        refine g_iload_n F dX0_byLasts_30 rfl rfl (np := 31) rfl ?_
        refine g_runV F (C := RX0) (ci := 0) (T0 := TX0) (N := 38) (rest := []) (ct_X0_wrongDay (sA σ 3 (30 + p) (nI (v))) o (by exact hok.sA3 _ _) (by exact hm14) (by exact hbO.same rfl rfl rfl) (by exact htm)) (lw_V q986 q988 qs42 q100 q989) hcV_X0_wrongDay ⟨Nat.le_of_ble_eq_true rfl, Nat.le_of_ble_eq_true rfl⟩ rfl (fun h hs => hs.obj) rfl rfl (Nat.le_of_ble_eq_true rfl) dX0_byLasts_31 ⟨Nat.le_of_ble_eq_true rfl, Nat.le_of_ble_eq_true rfl⟩ (np := 34) rfl (k_RI ?_)
        refine g_bipush F (v := (-2)) dX0_byLasts_34 (by decide) (np := 36) rfl ?_
        refine g_icmp_eq F dX0_byLasts_36 (tp := 42) (by decide) (np := 39) rfl (fun c36 => ?_) (fun c36 => ?_)
        · refine g_iload F dX0_byLasts_42 rfl (np := 44) rfl ?_
          refine g_if_neN F (by have := sNum_le (sFitOK (mV σ L) (σ.1 6) (σ.2.1 51) (σ.1 50) o p 4) 99 1; omega) dX0_byLasts_44 (tp := 51) (by decide) (np := 47) rfl (fun c44 => ?_) (fun c44 => ?_)
          · refine g_iinc F (v := (nI (n + 1))) (lv' := [some (.ref (Λ.1 0 38)), some (.int o), some (.ref (Λ.1 2 p)), some (.int (nI le)), some (.int (σ.2.1 3 (30 + p))), some (.int (nI (n + 1))), some (.int f), some (.int (nI v))]) dX0_byLasts_51 rfl (nI_add _ _) (by decide) rfl rfl (np := 54) rfl ?_
            refine g_iinc F (v := (nI (v + 1))) (lv' := [some (.ref (Λ.1 0 38)), some (.int o), some (.ref (Λ.1 2 p)), some (.int (nI le)), some (.int (σ.2.1 3 (30 + p))), some (.int (nI (n + 1))), some (.int f), some (.int (nI (v + 1)))]) dX0_byLasts_54 rfl (nI_add _ _) (by decide) rfl rfl (np := 57) rfl ?_
            refine g_goto F dX0_byLasts_57 (np := 16) (by decide) ?_
            exact ih16 (n + 1) f (v + 1) ((nI (v))) (by rw [← h1, show 100 - v = (100 - (v + 1)) + 1 by omega, sNum_s]; first | (rw [pif_t (hK.mp c36)]; omega) | (rw [pif_f (fun z => c36 (hK.mpr z))]; omega)) (by rw [show 100 - v = (100 - (v + 1)) + 1 by omega] at h2; first | (rw [sLeast_f (fun z => c36 (hK.mpr z))] at h2; exact h2) | (rw [sLeast_t (hK.mp c36)] at h2; first | exact Or.inr ⟨by omega, (h2.resolve_left (fun z => c44 z.1)).2⟩ | exact Or.inr ⟨by omega, by rw [← (h2.resolve_right (fun z => z.1 c44)).2.2]; rfl⟩)) (by omega) (by omega)
          · refine g_iload F dX0_byLasts_47 rfl (np := 49) rfl ?_
            refine g_istore F (lv' := [some (.ref (Λ.1 0 38)), some (.int o), some (.ref (Λ.1 2 p)), some (.int (nI le)), some (.int (σ.2.1 3 (30 + p))), some (.int (nI n)), some (.int (nI v)), some (.int (nI v))]) dX0_byLasts_49 (by decide) rfl rfl (np := 51) rfl ?_
            refine g_iinc F (v := (nI (n + 1))) (lv' := [some (.ref (Λ.1 0 38)), some (.int o), some (.ref (Λ.1 2 p)), some (.int (nI le)), some (.int (σ.2.1 3 (30 + p))), some (.int (nI (n + 1))), some (.int (nI v)), some (.int (nI v))]) dX0_byLasts_51 rfl (nI_add _ _) (by decide) rfl rfl (np := 54) rfl ?_
            refine g_iinc F (v := (nI (v + 1))) (lv' := [some (.ref (Λ.1 0 38)), some (.int o), some (.ref (Λ.1 2 p)), some (.int (nI le)), some (.int (σ.2.1 3 (30 + p))), some (.int (nI (n + 1))), some (.int (nI v)), some (.int (nI (v + 1)))]) dX0_byLasts_54 rfl (nI_add _ _) (by decide) rfl rfl (np := 57) rfl ?_
            refine g_goto F dX0_byLasts_57 (np := 16) (by decide) ?_
            exact ih16 (n + 1) (nI (v)) (v + 1) ((nI (v))) (by rw [← h1, show 100 - v = (100 - (v + 1)) + 1 by omega, sNum_s]; first | (rw [pif_t (hK.mp c36)]; omega) | (rw [pif_f (fun z => c36 (hK.mpr z))]; omega)) (by rw [show 100 - v = (100 - (v + 1)) + 1 by omega] at h2; first | (rw [sLeast_f (fun z => c36 (hK.mpr z))] at h2; exact h2) | (rw [sLeast_t (hK.mp c36)] at h2; first | exact Or.inr ⟨by omega, (h2.resolve_left (fun z => c44 z.1)).2⟩ | exact Or.inr ⟨by omega, by rw [← (h2.resolve_right (fun z => z.1 c44)).2.2]; rfl⟩)) (by omega) (by omega)
        · refine g_goto F dX0_byLasts_39 (np := 54) (by decide) ?_
          refine g_iinc F (v := (nI (v + 1))) (lv' := [some (.ref (Λ.1 0 38)), some (.int o), some (.ref (Λ.1 2 p)), some (.int (nI le)), some (.int (σ.2.1 3 (30 + p))), some (.int (nI n)), some (.int f), some (.int (nI (v + 1)))]) dX0_byLasts_54 rfl (nI_add _ _) (by decide) rfl rfl (np := 57) rfl ?_
          refine g_goto F dX0_byLasts_57 (np := 16) (by decide) ?_
          exact ih16 n f (v + 1) ((nI (v))) (by rw [← h1, show 100 - v = (100 - (v + 1)) + 1 by omega, sNum_s]; first | (rw [pif_t (hK.mp c36)]; omega) | (rw [pif_f (fun z => c36 (hK.mpr z))]; omega)) (by rw [show 100 - v = (100 - (v + 1)) + 1 by omega] at h2; first | (rw [sLeast_f (fun z => c36 (hK.mpr z))] at h2; exact h2) | (rw [sLeast_t (hK.mp c36)] at h2; first | exact Or.inr ⟨by omega, (h2.resolve_left (fun z => c44 z.1)).2⟩ | exact Or.inr ⟨by omega, by rw [← (h2.resolve_right (fun z => z.1 c44)).2.2]; rfl⟩)) (by omega) (by omega)
  refine WG.weak (S' := XH D Λ I L (sA σ 3 (30 + p) (σ.2.1 3 (30 + p)))) (fun h hs => by rw [sA_same]; exact hs) ?_
  exact L16 _ 0 (-2) 1 ((σ.2.1 3 (30 + p))) (by exact Nat.zero_add _) (by exact Or.inl ⟨rfl, rfl, rfl⟩) (by omega) (Nat.lt_succ_self _)
